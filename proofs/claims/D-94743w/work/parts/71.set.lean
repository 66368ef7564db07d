/-! PURE LAYER: the table of shares: one set of desks for one fact -/
set_option maxRecDepth 100000
theorem tz_set {F hb f : Nat} {hu : hd_T} {v1 v4 t : Int32} {k43 k42 : kp_K → Int32 → Int32 → Option kp_K} {k81 k76 : kp_K → Int32 → Int32 → Int32 → Option kp_K} (hF : 80 ≤ F) (hf : f < 7) : ∀ m i, i + m = 2401 → ∀ fx fm, m < fx → m < fm → ∀ κx κm : kp_K, (∀ e, e < 2401 → κx.1 62 (2401 * f + e) = κm.1 112 (2401 * f + e)) → (∀ e, e < 2401 → κx.1 62 (2401 * (f + 1) + e) = κm.1 112 (2401 * (f + 1) + e)) → ∃ κx' κm', bX1_layShares_105 F hb hu k43 k81 fx κx v1 (nI f) v4 t (nI i) = k81 κx' v1 (nI f) (v4 + 1) ∧ bX6_layShares_100 F k42 k76 fm κm v1 (nI f) v4 t (nI i) = k76 κm' v1 (nI f) (v4 + 1) ∧ (∀ e, e < 2401 → κx'.1 62 (2401 * f + e) = κm'.1 112 (2401 * f + e)) ∧
    (∀ e, i ≤ e → e < 2401 → ∃ r, pX1_keeping F (nI e) v4 = some r ∧ ((r = -1 ∧ κx'.1 62 (2401 * f + e) = κx.1 62 (2401 * f + e)) ∨ ∃ z : Nat, z ≤ e ∧ r = nI z ∧ κx'.1 62 (2401 * f + e) = if κx.1 62 (2401 * f + e) < t + κx.1 62 (2401 * (f + 1) + z) then t + κx.1 62 (2401 * (f + 1) + z) else κx.1 62 (2401 * f + e))) ∧
    Fr (fun j k => j = 62 ∧ 2401 * f + i ≤ k ∧ k < 2401 * f + 2401) κx κx' ∧ Fr (fun j k => j = 112 ∧ 2401 * f + i ≤ k ∧ k < 2401 * f + 2401) κm κm' := by
  intro m
  induction m with
  | zero =>
    intro i hi fx fm hfx hfm κx κm h0 h1
    obtain ⟨fx, rfl⟩ : ∃ f', fx = f' + 1 := ⟨fx - 1, by omega⟩
    obtain ⟨fm, rfl⟩ : ∃ f', fm = f' + 1 := ⟨fm - 1, by omega⟩
    have hle : 2401 ≤ i := by omega
    rw [bX1_layShares_105, bX6_layShares_100]
    simp (disch := omega) only [pt_lt_, pt_clsome, pt_ck, pt_ckL, pt_cl, pt_clL, pt_cz0, pt_cz1, pt_czi, pt_add, pt_addL, pt_Ladd, pt_mul, pt_mulL, pt_Lmul, pt_sub, pt_subL, pt_Lsub, pt_rem, pt_le, pt_leL, pt_Lle, pt_lt, pt_ltL, pt_Llt, pt_eq, pt_eqL, pt_Leq, pt_m1, pt_lt0, pt_ge0, pt_m1lt0, pt_m1ge0, pt_10, pt_01, pt_00, pt_11, pt_m11, pt_0m1, pt_1m1, pt_ib, pt_ib1, pt_hs, pt_so, pt_ofNat, pt_si, pt_sin, pt_si1, pt_si2, pt_sl, pt_sln, pt_sl0, pt_sl2, pt_sr, pt_srn, pt_sr0, pt_sr1, if_true, if_false, ite_true, ite_false, not_true_eq_false, not_false_eq_true, if_pos, if_neg, hle]
    exact ⟨κx, κm, rfl, rfl, h0, fun e h1 h2 => by omega, Fr.rf, Fr.rf⟩
  | succ m ih =>
    intro i hi fx fm hfx hfm κx κm h0 h1
    obtain ⟨fx, rfl⟩ : ∃ f', fx = f' + 1 := ⟨fx - 1, by omega⟩
    obtain ⟨fm, rfl⟩ : ∃ f', fm = f' + 1 := ⟨fm - 1, by omega⟩
    have hle : ¬ 2401 ≤ i := by omega
    obtain ⟨r, r1, r2, r3⟩ := kp_ls (F := F) (x := i) (v2 := v4) hF (by omega)
    rw [bX1_layShares_105, bX6_layShares_100]
    simp (disch := omega) only [pt_lt_, pt_clsome, pt_ck, pt_ckL, pt_cl, pt_clL, pt_cz0, pt_cz1, pt_czi, pt_add, pt_addL, pt_Ladd, pt_mul, pt_mulL, pt_Lmul, pt_sub, pt_subL, pt_Lsub, pt_rem, pt_le, pt_leL, pt_Lle, pt_lt, pt_ltL, pt_Llt, pt_eq, pt_eqL, pt_Leq, pt_m1, pt_lt0, pt_ge0, pt_m1lt0, pt_m1ge0, pt_10, pt_01, pt_00, pt_11, pt_m11, pt_0m1, pt_1m1, pt_ib, pt_ib1, pt_hs, pt_so, pt_ofNat, pt_si, pt_sin, pt_si1, pt_si2, pt_sl, pt_sln, pt_sl0, pt_sl2, pt_sr, pt_srn, pt_sr0, pt_sr1, if_true, if_false, ite_true, ite_false, not_true_eq_false, not_false_eq_true, hle, r1, r2]
    rcases r3 with rfl | ⟨z, z1, rfl⟩
    · rw [if_pos (by decide), if_pos rfl]
      obtain ⟨κx', κm', e1, e2, e3, e4, e5, e6⟩ := ih (i + 1) (by omega) fx fm (by omega) (by omega) κx κm h0 h1
      refine ⟨κx', κm', e1, e2, e3, fun e a b => ?_, e5.mono (fun j k q => by omega), e6.mono (fun j k q => by omega)⟩
      by_cases h : e = i
      · subst h
        exact ⟨_, r1, Or.inl ⟨rfl, (e5.1 62 _ (by omega)).1⟩⟩
      · exact e4 e (by omega) b
    · have n1 : ¬ nI z < 0 := by rw [pt_lt0 (by omega)]; exact id
      have n2 : ¬ nI z = -1 := by rw [pt_m1 (by omega)]; exact id
      rw [if_neg n1, if_neg n2]
      simp (disch := omega) only [pt_lt_, pt_clsome, pt_ck, pt_ckL, pt_cl, pt_clL, pt_cz0, pt_cz1, pt_czi, pt_add, pt_addL, pt_Ladd, pt_mul, pt_mulL, pt_Lmul, pt_sub, pt_subL, pt_Lsub, pt_rem, pt_le, pt_leL, pt_Lle, pt_lt, pt_ltL, pt_Llt, pt_eq, pt_eqL, pt_Leq, pt_m1, pt_lt0, pt_ge0, pt_m1lt0, pt_m1ge0, pt_10, pt_01, pt_00, pt_11, pt_m11, pt_0m1, pt_1m1, pt_ib, pt_ib1, pt_hs, pt_so, pt_ofNat, pt_si, pt_sin, pt_si1, pt_si2, pt_sl, pt_sln, pt_sl0, pt_sl2, pt_sr, pt_srn, pt_sr0, pt_sr1, if_true, if_false, ite_true, ite_false, not_true_eq_false, not_false_eq_true]
      rw [← h0 i (by omega), ← h1 z (by omega)]
      generalize hV : (if κx.1 62 (2401 * f + i) < t + κx.1 62 (2401 * (f + 1) + z) then t + κx.1 62 (2401 * (f + 1) + z) else κx.1 62 (2401 * f + i)) = V
      obtain ⟨κx', κm', e1, e2, e3, e4, e5, e6⟩ := ih (i + 1) (by omega) fx fm (by omega) (by omega) (s_i κx 62 (2401 * f + i) V) (s_i κm 112 (2401 * f + i) V) (fun e he => by
        by_cases h : e = i
        · subst h
          simp (disch := omega) only [pt_lt_, pt_clsome, pt_ck, pt_ckL, pt_cl, pt_clL, pt_cz0, pt_cz1, pt_czi, pt_add, pt_addL, pt_Ladd, pt_mul, pt_mulL, pt_Lmul, pt_sub, pt_subL, pt_Lsub, pt_rem, pt_le, pt_leL, pt_Lle, pt_lt, pt_ltL, pt_Llt, pt_eq, pt_eqL, pt_Leq, pt_m1, pt_lt0, pt_ge0, pt_m1lt0, pt_m1ge0, pt_10, pt_01, pt_00, pt_11, pt_m11, pt_0m1, pt_1m1, pt_ib, pt_ib1, pt_hs, pt_so, pt_ofNat, pt_si, pt_sin, pt_si1, pt_si2, pt_sl, pt_sln, pt_sl0, pt_sl2, pt_sr, pt_srn, pt_sr0, pt_sr1, if_true, if_false, ite_true, ite_false, not_true_eq_false, not_false_eq_true, if_pos, if_neg]
        · simp (disch := omega) only [pt_lt_, pt_clsome, pt_ck, pt_ckL, pt_cl, pt_clL, pt_cz0, pt_cz1, pt_czi, pt_add, pt_addL, pt_Ladd, pt_mul, pt_mulL, pt_Lmul, pt_sub, pt_subL, pt_Lsub, pt_rem, pt_le, pt_leL, pt_Lle, pt_lt, pt_ltL, pt_Llt, pt_eq, pt_eqL, pt_Leq, pt_m1, pt_lt0, pt_ge0, pt_m1lt0, pt_m1ge0, pt_10, pt_01, pt_00, pt_11, pt_m11, pt_0m1, pt_1m1, pt_ib, pt_ib1, pt_hs, pt_so, pt_ofNat, pt_si, pt_sin, pt_si1, pt_si2, pt_sl, pt_sln, pt_sl0, pt_sl2, pt_sr, pt_srn, pt_sr0, pt_sr1, if_true, if_false, ite_true, ite_false, not_true_eq_false, not_false_eq_true, if_pos, if_neg]
          exact h0 e he) (fun e he => by
        simp (disch := omega) only [pt_lt_, pt_clsome, pt_ck, pt_ckL, pt_cl, pt_clL, pt_cz0, pt_cz1, pt_czi, pt_add, pt_addL, pt_Ladd, pt_mul, pt_mulL, pt_Lmul, pt_sub, pt_subL, pt_Lsub, pt_rem, pt_le, pt_leL, pt_Lle, pt_lt, pt_ltL, pt_Llt, pt_eq, pt_eqL, pt_Leq, pt_m1, pt_lt0, pt_ge0, pt_m1lt0, pt_m1ge0, pt_10, pt_01, pt_00, pt_11, pt_m11, pt_0m1, pt_1m1, pt_ib, pt_ib1, pt_hs, pt_so, pt_ofNat, pt_si, pt_sin, pt_si1, pt_si2, pt_sl, pt_sln, pt_sl0, pt_sl2, pt_sr, pt_srn, pt_sr0, pt_sr1, if_true, if_false, ite_true, ite_false, not_true_eq_false, not_false_eq_true, if_pos, if_neg]
        exact h1 e he)
      refine ⟨κx', κm', e1, e2, e3, fun e a b => ?_, Fr.tr (κ1 := s_i κx 62 (2401 * f + i) V) (Fr.si (by omega)) (e5.mono (fun j k q => by omega)), Fr.tr (κ1 := s_i κm 112 (2401 * f + i) V) (Fr.si (by omega)) (e6.mono (fun j k q => by omega))⟩
      by_cases h : e = i
      · subst h
        refine ⟨_, r1, Or.inr ⟨z, z1, rfl, ?_⟩⟩
        rw [(e5.1 62 _ (by omega)).1, hV]
        simp (disch := omega) only [pt_lt_, pt_clsome, pt_ck, pt_ckL, pt_cl, pt_clL, pt_cz0, pt_cz1, pt_czi, pt_add, pt_addL, pt_Ladd, pt_mul, pt_mulL, pt_Lmul, pt_sub, pt_subL, pt_Lsub, pt_rem, pt_le, pt_leL, pt_Lle, pt_lt, pt_ltL, pt_Llt, pt_eq, pt_eqL, pt_Leq, pt_m1, pt_lt0, pt_ge0, pt_m1lt0, pt_m1ge0, pt_10, pt_01, pt_00, pt_11, pt_m11, pt_0m1, pt_1m1, pt_ib, pt_ib1, pt_hs, pt_so, pt_ofNat, pt_si, pt_sin, pt_si1, pt_si2, pt_sl, pt_sln, pt_sl0, pt_sl2, pt_sr, pt_srn, pt_sr0, pt_sr1, if_true, if_false, ite_true, ite_false, not_true_eq_false, not_false_eq_true, if_pos, if_neg]
      · obtain ⟨r', q1, q2⟩ := e4 e (by omega) b
        refine ⟨r', q1, ?_⟩
        have g1 : (s_i κx 62 (2401 * f + i) V).1 62 (2401 * f + e) = κx.1 62 (2401 * f + e) := by simp (disch := omega) only [pt_lt_, pt_clsome, pt_ck, pt_ckL, pt_cl, pt_clL, pt_cz0, pt_cz1, pt_czi, pt_add, pt_addL, pt_Ladd, pt_mul, pt_mulL, pt_Lmul, pt_sub, pt_subL, pt_Lsub, pt_rem, pt_le, pt_leL, pt_Lle, pt_lt, pt_ltL, pt_Llt, pt_eq, pt_eqL, pt_Leq, pt_m1, pt_lt0, pt_ge0, pt_m1lt0, pt_m1ge0, pt_10, pt_01, pt_00, pt_11, pt_m11, pt_0m1, pt_1m1, pt_ib, pt_ib1, pt_hs, pt_so, pt_ofNat, pt_si, pt_sin, pt_si1, pt_si2, pt_sl, pt_sln, pt_sl0, pt_sl2, pt_sr, pt_srn, pt_sr0, pt_sr1, if_true, if_false, ite_true, ite_false, not_true_eq_false, not_false_eq_true, if_pos, if_neg]
        have g2 : ∀ z, (s_i κx 62 (2401 * f + i) V).1 62 (2401 * (f + 1) + z) = κx.1 62 (2401 * (f + 1) + z) := fun z => by simp (disch := omega) only [pt_lt_, pt_clsome, pt_ck, pt_ckL, pt_cl, pt_clL, pt_cz0, pt_cz1, pt_czi, pt_add, pt_addL, pt_Ladd, pt_mul, pt_mulL, pt_Lmul, pt_sub, pt_subL, pt_Lsub, pt_rem, pt_le, pt_leL, pt_Lle, pt_lt, pt_ltL, pt_Llt, pt_eq, pt_eqL, pt_Leq, pt_m1, pt_lt0, pt_ge0, pt_m1lt0, pt_m1ge0, pt_10, pt_01, pt_00, pt_11, pt_m11, pt_0m1, pt_1m1, pt_ib, pt_ib1, pt_hs, pt_so, pt_ofNat, pt_si, pt_sin, pt_si1, pt_si2, pt_sl, pt_sln, pt_sl0, pt_sl2, pt_sr, pt_srn, pt_sr0, pt_sr1, if_true, if_false, ite_true, ite_false, not_true_eq_false, not_false_eq_true, if_pos, if_neg]
        rw [g1] at q2
        simp only [g2] at q2
        exact q2
