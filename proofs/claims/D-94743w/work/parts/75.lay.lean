/-! PURE LAYER: the table of shares is laid -/
set_option maxRecDepth 100000
theorem tz_top {F hb nF : Nat} {hu : hd_T} {v1 : Int32} (h7 : nF ≤ 7) : ∀ m i, i + m = 2401 → ∀ fx fm, m < fx → m < fm → ∀ κx κm : kp_K, κm.1 68 1 = nI nF → ∃ κx' κm', bX1_layShares_13 F hb hu fx κx v1 (nI nF) (nI i) = bX1_layShares_43 F hb hu F κx' v1 (nI nF - 1) ∧ bX6_layShares_2 F fm κm v1 (nI i) = bX6_layShares_42 F F κm' v1 (nI nF - 1) ∧ (∀ e, i ≤ e → e < 2401 → κx'.1 62 (2401 * nF + e) = 0 ∧ κm'.1 112 (2401 * nF + e) = 0) ∧ Fr (fun j k => j = 62 ∧ 2401 * nF + i ≤ k ∧ k < 2401 * nF + 2401) κx κx' ∧ Fr (fun j k => j = 112 ∧ 2401 * nF + i ≤ k ∧ k < 2401 * nF + 2401) κm κm' := by
  intro m
  induction m with
  | zero =>
    intro i hi fx fm hfx hfm κx κm h1
    obtain ⟨fx, rfl⟩ : ∃ f', fx = f' + 1 := ⟨fx - 1, by omega⟩
    obtain ⟨fm, rfl⟩ : ∃ f', fm = f' + 1 := ⟨fm - 1, by omega⟩
    have hle : 2401 ≤ i := by omega
    rw [bX1_layShares_13, bX6_layShares_2]
    simp (disch := omega) only [pt_lt_, pt_clsome, pt_ck, pt_ckL, pt_cl, pt_clL, pt_cz0, pt_cz1, pt_czi, pt_add, pt_addL, pt_Ladd, pt_mul, pt_mulL, pt_Lmul, pt_sub, pt_Lsub, pt_rem, pt_le, pt_leL, pt_Lle, pt_lt, pt_ltL, pt_Llt, pt_eq, pt_eqL, pt_Leq, pt_m1, pt_lt0, pt_ge0, pt_m1lt0, pt_m1ge0, pt_10, pt_01, pt_00, pt_11, pt_m11, pt_0m1, pt_1m1, pt_ib, pt_ib1, pt_hs, pt_so, pt_ofNat, pt_si, pt_sin, pt_si1, pt_si2, pt_sl, pt_sln, pt_sl0, pt_sl2, pt_sr, pt_srn, pt_sr0, pt_sr1, if_true, if_false, ite_true, ite_false, not_true_eq_false, not_false_eq_true, if_pos, if_neg, hle, h1]
    exact ⟨κx, κm, rfl, rfl, fun e h1 h2 => by omega, Fr.rf, Fr.rf⟩
  | succ m ih =>
    intro i hi fx fm hfx hfm κx κm h1
    obtain ⟨fx, rfl⟩ : ∃ f', fx = f' + 1 := ⟨fx - 1, by omega⟩
    obtain ⟨fm, rfl⟩ : ∃ f', fm = f' + 1 := ⟨fm - 1, by omega⟩
    have hle : ¬ 2401 ≤ i := by omega
    rw [bX1_layShares_13, bX6_layShares_2]
    simp (disch := omega) only [pt_lt_, pt_clsome, pt_ck, pt_ckL, pt_cl, pt_clL, pt_cz0, pt_cz1, pt_czi, pt_add, pt_addL, pt_Ladd, pt_mul, pt_mulL, pt_Lmul, pt_sub, pt_Lsub, pt_rem, pt_le, pt_leL, pt_Lle, pt_lt, pt_ltL, pt_Llt, pt_eq, pt_eqL, pt_Leq, pt_m1, pt_lt0, pt_ge0, pt_m1lt0, pt_m1ge0, pt_10, pt_01, pt_00, pt_11, pt_m11, pt_0m1, pt_1m1, pt_ib, pt_ib1, pt_hs, pt_so, pt_ofNat, pt_si, pt_sin, pt_si1, pt_si2, pt_sl, pt_sln, pt_sl0, pt_sl2, pt_sr, pt_srn, pt_sr0, pt_sr1, if_true, if_false, ite_true, ite_false, not_true_eq_false, not_false_eq_true, if_pos, if_neg, hle, h1]
    obtain ⟨κx', κm', e1, e2, e3, e4, e5⟩ := ih (i + 1) (by omega) fx fm (by omega) (by omega) (s_i κx 62 (2401 * nF + i) 0) (s_i κm 112 (2401 * nF + i) 0) (by simp (disch := omega) only [pt_lt_, pt_clsome, pt_ck, pt_ckL, pt_cl, pt_clL, pt_cz0, pt_cz1, pt_czi, pt_add, pt_addL, pt_Ladd, pt_mul, pt_mulL, pt_Lmul, pt_sub, pt_subL, pt_Lsub, pt_rem, pt_le, pt_leL, pt_Lle, pt_lt, pt_ltL, pt_Llt, pt_eq, pt_eqL, pt_Leq, pt_m1, pt_lt0, pt_ge0, pt_m1lt0, pt_m1ge0, pt_10, pt_01, pt_00, pt_11, pt_m11, pt_0m1, pt_1m1, pt_ib, pt_ib1, pt_hs, pt_so, pt_ofNat, pt_si, pt_sin, pt_si1, pt_si2, pt_sl, pt_sln, pt_sl0, pt_sl2, pt_sr, pt_srn, pt_sr0, pt_sr1, if_true, if_false, ite_true, ite_false, not_true_eq_false, not_false_eq_true, if_pos, if_neg]; exact h1)
    refine ⟨κx', κm', e1, e2, fun e h1 h2 => ?_, Fr.tr (κ1 := s_i κx 62 (2401 * nF + i) 0) (Fr.si (by omega)) (e4.mono (fun j k q => by omega)), Fr.tr (κ1 := s_i κm 112 (2401 * nF + i) 0) (Fr.si (by omega)) (e5.mono (fun j k q => by omega))⟩
    by_cases h : e = i
    · subst h
      rw [(e4.1 62 _ (by omega)).1, (e5.1 112 _ (by omega)).1]
      simp (disch := omega) only [pt_lt_, pt_clsome, pt_ck, pt_ckL, pt_cl, pt_clL, pt_cz0, pt_cz1, pt_czi, pt_add, pt_addL, pt_Ladd, pt_mul, pt_mulL, pt_Lmul, pt_sub, pt_subL, pt_Lsub, pt_rem, pt_le, pt_leL, pt_Lle, pt_lt, pt_ltL, pt_Llt, pt_eq, pt_eqL, pt_Leq, pt_m1, pt_lt0, pt_ge0, pt_m1lt0, pt_m1ge0, pt_10, pt_01, pt_00, pt_11, pt_m11, pt_0m1, pt_1m1, pt_ib, pt_ib1, pt_hs, pt_so, pt_ofNat, pt_si, pt_sin, pt_si1, pt_si2, pt_sl, pt_sln, pt_sl0, pt_sl2, pt_sr, pt_srn, pt_sr0, pt_sr1, if_true, if_false, ite_true, ite_false, not_true_eq_false, not_false_eq_true, if_pos, if_neg]
      exact ⟨trivial, trivial⟩
    · exact e3 e (by omega) h2
