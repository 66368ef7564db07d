/-! PURE LAYER: which choices fit -/
set_option maxRecDepth 100000
theorem nI_pred9 {k : Nat} : nI (k + 1) - 1 = nI k := by
  simp (disch := omega) only [pt_lt_, pt_clsome, pt_ck, pt_ckL, pt_cl, pt_clL, pt_cz0, pt_cz1, pt_czi, pt_add, pt_addL, pt_Ladd, pt_mul, pt_mulL, pt_Lmul, pt_sub, pt_subL, pt_Lsub, pt_rem, pt_le, pt_leL, pt_Lle, pt_lt, pt_ltL, pt_Llt, pt_eq, pt_eqL, pt_Leq, pt_m1, pt_lt0, pt_ge0, pt_m1lt0, pt_m1ge0, pt_10, pt_01, pt_00, pt_11, pt_m11, pt_0m1, pt_1m1, pt_ib, pt_ib1, pt_hs, pt_so, pt_ofNat, pt_si, pt_sin, pt_si1, pt_si2, pt_sl, pt_sln, pt_sl0, pt_sl2, pt_sr, pt_srn, pt_sr0, pt_sr1, if_true, if_false, ite_true, ite_false, not_true_eq_false, not_false_eq_true, if_pos, if_neg]
  rw [Nat.add_sub_cancel]
theorem nI_m1 {k : Nat} : nI k + (-1) = nI k - 1 := (Int32.sub_eq_add_neg _ _).symm
theorem fits_marks {F : Nat} {hb : Nat} {hu : hd_T} {s : Nat} (h16 : hu.2.1 3 ≤ 16) : ∀ k, k ≤ s → ∀ fx fm, k < fx → k < fm → ∀ κx κm : kp_K, KN hu s κx κm → (∀ e, e < s → κx.1 65 e = κm.1 115 e) → ∃ fx' κx' κm', bX1_fits_30 F hb hu fx κx (nI k - 1) = bX1_fits_30 F hb hu (fx' + 1) κx' (-1) ∧ bX6_fits_39 F fm κm (nI k - 1) = bX6_fits_84 F F κm' 0 0 ∧ (∀ e, e < s → κx'.1 65 e = κm'.1 115 e) ∧ Fr (fun j _ => j = 65) κx κx' ∧ Fr (fun j _ => j = 115) κm κm' := by
  intro k
  induction k with
  | zero =>
    intro hk fx fm hfx hfm κx κm hK hst
    obtain ⟨fx, rfl⟩ : ∃ f', fx = f' + 1 := ⟨fx - 1, by omega⟩
    obtain ⟨fm, rfl⟩ : ∃ f', fm = f' + 1 := ⟨fm - 1, by omega⟩
    have e : nI 0 - 1 = -1 := by decide
    rw [e, bX6_fits_39]
    simp (disch := omega) only [pt_lt_, pt_clsome, pt_ck, pt_ckL, pt_cl, pt_clL, pt_cz0, pt_cz1, pt_czi, pt_add, pt_addL, pt_Ladd, pt_mul, pt_mulL, pt_Lmul, pt_sub, pt_subL, pt_Lsub, pt_rem, pt_le, pt_leL, pt_Lle, pt_lt, pt_ltL, pt_Llt, pt_eq, pt_eqL, pt_Leq, pt_m1, pt_lt0, pt_ge0, pt_m1lt0, pt_m1ge0, pt_10, pt_01, pt_00, pt_11, pt_m11, pt_0m1, pt_1m1, pt_ib, pt_ib1, pt_hs, pt_so, pt_ofNat, pt_si, pt_sin, pt_si1, pt_si2, pt_sl, pt_sln, pt_sl0, pt_sl2, pt_sr, pt_srn, pt_sr0, pt_sr1, if_true, if_false, ite_true, ite_false, not_true_eq_false, not_false_eq_true, if_pos, if_neg]
    exact ⟨fx, κx, κm, rfl, rfl, hst, Fr.rf, Fr.rf⟩
  | succ k ih =>
    intro hk fx fm hfx hfm κx κm hK hst
    obtain ⟨fx, rfl⟩ : ∃ f', fx = f' + 1 := ⟨fx - 1, by omega⟩
    obtain ⟨fm, rfl⟩ : ∃ f', fm = f' + 1 := ⟨fm - 1, by omega⟩
    have next := ih (by omega) fx fm (by omega) (by omega)
    obtain ⟨s1, s2, s3, s4⟩ := id hK
    obtain ⟨e1, e2, e3⟩ := s4 k (by omega)
    have e0 := hst k (by omega)
    rw [nI_pred9, bX1_fits_30, bX6_fits_39]
    simp (disch := omega) only [pt_lt_, pt_clsome, pt_ck, pt_ckL, pt_cl, pt_clL, pt_cz0, pt_cz1, pt_czi, pt_add, pt_addL, pt_Ladd, pt_mul, pt_mulL, pt_Lmul, pt_sub, pt_Lsub, pt_rem, pt_le, pt_leL, pt_Lle, pt_lt, pt_ltL, pt_Llt, pt_eq, pt_eqL, pt_Leq, pt_m1, pt_lt0, pt_ge0, pt_m1lt0, pt_m1ge0, pt_10, pt_01, pt_00, pt_11, pt_m11, pt_0m1, pt_1m1, pt_ib, pt_ib1, pt_hs, pt_so, pt_ofNat, pt_si, pt_sin, pt_si1, pt_si2, pt_sl, pt_sln, pt_sl0, pt_sl2, pt_sr, pt_srn, pt_sr0, pt_sr1, if_true, if_false, ite_true, ite_false, not_true_eq_false, not_false_eq_true, e0, e1, e2, nI_m1]
    by_cases h0 : κm.1 115 k = 0
    · rw [if_pos h0, if_pos h0]
      rcases e3 with ⟨q, a, q1, a1, e4, e5⟩ | ⟨e4, j, j1, e5⟩
      · rw [e4]
        simp (disch := omega) only [pt_lt_, pt_clsome, pt_ck, pt_ckL, pt_cl, pt_clL, pt_cz0, pt_cz1, pt_czi, pt_add, pt_addL, pt_Ladd, pt_mul, pt_mulL, pt_Lmul, pt_sub, pt_Lsub, pt_rem, pt_le, pt_leL, pt_Lle, pt_lt, pt_ltL, pt_Llt, pt_eq, pt_eqL, pt_Leq, pt_m1, pt_lt0, pt_ge0, pt_m1lt0, pt_m1ge0, pt_10, pt_01, pt_00, pt_11, pt_m11, pt_0m1, pt_1m1, pt_ib, pt_ib1, pt_hs, pt_so, pt_ofNat, pt_si, pt_sin, pt_si1, pt_si2, pt_sl, pt_sln, pt_sl0, pt_sl2, pt_sr, pt_srn, pt_sr0, pt_sr1, if_true, if_false, ite_true, ite_false, not_true_eq_false, not_false_eq_true, if_pos, if_neg, nI_m1]
        exact next κx κm hK hst
      · rw [e4, e5]
        simp (disch := omega) only [pt_lt_, pt_clsome, pt_ck, pt_ckL, pt_cl, pt_clL, pt_cz0, pt_cz1, pt_czi, pt_add, pt_addL, pt_Ladd, pt_mul, pt_mulL, pt_Lmul, pt_sub, pt_Lsub, pt_rem, pt_le, pt_leL, pt_Lle, pt_lt, pt_ltL, pt_Llt, pt_eq, pt_eqL, pt_Leq, pt_m1, pt_lt0, pt_ge0, pt_m1lt0, pt_m1ge0, pt_10, pt_01, pt_00, pt_11, pt_m11, pt_0m1, pt_1m1, pt_ib, pt_ib1, pt_hs, pt_so, pt_ofNat, pt_si, pt_sin, pt_si1, pt_si2, pt_sl, pt_sln, pt_sl0, pt_sl2, pt_sr, pt_srn, pt_sr0, pt_sr1, if_true, if_false, ite_true, ite_false, not_true_eq_false, not_false_eq_true, if_pos, if_neg, nI_m1]
        obtain ⟨fx', κx', κm', b1, b2, b3, b4, b5⟩ := next (s_i κx 65 j 1) (s_i κm 115 j 1) (hK.same (fun j i q => pt_sin (by omega)) (fun j i q => pt_sin (by omega))) (fun e he => by
          by_cases h : e = j
          · subst h
            simp (disch := omega) only [pt_lt_, pt_clsome, pt_ck, pt_ckL, pt_cl, pt_clL, pt_cz0, pt_cz1, pt_czi, pt_add, pt_addL, pt_Ladd, pt_mul, pt_mulL, pt_Lmul, pt_sub, pt_subL, pt_Lsub, pt_rem, pt_le, pt_leL, pt_Lle, pt_lt, pt_ltL, pt_Llt, pt_eq, pt_eqL, pt_Leq, pt_m1, pt_lt0, pt_ge0, pt_m1lt0, pt_m1ge0, pt_10, pt_01, pt_00, pt_11, pt_m11, pt_0m1, pt_1m1, pt_ib, pt_ib1, pt_hs, pt_so, pt_ofNat, pt_si, pt_sin, pt_si1, pt_si2, pt_sl, pt_sln, pt_sl0, pt_sl2, pt_sr, pt_srn, pt_sr0, pt_sr1, if_true, if_false, ite_true, ite_false, not_true_eq_false, not_false_eq_true, if_pos, if_neg]
          · simp (disch := omega) only [pt_lt_, pt_clsome, pt_ck, pt_ckL, pt_cl, pt_clL, pt_cz0, pt_cz1, pt_czi, pt_add, pt_addL, pt_Ladd, pt_mul, pt_mulL, pt_Lmul, pt_sub, pt_subL, pt_Lsub, pt_rem, pt_le, pt_leL, pt_Lle, pt_lt, pt_ltL, pt_Llt, pt_eq, pt_eqL, pt_Leq, pt_m1, pt_lt0, pt_ge0, pt_m1lt0, pt_m1ge0, pt_10, pt_01, pt_00, pt_11, pt_m11, pt_0m1, pt_1m1, pt_ib, pt_ib1, pt_hs, pt_so, pt_ofNat, pt_si, pt_sin, pt_si1, pt_si2, pt_sl, pt_sln, pt_sl0, pt_sl2, pt_sr, pt_srn, pt_sr0, pt_sr1, if_true, if_false, ite_true, ite_false, not_true_eq_false, not_false_eq_true, if_pos, if_neg]
            exact hst e he)
        exact ⟨fx', κx', κm', b1, b2, b3, Fr.tr (κ1 := s_i κx 65 j 1) (Fr.si rfl) b4, Fr.tr (κ1 := s_i κm 115 j 1) (Fr.si rfl) b5⟩
    · rw [if_neg h0, if_neg h0]
      exact next κx κm hK hst
theorem fits_clear {F : Nat} {hb : Nat} {hu : hd_T} {s : Nat} : ∀ m k, k + m = s → ∀ fx fm, m < fx → m < fm → ∀ κx κm : kp_K, KN hu s κx κm → (∀ e, e < k → κx.1 65 e = κm.1 115 e) → ∃ κx' κm', bX1_fits_2 F hb hu fx κx (nI k) = bX1_fits_30 F hb hu F κx' (nI s - 1) ∧ bX6_fits_11 F fm κm (nI k) = bX6_fits_39 F F κm' (nI s - 1) ∧ (∀ e, e < s → κx'.1 65 e = κm'.1 115 e) ∧ Fr (fun j _ => j = 65) κx κx' ∧ Fr (fun j _ => j = 115) κm κm' := by
  intro m
  induction m with
  | zero =>
    intro k hk fx fm hfx hfm κx κm hK hst
    obtain ⟨fx, rfl⟩ : ∃ f', fx = f' + 1 := ⟨fx - 1, by omega⟩
    obtain ⟨fm, rfl⟩ : ∃ f', fm = f' + 1 := ⟨fm - 1, by omega⟩
    obtain ⟨s1, s2, s3, s4⟩ := id hK
    rw [bX1_fits_2, bX6_fits_11, s2, s3]
    simp only [pt_clsome, pt_lt_]
    have h : nI s ≤ nI k := by simp (disch := omega) only [pt_lt_, pt_clsome, pt_ck, pt_ckL, pt_cl, pt_clL, pt_cz0, pt_cz1, pt_czi, pt_add, pt_addL, pt_Ladd, pt_mul, pt_mulL, pt_Lmul, pt_sub, pt_subL, pt_Lsub, pt_rem, pt_le, pt_leL, pt_Lle, pt_lt, pt_ltL, pt_Llt, pt_eq, pt_eqL, pt_Leq, pt_m1, pt_lt0, pt_ge0, pt_m1lt0, pt_m1ge0, pt_10, pt_01, pt_00, pt_11, pt_m11, pt_0m1, pt_1m1, pt_ib, pt_ib1, pt_hs, pt_so, pt_ofNat, pt_si, pt_sin, pt_si1, pt_si2, pt_sl, pt_sln, pt_sl0, pt_sl2, pt_sr, pt_srn, pt_sr0, pt_sr1, if_true, if_false, ite_true, ite_false, not_true_eq_false, not_false_eq_true, if_pos, if_neg]; omega
    rw [if_pos h, if_pos h]
    exact ⟨κx, κm, rfl, rfl, fun e he => hst e (by omega), Fr.rf, Fr.rf⟩
  | succ m ih =>
    intro k hk fx fm hfx hfm κx κm hK hst
    obtain ⟨fx, rfl⟩ : ∃ f', fx = f' + 1 := ⟨fx - 1, by omega⟩
    obtain ⟨fm, rfl⟩ : ∃ f', fm = f' + 1 := ⟨fm - 1, by omega⟩
    obtain ⟨s1, s2, s3, s4⟩ := id hK
    rw [bX1_fits_2, bX6_fits_11, s2, s3]
    have hle : ¬ s ≤ k := by omega
    simp (disch := omega) only [pt_lt_, pt_clsome, pt_ck, pt_ckL, pt_cl, pt_clL, pt_cz0, pt_cz1, pt_czi, pt_add, pt_addL, pt_Ladd, pt_mul, pt_mulL, pt_Lmul, pt_sub, pt_Lsub, pt_rem, pt_le, pt_leL, pt_Lle, pt_lt, pt_ltL, pt_Llt, pt_eq, pt_eqL, pt_Leq, pt_m1, pt_lt0, pt_ge0, pt_m1lt0, pt_m1ge0, pt_10, pt_01, pt_00, pt_11, pt_m11, pt_0m1, pt_1m1, pt_ib, pt_ib1, pt_hs, pt_so, pt_ofNat, pt_si, pt_sin, pt_si1, pt_si2, pt_sl, pt_sln, pt_sl0, pt_sl2, pt_sr, pt_srn, pt_sr0, pt_sr1, if_true, if_false, ite_true, ite_false, not_true_eq_false, not_false_eq_true, hle]
    obtain ⟨κx', κm', b1, b2, b3, b4, b5⟩ := ih (k + 1) (by omega) fx fm (by omega) (by omega) (s_i κx 65 k 0) (s_i κm 115 k 0) (hK.same (fun j i q => pt_sin (by omega)) (fun j i q => pt_sin (by omega))) (fun e he => by
      by_cases h : e = k
      · subst h
        simp (disch := omega) only [pt_lt_, pt_clsome, pt_ck, pt_ckL, pt_cl, pt_clL, pt_cz0, pt_cz1, pt_czi, pt_add, pt_addL, pt_Ladd, pt_mul, pt_mulL, pt_Lmul, pt_sub, pt_subL, pt_Lsub, pt_rem, pt_le, pt_leL, pt_Lle, pt_lt, pt_ltL, pt_Llt, pt_eq, pt_eqL, pt_Leq, pt_m1, pt_lt0, pt_ge0, pt_m1lt0, pt_m1ge0, pt_10, pt_01, pt_00, pt_11, pt_m11, pt_0m1, pt_1m1, pt_ib, pt_ib1, pt_hs, pt_so, pt_ofNat, pt_si, pt_sin, pt_si1, pt_si2, pt_sl, pt_sln, pt_sl0, pt_sl2, pt_sr, pt_srn, pt_sr0, pt_sr1, if_true, if_false, ite_true, ite_false, not_true_eq_false, not_false_eq_true, if_pos, if_neg]
      · simp (disch := omega) only [pt_lt_, pt_clsome, pt_ck, pt_ckL, pt_cl, pt_clL, pt_cz0, pt_cz1, pt_czi, pt_add, pt_addL, pt_Ladd, pt_mul, pt_mulL, pt_Lmul, pt_sub, pt_subL, pt_Lsub, pt_rem, pt_le, pt_leL, pt_Lle, pt_lt, pt_ltL, pt_Llt, pt_eq, pt_eqL, pt_Leq, pt_m1, pt_lt0, pt_ge0, pt_m1lt0, pt_m1ge0, pt_10, pt_01, pt_00, pt_11, pt_m11, pt_0m1, pt_1m1, pt_ib, pt_ib1, pt_hs, pt_so, pt_ofNat, pt_si, pt_sin, pt_si1, pt_si2, pt_sl, pt_sln, pt_sl0, pt_sl2, pt_sr, pt_srn, pt_sr0, pt_sr1, if_true, if_false, ite_true, ite_false, not_true_eq_false, not_false_eq_true, if_pos, if_neg]
        exact hst e (by omega))
    exact ⟨κx', κm', b1, b2, b3, Fr.tr (κ1 := s_i κx 65 k 0) (Fr.si rfl) b4, Fr.tr (κ1 := s_i κm 115 k 0) (Fr.si rfl) b5⟩
theorem fits_loop {F : Nat} {hb : Nat} {hu : hd_T} {s : Nat} (hF : 80 ≤ F) {κ0 : kp_K} {bK : Bool} {kk : kp_K} (h0 : pX1_isFit F hb hu κ0 (hu.2.2.1 6) = some (if bK then 1 else 0, kk)) : ∀ m i, i + m = hu.2.1 5 → ∀ fx fm, m < fx → m + 1 < fm → ∀ (κx κm : kp_K) (a : Int32), ST hu hb s κx κm → ST hu hb s κ0 κm → ∃ r k m', bX1_fits_105 F hb hu fx κx (nI (hu.2.1 5)) ((if bK then (1 : Int32) <<< (nI (hu.2.1 5) &&& 31) else 0) ||| a) (nI i) = some (r, k) ∧ bX6_fits_84 F fm κm a (nI i) = some (r, m') ∧ (∀ j i, ¬ FX j i → k.1 j i = κx.1 j i ∧ k.2.1 j i = κx.2.1 j i) ∧ (∀ j i, ¬ (j = 12 ∨ j = 27) → k.2.2 j i = κx.2.2 j i) ∧ Fr FM κm m' ∧ m'.1 66 59 = 0 := by
  intro m
  induction m with
  | zero =>
    intro i hi fx fm hfx hfm κx κm a S S0
    obtain ⟨fx, rfl⟩ : ∃ f', fx = f' + 1 := ⟨fx - 1, by omega⟩
    obtain ⟨fm, rfl⟩ : ∃ f', fm = f' + 2 := ⟨fm - 2, by omega⟩
    have hi' : i = hu.2.1 5 := by omega
    subst hi'
    have h5 := S.1.1.2.2.2.2.2
    have e5 := S.2.1.1 5 (by omega)
    obtain ⟨b, k, m', a1, a2, a3, a4, a5, a6⟩ := fit_ls (F := F) (z := 0) (o := hu.2.2.1 6) hF (by omega) S0 S.2.1.2.2.2.2.2.2.2.2.2.1
    rw [h0] at a1
    have hb2 : bK = b := by
      have := congrArg Prod.fst (Option.some.inj a1)
      revert this
      cases bK <;> cases b <;> simp
    subst hb2
    have a2' : pX6_goesAsHeard F (s_i κm 66 39 0) = some (if bK then 1 else 0, m') := a2
    have e5' : m'.1 68 5 = nI (hu.2.1 5) := by rw [(a5.1 68 5 (by unfold FM PM; omega)).1]; exact e5
    have l1 : ¬ hu.2.1 5 < hu.2.1 5 := by omega
    have l2 : hu.2.1 5 ≤ hu.2.1 5 := Nat.le_refl _
    have l3 : hu.2.1 5 < hu.2.1 5 + 1 := Nat.lt_succ_self _
    refine ⟨a ||| (if bK then (1 : Int32) <<< (nI (hu.2.1 5) &&& 31) else 0), κx, m', ?_, ?_, fun _ _ _ => ⟨rfl, rfl⟩, fun _ _ _ => rfl, a5, a6⟩
    · rw [bX1_fits_105]
      simp (disch := omega) only [pt_lt_, pt_clsome, pt_ck, pt_ckL, pt_cl, pt_clL, pt_cz0, pt_cz1, pt_czi, pt_add, pt_addL, pt_Ladd, pt_mul, pt_mulL, pt_Lmul, pt_sub, pt_subL, pt_Lsub, pt_rem, pt_le, pt_leL, pt_Lle, pt_lt, pt_ltL, pt_Llt, pt_eq, pt_eqL, pt_Leq, pt_m1, pt_lt0, pt_ge0, pt_m1lt0, pt_m1ge0, pt_10, pt_01, pt_00, pt_11, pt_m11, pt_0m1, pt_1m1, pt_ib, pt_ib1, pt_hs, pt_so, pt_ofNat, pt_si, pt_sin, pt_si1, pt_si2, pt_sl, pt_sln, pt_sl0, pt_sl2, pt_sr, pt_srn, pt_sr0, pt_sr1, if_true, if_false, ite_true, ite_false, not_true_eq_false, not_false_eq_true, l2]
      rw [Int32.or_comm]
    · rw [bX6_fits_84]
      simp (disch := omega) only [pt_lt_, pt_clsome, pt_ck, pt_ckL, pt_cl, pt_clL, pt_cz0, pt_cz1, pt_czi, pt_add, pt_addL, pt_Ladd, pt_mul, pt_mulL, pt_Lmul, pt_sub, pt_subL, pt_Lsub, pt_rem, pt_le, pt_leL, pt_Lle, pt_lt, pt_ltL, pt_Llt, pt_eq, pt_eqL, pt_Leq, pt_m1, pt_lt0, pt_ge0, pt_m1lt0, pt_m1ge0, pt_10, pt_01, pt_00, pt_11, pt_m11, pt_0m1, pt_1m1, pt_ib, pt_ib1, pt_hs, pt_so, pt_ofNat, pt_si, pt_sin, pt_si1, pt_si2, pt_sl, pt_sln, pt_sl0, pt_sl2, pt_sr, pt_srn, pt_sr0, pt_sr1, if_true, if_false, ite_true, ite_false, not_true_eq_false, not_false_eq_true, e5, l1, l2]
      unfold bX6_fits_112
      simp only [pt_lt_]
      rw [a2']
      simp only [pt_clsome, pt_lt_, pt_ib]
      cases bK
      · simp only [Bool.false_eq_true, if_false, not_false_eq_true, if_true]
        rw [bX6_fits_84]
        simp (disch := omega) only [pt_lt_, pt_clsome, pt_ck, pt_ckL, pt_cl, pt_clL, pt_cz0, pt_cz1, pt_czi, pt_add, pt_addL, pt_Ladd, pt_mul, pt_mulL, pt_Lmul, pt_sub, pt_subL, pt_Lsub, pt_rem, pt_le, pt_leL, pt_Lle, pt_lt, pt_ltL, pt_Llt, pt_eq, pt_eqL, pt_Leq, pt_m1, pt_lt0, pt_ge0, pt_m1lt0, pt_m1ge0, pt_10, pt_01, pt_00, pt_11, pt_m11, pt_0m1, pt_1m1, pt_ib, pt_ib1, pt_hs, pt_so, pt_ofNat, pt_si, pt_sin, pt_si1, pt_si2, pt_sl, pt_sln, pt_sl0, pt_sl2, pt_sr, pt_srn, pt_sr0, pt_sr1, if_true, if_false, ite_true, ite_false, not_true_eq_false, not_false_eq_true, e5', l3]
        rw [Int32.or_zero]
      · simp only [not_true_eq_false, if_false, if_true]
        rw [bX6_fits_84]
        simp (disch := omega) only [pt_lt_, pt_clsome, pt_ck, pt_ckL, pt_cl, pt_clL, pt_cz0, pt_cz1, pt_czi, pt_add, pt_addL, pt_Ladd, pt_mul, pt_mulL, pt_Lmul, pt_sub, pt_subL, pt_Lsub, pt_rem, pt_le, pt_leL, pt_Lle, pt_lt, pt_ltL, pt_Llt, pt_eq, pt_eqL, pt_Leq, pt_m1, pt_lt0, pt_ge0, pt_m1lt0, pt_m1ge0, pt_10, pt_01, pt_00, pt_11, pt_m11, pt_0m1, pt_1m1, pt_ib, pt_ib1, pt_hs, pt_so, pt_ofNat, pt_si, pt_sin, pt_si1, pt_si2, pt_sl, pt_sln, pt_sl0, pt_sl2, pt_sr, pt_srn, pt_sr0, pt_sr1, if_true, if_false, ite_true, ite_false, not_true_eq_false, not_false_eq_true, e5', l3]
  | succ m ih =>
    intro i hi fx fm hfx hfm κx κm a S S0
    obtain ⟨fx, rfl⟩ : ∃ f', fx = f' + 1 := ⟨fx - 1, by omega⟩
    obtain ⟨fm, rfl⟩ : ∃ f', fm = f' + 1 := ⟨fm - 1, by omega⟩
    have h5 := S.1.1.2.2.2.2.2
    have e5 := S.2.1.1 5 (by omega)
    have hs := S.2.2.1
    obtain ⟨b, k, m', a1, a2, a3, a4, a5, a6⟩ := fit_ls (F := F) (z := 2 + i) (o := hu.2.2.1 (10 + i)) hF (by omega) S (S.2.1.2.2.2.2.2.2.2.2.2.2.2 i (by omega)).2
    have S' : ST hu hb s k m' := S.same (fun j i q => (a3 j i q).1) (a4 0 4 (by omega)) (fun j i q => (a5.1 j i q).1) a6
    have S0' : ST hu hb s κ0 m' := S0.same (fun _ _ _ => rfl) rfl (fun j i q => (a5.1 j i q).1) a6
    have l1 : ¬ hu.2.1 5 < i := by omega
    have l2 : ¬ hu.2.1 5 ≤ i := by omega
    obtain ⟨r, k', m2, b1, b2, b3, b4, b5, b6⟩ := ih (i + 1) (by omega) fx fm (by omega) (by omega) k m' (a ||| (if b then (1 : Int32) <<< (nI i &&& 31) else 0)) S' S0'
    refine ⟨r, k', m2, ?_, ?_, fun j i q => ⟨(b3 j i q).1.trans (a3 j i q).1, (b3 j i q).2.trans (a3 j i q).2⟩, fun j i q => (b4 j i q).trans (a4 j i q), a5.tr b5, b6⟩
    · rw [bX1_fits_105]
      simp (disch := omega) only [pt_lt_, pt_clsome, pt_ck, pt_ckL, pt_cl, pt_clL, pt_cz0, pt_cz1, pt_czi, pt_add, pt_addL, pt_Ladd, pt_mul, pt_mulL, pt_Lmul, pt_sub, pt_subL, pt_Lsub, pt_rem, pt_le, pt_leL, pt_Lle, pt_lt, pt_ltL, pt_Llt, pt_eq, pt_eqL, pt_Leq, pt_m1, pt_lt0, pt_ge0, pt_m1lt0, pt_m1ge0, pt_10, pt_01, pt_00, pt_11, pt_m11, pt_0m1, pt_1m1, pt_ib, pt_ib1, pt_hs, pt_so, pt_ofNat, pt_si, pt_sin, pt_si1, pt_si2, pt_sl, pt_sln, pt_sl0, pt_sl2, pt_sr, pt_srn, pt_sr0, pt_sr1, if_true, if_false, ite_true, ite_false, not_true_eq_false, not_false_eq_true, hs, l2]
      rw [a1]
      simp only [pt_clsome, pt_lt_, pt_ib]
      cases b
      · simp only [Bool.false_eq_true, if_false, not_false_eq_true, if_true]
        try (simp (disch := omega) only [pt_lt_, pt_clsome, pt_ck, pt_ckL, pt_cl, pt_clL, pt_cz0, pt_cz1, pt_czi, pt_add, pt_addL, pt_Ladd, pt_mul, pt_mulL, pt_Lmul, pt_sub, pt_subL, pt_Lsub, pt_rem, pt_le, pt_leL, pt_Lle, pt_lt, pt_ltL, pt_Llt, pt_eq, pt_eqL, pt_Leq, pt_m1, pt_lt0, pt_ge0, pt_m1lt0, pt_m1ge0, pt_10, pt_01, pt_00, pt_11, pt_m11, pt_0m1, pt_1m1, pt_ib, pt_ib1, pt_hs, pt_so, pt_ofNat, pt_si, pt_sin, pt_si1, pt_si2, pt_sl, pt_sln, pt_sl0, pt_sl2, pt_sr, pt_srn, pt_sr0, pt_sr1, if_true, if_false, ite_true, ite_false, not_true_eq_false, not_false_eq_true, if_pos, if_neg])
        simp only [Bool.false_eq_true, if_false, Int32.or_zero] at b1
        rw [Int32.or_zero]
        exact b1
      · simp only [not_true_eq_false, if_false, if_true]
        try (simp (disch := omega) only [pt_lt_, pt_clsome, pt_ck, pt_ckL, pt_cl, pt_clL, pt_cz0, pt_cz1, pt_czi, pt_add, pt_addL, pt_Ladd, pt_mul, pt_mulL, pt_Lmul, pt_sub, pt_subL, pt_Lsub, pt_rem, pt_le, pt_leL, pt_Lle, pt_lt, pt_ltL, pt_Llt, pt_eq, pt_eqL, pt_Leq, pt_m1, pt_lt0, pt_ge0, pt_m1lt0, pt_m1ge0, pt_10, pt_01, pt_00, pt_11, pt_m11, pt_0m1, pt_1m1, pt_ib, pt_ib1, pt_hs, pt_so, pt_ofNat, pt_si, pt_sin, pt_si1, pt_si2, pt_sl, pt_sln, pt_sl0, pt_sl2, pt_sr, pt_srn, pt_sr0, pt_sr1, if_true, if_false, ite_true, ite_false, not_true_eq_false, not_false_eq_true, if_pos, if_neg])
        simp only [if_true] at b1
        rw [Int32.or_assoc]
        exact b1
    · rw [bX6_fits_84]
      simp (disch := omega) only [pt_lt_, pt_clsome, pt_ck, pt_ckL, pt_cl, pt_clL, pt_cz0, pt_cz1, pt_czi, pt_add, pt_addL, pt_Ladd, pt_mul, pt_mulL, pt_Lmul, pt_sub, pt_subL, pt_Lsub, pt_rem, pt_le, pt_leL, pt_Lle, pt_lt, pt_ltL, pt_Llt, pt_eq, pt_eqL, pt_Leq, pt_m1, pt_lt0, pt_ge0, pt_m1lt0, pt_m1ge0, pt_10, pt_01, pt_00, pt_11, pt_m11, pt_0m1, pt_1m1, pt_ib, pt_ib1, pt_hs, pt_so, pt_ofNat, pt_si, pt_sin, pt_si1, pt_si2, pt_sl, pt_sln, pt_sl0, pt_sl2, pt_sr, pt_srn, pt_sr0, pt_sr1, if_true, if_false, ite_true, ite_false, not_true_eq_false, not_false_eq_true, e5, l1, l2]
      unfold bX6_fits_112
      simp only [pt_lt_]
      rw [a2]
      simp only [pt_clsome, pt_lt_, pt_ib]
      cases b
      · simp only [Bool.false_eq_true, if_false, not_false_eq_true, if_true]
        try (simp (disch := omega) only [pt_lt_, pt_clsome, pt_ck, pt_ckL, pt_cl, pt_clL, pt_cz0, pt_cz1, pt_czi, pt_add, pt_addL, pt_Ladd, pt_mul, pt_mulL, pt_Lmul, pt_sub, pt_subL, pt_Lsub, pt_rem, pt_le, pt_leL, pt_Lle, pt_lt, pt_ltL, pt_Llt, pt_eq, pt_eqL, pt_Leq, pt_m1, pt_lt0, pt_ge0, pt_m1lt0, pt_m1ge0, pt_10, pt_01, pt_00, pt_11, pt_m11, pt_0m1, pt_1m1, pt_ib, pt_ib1, pt_hs, pt_so, pt_ofNat, pt_si, pt_sin, pt_si1, pt_si2, pt_sl, pt_sln, pt_sl0, pt_sl2, pt_sr, pt_srn, pt_sr0, pt_sr1, if_true, if_false, ite_true, ite_false, not_true_eq_false, not_false_eq_true, if_pos, if_neg])
        simp only [Bool.false_eq_true, if_false, Int32.or_zero] at b2
        exact b2
      · simp only [not_true_eq_false, if_false, if_true]
        try (simp (disch := omega) only [pt_lt_, pt_clsome, pt_ck, pt_ckL, pt_cl, pt_clL, pt_cz0, pt_cz1, pt_czi, pt_add, pt_addL, pt_Ladd, pt_mul, pt_mulL, pt_Lmul, pt_sub, pt_subL, pt_Lsub, pt_rem, pt_le, pt_leL, pt_Lle, pt_lt, pt_ltL, pt_Llt, pt_eq, pt_eqL, pt_Leq, pt_m1, pt_lt0, pt_ge0, pt_m1lt0, pt_m1ge0, pt_10, pt_01, pt_00, pt_11, pt_m11, pt_0m1, pt_1m1, pt_ib, pt_ib1, pt_hs, pt_so, pt_ofNat, pt_si, pt_sin, pt_si1, pt_si2, pt_sl, pt_sln, pt_sl0, pt_sl2, pt_sr, pt_srn, pt_sr0, pt_sr1, if_true, if_false, ite_true, ite_false, not_true_eq_false, not_false_eq_true, if_pos, if_neg])
        simp only [if_true] at b2
        exact b2
theorem ls_fits {F : Nat} {hu : hd_T} {hb : Nat} {κx κm : kp_K} (hF : 80 ≤ F) (I : INV hu hb κx κm) : iLS hu hb κx κm (pX1_fits F hb hu κx) (pX6_fits F κm) := by
  obtain ⟨s, hK⟩ := I.kn
  obtain ⟨hT, hM, hs, -, -, ⟨-, N, hc⟩, -⟩ := id I
  have s24 := hK.1
  unfold pX1_fits pX6_fits
  simp only [pt_lt_]
  rw [pm_plain]
  simp only [pt_clsome]
  generalize hκ9 : s_i (s_i (s_i (s_i κm 66 0 0) 66 37 (-1)) 66 38 (-1)) 66 39 0 = κ9
  have g9 : ∀ j i, ¬ (j = 66 ∧ (i = 0 ∨ (37 ≤ i ∧ i ≤ 39))) → κ9.1 j i = κm.1 j i := fun j i q => by rw [← hκ9]; simp (disch := omega) only [pt_lt_, pt_clsome, pt_ck, pt_ckL, pt_cl, pt_clL, pt_cz0, pt_cz1, pt_czi, pt_add, pt_addL, pt_Ladd, pt_mul, pt_mulL, pt_Lmul, pt_sub, pt_subL, pt_Lsub, pt_rem, pt_le, pt_leL, pt_Lle, pt_lt, pt_ltL, pt_Llt, pt_eq, pt_eqL, pt_Leq, pt_m1, pt_lt0, pt_ge0, pt_m1lt0, pt_m1ge0, pt_10, pt_01, pt_00, pt_11, pt_m11, pt_0m1, pt_1m1, pt_ib, pt_ib1, pt_hs, pt_so, pt_ofNat, pt_si, pt_sin, pt_si1, pt_si2, pt_sl, pt_sln, pt_sl0, pt_sl2, pt_sr, pt_srn, pt_sr0, pt_sr1, if_true, if_false, ite_true, ite_false, not_true_eq_false, not_false_eq_true, if_pos, if_neg]
  have g9l : κ9.2 = κm.2 := by rw [← hκ9]; rfl
  obtain ⟨x1, m1, a1, a2, a3, a4, a5⟩ := fits_clear (F := F) (hb := hb) (hu := hu) (s := s) s 0 (by omega) F F (by omega) (by omega) κx κ9 (hK.same (fun _ _ _ => rfl) (fun j i q => g9 j i (by omega))) (fun e he => by omega)
  have a1' : bX1_fits_2 F hb hu F κx 0 = bX1_fits_30 F hb hu F x1 (nI s - 1) := a1
  have a2' : bX6_fits_11 F F κ9 0 = bX6_fits_39 F F m1 (nI s - 1) := a2
  have hK1 : KN hu s x1 m1 := hK.same (fun j i q => (a4.1 j i (by omega)).1) (fun j i q => (a5.1 j i (by omega)).1.trans (g9 j i (by omega)))
  obtain ⟨fx', x2, m2, b1, b2, b3, b4, b5⟩ := fits_marks (F := F) (hb := hb) (hu := hu) (s := s) hT.1.2.2.2.1 s (Nat.le_refl s) F F (by omega) (by omega) x1 m1 hK1 a3
  rw [a1', a2', b1, b2]
  have gx2 : Fr (fun j _ => j = 65) κx x2 := a4.tr b4
  have gm2 : Fr (fun j _ => j = 115) κ9 m2 := a5.tr b5
  have S : ST hu hb s x2 m2 := by
    refine ⟨hT, hM.same (fun j i a b => (gm2.1 j i (by omega)).1.trans (g9 j i (by omega))), by rw [gx2.2]; exact hs, ?_, ?_, ?_, hK.same (fun j i q => (gx2.1 j i (by omega)).1) (fun j i q => (gm2.1 j i (by omega)).1.trans (g9 j i (by omega))), b3⟩
    · rw [(gm2.1 66 37 (by omega)).1, ← hκ9]; simp (disch := omega) only [pt_lt_, pt_clsome, pt_ck, pt_ckL, pt_cl, pt_clL, pt_cz0, pt_cz1, pt_czi, pt_add, pt_addL, pt_Ladd, pt_mul, pt_mulL, pt_Lmul, pt_sub, pt_subL, pt_Lsub, pt_rem, pt_le, pt_leL, pt_Lle, pt_lt, pt_ltL, pt_Llt, pt_eq, pt_eqL, pt_Leq, pt_m1, pt_lt0, pt_ge0, pt_m1lt0, pt_m1ge0, pt_10, pt_01, pt_00, pt_11, pt_m11, pt_0m1, pt_1m1, pt_ib, pt_ib1, pt_hs, pt_so, pt_ofNat, pt_si, pt_sin, pt_si1, pt_si2, pt_sl, pt_sln, pt_sl0, pt_sl2, pt_sr, pt_srn, pt_sr0, pt_sr1, if_true, if_false, ite_true, ite_false, not_true_eq_false, not_false_eq_true, if_pos, if_neg]
    · rw [(gm2.1 66 38 (by omega)).1, ← hκ9]; simp (disch := omega) only [pt_lt_, pt_clsome, pt_ck, pt_ckL, pt_cl, pt_clL, pt_cz0, pt_cz1, pt_czi, pt_add, pt_addL, pt_Ladd, pt_mul, pt_mulL, pt_Lmul, pt_sub, pt_subL, pt_Lsub, pt_rem, pt_le, pt_leL, pt_Lle, pt_lt, pt_ltL, pt_Llt, pt_eq, pt_eqL, pt_Leq, pt_m1, pt_lt0, pt_ge0, pt_m1lt0, pt_m1ge0, pt_10, pt_01, pt_00, pt_11, pt_m11, pt_0m1, pt_1m1, pt_ib, pt_ib1, pt_hs, pt_so, pt_ofNat, pt_si, pt_sin, pt_si1, pt_si2, pt_sl, pt_sln, pt_sl0, pt_sl2, pt_sr, pt_srn, pt_sr0, pt_sr1, if_true, if_false, ite_true, ite_false, not_true_eq_false, not_false_eq_true, if_pos, if_neg]
    · rw [(gm2.1 66 59 (by omega)).1, g9 66 59 (by omega)]; exact N.2
  have h5 := hT.1.2.2.2.2.2
  obtain ⟨bK, kk, mk, c1, c2, c3, c4, c5, c6⟩ := fit_ls (F := F) (z := 0) (o := hu.2.2.1 6) hF (by omega) S S.2.1.2.2.2.2.2.2.2.2.2.1
  have S3 : ST hu hb s kk m2 := S.same (fun j i q => (c3 j i q).1) (c4 0 4 (by omega)) (fun _ _ _ => rfl) S.2.2.2.2.2.1
  obtain ⟨r, k, m', d1, d2, d3, d4, d5, d6⟩ := fits_loop (F := F) hF c1 (hu.2.1 5) 0 (by omega) F F (by omega) (by omega) kk m2 0 S3 S
  have d2' : bX6_fits_84 F F m2 0 0 = some (r, m') := d2
  have hs2 : x2.2.2 0 4 = some hb := S.2.2.1
  have hs3 : kk.2.2 0 4 = some hb := S3.2.2.1
  have d1' : bX1_fits_105 F hb hu F kk (nI (hu.2.1 5)) (if bK then (1 : Int32) <<< (nI (hu.2.1 5) &&& 31) else 0) 0 = some (r, k) := by
    rw [Int32.or_zero] at d1
    exact d1
  have eX : bX1_fits_30 F hb hu (fx' + 1) x2 (-1) = some (r, k) := by
    rw [bX1_fits_30]
    simp (disch := omega) only [pt_lt_, pt_clsome, pt_ck, pt_ckL, pt_cl, pt_clL, pt_cz0, pt_cz1, pt_czi, pt_add, pt_addL, pt_Ladd, pt_mul, pt_mulL, pt_Lmul, pt_sub, pt_subL, pt_Lsub, pt_rem, pt_le, pt_leL, pt_Lle, pt_lt, pt_ltL, pt_Llt, pt_eq, pt_eqL, pt_Leq, pt_m1, pt_lt0, pt_ge0, pt_m1lt0, pt_m1ge0, pt_10, pt_01, pt_00, pt_11, pt_m11, pt_0m1, pt_1m1, pt_ib, pt_ib1, pt_hs, pt_so, pt_ofNat, pt_si, pt_sin, pt_si1, pt_si2, pt_sl, pt_sln, pt_sl0, pt_sl2, pt_sr, pt_srn, pt_sr0, pt_sr1, if_true, if_false, ite_true, ite_false, not_true_eq_false, not_false_eq_true, if_pos, if_neg, hs2]
    rw [c1]
    simp only [pt_clsome, pt_lt_, pt_ib]
    cases bK
    · simp only [Bool.false_eq_true, if_false, not_false_eq_true, if_true]
      simp only [Bool.false_eq_true, if_false] at d1'
      exact d1'
    · simp only [not_true_eq_false, if_false, if_true]
      simp only [if_true] at d1'
      exact d1'
  rw [eX, d2']
  refine ⟨r, k, m', rfl, rfl, ?_, fun j i hj => ?_, ?_⟩
  · refine I.same (fun j i a b => ?_) (fun j i q => ?_) (fun j i a b => ?_)
    · unfold SX at b
      rw [(d3 j i (by unfold FX PX; omega)).1, (c3 j i (by unfold FX PX; omega)).1, (gx2.1 j i (by omega)).1]
    · rw [d4 j i (by omega), c4 j i (by omega), gx2.2]
    · unfold SM at b
      by_cases q : j = 66 ∧ i = 59
      · obtain ⟨rfl, rfl⟩ := q
        rw [d6, N.2]
      · rw [(d5.1 j i (by unfold FM PM; omega)).1, (gm2.1 j i (by omega)).1, g9 j i (by omega)]
  · obtain ⟨y1, y2⟩ := d3 j i (by unfold FX PX; omega)
    obtain ⟨x1, x2⟩ := c3 j i (by unfold FX PX; omega)
    obtain ⟨w1, w2⟩ := gx2.1 j i (by omega)
    exact ⟨y1.trans (x1.trans w1), y2.trans (x2.trans w2)⟩
  · refine ⟨fun j i hj => ?_, by rw [d5.2, gm2.2, g9l]⟩
    obtain ⟨y1, y2⟩ := d5.1 j i (by unfold FM PM; omega)
    obtain ⟨w1, w2⟩ := gm2.1 j i (by omega)
    rw [y1, y2, w1, w2, g9 j i (by omega), g9l]
    exact ⟨rfl, rfl⟩
