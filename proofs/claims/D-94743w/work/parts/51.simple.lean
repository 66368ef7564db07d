/-! PURE LAYER: the simple questions, on both sides -/
set_option maxRecDepth 100000
theorem ls_fault {hu : hd_T} {hb : Nat} {κx κm : kp_K} (I : INV hu hb κx κm) (v : Int32) : iLR hu hb κx κm (pX1_fault κx v) (pX6_fault κm v) := by
  have f1 := I.2.2.2.2.1.1
  have f2 := I.2.2.2.2.1.2
  unfold pX1_fault pX6_fault
  simp (disch := omega) only [pt_lt_, pt_clsome, pt_ck, pt_ckL, pt_cl, pt_clL, pt_cz0, pt_cz1, pt_czi, pt_add, pt_addL, pt_Ladd, pt_mul, pt_mulL, pt_Lmul, pt_sub, pt_subL, pt_Lsub, pt_rem, pt_le, pt_leL, pt_Lle, pt_lt, pt_ltL, pt_Llt, pt_eq, pt_eqL, pt_Leq, pt_m1, pt_lt0, pt_ge0, pt_m1lt0, pt_m1ge0, pt_10, pt_01, pt_00, pt_11, pt_m11, pt_0m1, pt_1m1, pt_ib, pt_ib1, pt_hs, pt_so, pt_ofNat, pt_si, pt_sin, pt_si1, pt_si2, pt_sl, pt_sln, pt_sl0, pt_sl2, pt_sr, pt_srn, pt_sr0, pt_sr1, if_true, if_false, ite_true, ite_false, not_true_eq_false, not_false_eq_true, if_pos, if_neg, f1, f2]
  by_cases h0 : v = 0
  · rw [if_pos h0, if_pos h0]
    exact ⟨_, _, rfl, rfl, I.th, MF0⟩
  · rw [if_neg h0, if_neg h0]
    by_cases h1 : v = 1
    · rw [if_pos h1, if_pos h1]
      exact ⟨_, _, rfl, rfl, I.th, MF0⟩
    · rw [if_neg h1, if_neg h1]
      exact ⟨_, _, rfl, rfl, I.th, MF0⟩
theorem pm_found {F a N s : Nat} {κ : kp_K} {x : Int32} {m : Nat} (hl : aLen a = some N) (hN : N ≤ 128) (hm : s + m ≤ N) : ∀ n k, k + n = m → ∀ f, n < f → bX6_found_3 F f κ a (nI s) (nI m) x (nI k) = some (oI (fnd (fun j => κ.1 a (s + j)) x k n)) := by
  intro n
  induction n with
  | zero =>
    intro k hk f hf
    obtain ⟨f, rfl⟩ : ∃ f', f = f' + 1 := ⟨f - 1, by omega⟩
    rw [bX6_found_3]
    simp (disch := omega) only [pt_lt_, pt_clsome, pt_ck, pt_ckL, pt_cl, pt_clL, pt_cz0, pt_cz1, pt_czi, pt_add, pt_addL, pt_Ladd, pt_mul, pt_mulL, pt_Lmul, pt_sub, pt_subL, pt_Lsub, pt_rem, pt_le, pt_leL, pt_Lle, pt_lt, pt_ltL, pt_Llt, pt_eq, pt_eqL, pt_Leq, pt_m1, pt_lt0, pt_ge0, pt_m1lt0, pt_m1ge0, pt_10, pt_01, pt_00, pt_11, pt_m11, pt_0m1, pt_1m1, pt_ib, pt_ib1, pt_hs, pt_so, pt_ofNat, pt_si, pt_sin, pt_si1, pt_si2, pt_sl, pt_sln, pt_sl0, pt_sl2, pt_sr, pt_srn, pt_sr0, pt_sr1, if_true, if_false, ite_true, ite_false, not_true_eq_false, not_false_eq_true, if_pos, if_neg]
    rfl
  | succ n ih =>
    intro k hk f hf
    obtain ⟨f, rfl⟩ : ∃ f', f = f' + 1 := ⟨f - 1, by omega⟩
    rw [bX6_found_3]
    simp (disch := omega) only [pt_lt_, pt_clsome, pt_ck, pt_ckL, pt_cl, pt_clL, pt_cz0, pt_cz1, pt_czi, pt_add, pt_addL, pt_Ladd, pt_mul, pt_mulL, pt_Lmul, pt_sub, pt_subL, pt_Lsub, pt_rem, pt_le, pt_leL, pt_Lle, pt_lt, pt_ltL, pt_Llt, pt_eq, pt_eqL, pt_Leq, pt_m1, pt_lt0, pt_ge0, pt_m1lt0, pt_m1ge0, pt_10, pt_01, pt_00, pt_11, pt_m11, pt_0m1, pt_1m1, pt_ib, pt_ib1, pt_hs, pt_so, pt_ofNat, pt_si, pt_sin, pt_si1, pt_si2, pt_sl, pt_sln, pt_sl0, pt_sl2, pt_sr, pt_srn, pt_sr0, pt_sr1, if_true, if_false, ite_true, ite_false, not_true_eq_false, not_false_eq_true, if_pos, if_neg, hl]
    rw [ih (k + 1) (by omega) f (by omega)]
    by_cases hx : κ.1 a (s + k) = x
    · rw [if_pos hx]
      simp only [fnd, if_pos hx, oI]
    · rw [if_neg hx]
      simp only [fnd, if_neg hx]
theorem px_desk {F hb : Nat} {hu : hd_T} {κ : kp_K} {x : Int32} (h : hu.2.1 0 ≤ 16) : ∀ n k, k + n = hu.2.1 0 → ∀ f, n < f → bX2_desk_2 F hb hu f κ x (nI k) = some (oI (fnd (fun j => hu.1 0 j) x k n)) := by
  intro n
  induction n with
  | zero =>
    intro k hk f hf
    obtain ⟨f, rfl⟩ : ∃ f', f = f' + 1 := ⟨f - 1, by omega⟩
    rw [bX2_desk_2]
    simp (disch := omega) only [pt_lt_, pt_clsome, pt_ck, pt_ckL, pt_cl, pt_clL, pt_cz0, pt_cz1, pt_czi, pt_add, pt_addL, pt_Ladd, pt_mul, pt_mulL, pt_Lmul, pt_sub, pt_subL, pt_Lsub, pt_rem, pt_le, pt_leL, pt_Lle, pt_lt, pt_ltL, pt_Llt, pt_eq, pt_eqL, pt_Leq, pt_m1, pt_lt0, pt_ge0, pt_m1lt0, pt_m1ge0, pt_10, pt_01, pt_00, pt_11, pt_m11, pt_0m1, pt_1m1, pt_ib, pt_ib1, pt_hs, pt_so, pt_ofNat, pt_si, pt_sin, pt_si1, pt_si2, pt_sl, pt_sln, pt_sl0, pt_sl2, pt_sr, pt_srn, pt_sr0, pt_sr1, if_true, if_false, ite_true, ite_false, not_true_eq_false, not_false_eq_true, if_pos, if_neg]
    rfl
  | succ n ih =>
    intro k hk f hf
    obtain ⟨f, rfl⟩ : ∃ f', f = f' + 1 := ⟨f - 1, by omega⟩
    rw [bX2_desk_2]
    simp (disch := omega) only [pt_lt_, pt_clsome, pt_ck, pt_ckL, pt_cl, pt_clL, pt_cz0, pt_cz1, pt_czi, pt_add, pt_addL, pt_Ladd, pt_mul, pt_mulL, pt_Lmul, pt_sub, pt_subL, pt_Lsub, pt_rem, pt_le, pt_leL, pt_Lle, pt_lt, pt_ltL, pt_Llt, pt_eq, pt_eqL, pt_Leq, pt_m1, pt_lt0, pt_ge0, pt_m1lt0, pt_m1ge0, pt_10, pt_01, pt_00, pt_11, pt_m11, pt_0m1, pt_1m1, pt_ib, pt_ib1, pt_hs, pt_so, pt_ofNat, pt_si, pt_sin, pt_si1, pt_si2, pt_sl, pt_sln, pt_sl0, pt_sl2, pt_sr, pt_srn, pt_sr0, pt_sr1, if_true, if_false, ite_true, ite_false, not_true_eq_false, not_false_eq_true, if_pos, if_neg]
    rw [ih (k + 1) (by omega) f (by omega)]
    by_cases hx : hu.1 0 k = x
    · rw [if_pos hx]
      simp only [fnd, if_pos hx, oI]
    · rw [if_neg hx]
      simp only [fnd, if_neg hx]
theorem px_fact {F hb : Nat} {hu : hd_T} {κ : kp_K} {x : Int32} (h : hu.2.1 1 ≤ 16) : ∀ n k, k + n = hu.2.1 1 → ∀ f, n < f → bX2_fact_2 F hb hu f κ x (nI k) = some (oI (fnd (fun j => hu.1 10 j) x k n)) := by
  intro n
  induction n with
  | zero =>
    intro k hk f hf
    obtain ⟨f, rfl⟩ : ∃ f', f = f' + 1 := ⟨f - 1, by omega⟩
    rw [bX2_fact_2]
    simp (disch := omega) only [pt_lt_, pt_clsome, pt_ck, pt_ckL, pt_cl, pt_clL, pt_cz0, pt_cz1, pt_czi, pt_add, pt_addL, pt_Ladd, pt_mul, pt_mulL, pt_Lmul, pt_sub, pt_subL, pt_Lsub, pt_rem, pt_le, pt_leL, pt_Lle, pt_lt, pt_ltL, pt_Llt, pt_eq, pt_eqL, pt_Leq, pt_m1, pt_lt0, pt_ge0, pt_m1lt0, pt_m1ge0, pt_10, pt_01, pt_00, pt_11, pt_m11, pt_0m1, pt_1m1, pt_ib, pt_ib1, pt_hs, pt_so, pt_ofNat, pt_si, pt_sin, pt_si1, pt_si2, pt_sl, pt_sln, pt_sl0, pt_sl2, pt_sr, pt_srn, pt_sr0, pt_sr1, if_true, if_false, ite_true, ite_false, not_true_eq_false, not_false_eq_true, if_pos, if_neg]
    rfl
  | succ n ih =>
    intro k hk f hf
    obtain ⟨f, rfl⟩ : ∃ f', f = f' + 1 := ⟨f - 1, by omega⟩
    rw [bX2_fact_2]
    simp (disch := omega) only [pt_lt_, pt_clsome, pt_ck, pt_ckL, pt_cl, pt_clL, pt_cz0, pt_cz1, pt_czi, pt_add, pt_addL, pt_Ladd, pt_mul, pt_mulL, pt_Lmul, pt_sub, pt_subL, pt_Lsub, pt_rem, pt_le, pt_leL, pt_Lle, pt_lt, pt_ltL, pt_Llt, pt_eq, pt_eqL, pt_Leq, pt_m1, pt_lt0, pt_ge0, pt_m1lt0, pt_m1ge0, pt_10, pt_01, pt_00, pt_11, pt_m11, pt_0m1, pt_1m1, pt_ib, pt_ib1, pt_hs, pt_so, pt_ofNat, pt_si, pt_sin, pt_si1, pt_si2, pt_sl, pt_sln, pt_sl0, pt_sl2, pt_sr, pt_srn, pt_sr0, pt_sr1, if_true, if_false, ite_true, ite_false, not_true_eq_false, not_false_eq_true, if_pos, if_neg]
    rw [ih (k + 1) (by omega) f (by omega)]
    by_cases hx : hu.1 10 k = x
    · rw [if_pos hx]
      simp only [fnd, if_pos hx, oI]
    · rw [if_neg hx]
      simp only [fnd, if_neg hx]
theorem px_may {F hb : Nat} {hu : hd_T} {κ : kp_K} {x : Int32} (h : hu.2.1 5 ≤ 16) : ∀ n k, k + n = hu.2.1 5 → ∀ f, n < f → bX2_may_2 F hb hu f κ x (nI k) = some (oI (fnd (fun j => hu.1 50 j) x k n)) := by
  intro n
  induction n with
  | zero =>
    intro k hk f hf
    obtain ⟨f, rfl⟩ : ∃ f', f = f' + 1 := ⟨f - 1, by omega⟩
    rw [bX2_may_2]
    simp (disch := omega) only [pt_lt_, pt_clsome, pt_ck, pt_ckL, pt_cl, pt_clL, pt_cz0, pt_cz1, pt_czi, pt_add, pt_addL, pt_Ladd, pt_mul, pt_mulL, pt_Lmul, pt_sub, pt_subL, pt_Lsub, pt_rem, pt_le, pt_leL, pt_Lle, pt_lt, pt_ltL, pt_Llt, pt_eq, pt_eqL, pt_Leq, pt_m1, pt_lt0, pt_ge0, pt_m1lt0, pt_m1ge0, pt_10, pt_01, pt_00, pt_11, pt_m11, pt_0m1, pt_1m1, pt_ib, pt_ib1, pt_hs, pt_so, pt_ofNat, pt_si, pt_sin, pt_si1, pt_si2, pt_sl, pt_sln, pt_sl0, pt_sl2, pt_sr, pt_srn, pt_sr0, pt_sr1, if_true, if_false, ite_true, ite_false, not_true_eq_false, not_false_eq_true, if_pos, if_neg]
    rfl
  | succ n ih =>
    intro k hk f hf
    obtain ⟨f, rfl⟩ : ∃ f', f = f' + 1 := ⟨f - 1, by omega⟩
    rw [bX2_may_2]
    simp (disch := omega) only [pt_lt_, pt_clsome, pt_ck, pt_ckL, pt_cl, pt_clL, pt_cz0, pt_cz1, pt_czi, pt_add, pt_addL, pt_Ladd, pt_mul, pt_mulL, pt_Lmul, pt_sub, pt_subL, pt_Lsub, pt_rem, pt_le, pt_leL, pt_Lle, pt_lt, pt_ltL, pt_Llt, pt_eq, pt_eqL, pt_Leq, pt_m1, pt_lt0, pt_ge0, pt_m1lt0, pt_m1ge0, pt_10, pt_01, pt_00, pt_11, pt_m11, pt_0m1, pt_1m1, pt_ib, pt_ib1, pt_hs, pt_so, pt_ofNat, pt_si, pt_sin, pt_si1, pt_si2, pt_sl, pt_sln, pt_sl0, pt_sl2, pt_sr, pt_srn, pt_sr0, pt_sr1, if_true, if_false, ite_true, ite_false, not_true_eq_false, not_false_eq_true, if_pos, if_neg]
    rw [ih (k + 1) (by omega) f (by omega)]
    by_cases hx : hu.1 50 k = x
    · rw [if_pos hx]
      simp only [fnd, if_pos hx, oI]
    · rw [if_neg hx]
      simp only [fnd, if_neg hx]
theorem aL69 : aLen 69 = some 8 := by decide +kernel
theorem aL72 : aLen 72 = some 14 := by decide +kernel
theorem aL84 : aLen 84 = some 8 := by decide +kernel
theorem ls_named {F : Nat} {hu : hd_T} {hb : Nat} {κx κm : kp_K} (hF : 80 ≤ F) (I : INV hu hb κx κm) (v x : Int32) : iLR hu hb κx κm (pX1_named F hb hu κx v x) (pX6_named F κm v x) := by
  obtain ⟨⟨⟨t0, t1, t2, t3, t4, t5⟩, -⟩, hM, hs, -⟩ := id I
  have M' := I.th (v := 0)
  unfold pX1_named pX6_named
  simp (disch := omega) only [pt_lt_, pt_clsome, pt_ck, pt_ckL, pt_cl, pt_clL, pt_cz0, pt_cz1, pt_czi, pt_add, pt_addL, pt_Ladd, pt_mul, pt_mulL, pt_Lmul, pt_sub, pt_subL, pt_Lsub, pt_rem, pt_le, pt_leL, pt_Lle, pt_lt, pt_ltL, pt_Llt, pt_eq, pt_eqL, pt_Leq, pt_m1, pt_lt0, pt_ge0, pt_m1lt0, pt_m1ge0, pt_10, pt_01, pt_00, pt_11, pt_m11, pt_0m1, pt_1m1, pt_ib, pt_ib1, pt_hs, pt_so, pt_ofNat, pt_si, pt_sin, pt_si1, pt_si2, pt_sl, pt_sln, pt_sl0, pt_sl2, pt_sr, pt_srn, pt_sr0, pt_sr1, if_true, if_false, ite_true, ite_false, not_true_eq_false, not_false_eq_true, if_pos, if_neg, hs]
  have e69 : ∀ i, (s_i κm 66 0 0).1 69 i = κm.1 69 i := fun i => pt_sin (by omega)
  by_cases h0 : v = 0
  · rw [if_pos h0, if_pos h0]
    have ex : pX2_desk F hb hu κx x = some (oI (fnd (fun j => hu.1 0 j) x 0 (hu.2.1 0))) := px_desk (by omega) (hu.2.1 0) 0 (by omega) F (by omega)
    have em : pX6_found F (s_i κm 66 0 0) 69 0 (nI (hu.2.1 0)) x = some (oI (fnd (fun j => (s_i κm 66 0 0).1 69 (0 + j)) x 0 (hu.2.1 0))) := pm_found (s := 0) aL69 (by omega) (by omega) (hu.2.1 0) 0 (by omega) F (by omega)
    rw [fnd_congr (g := fun j => hu.1 0 j) _ _ (fun j _ hj => by rw [Nat.zero_add]; simp (disch := omega) only [pt_lt_, pt_clsome, pt_ck, pt_ckL, pt_cl, pt_clL, pt_cz0, pt_cz1, pt_czi, pt_add, pt_addL, pt_Ladd, pt_mul, pt_mulL, pt_Lmul, pt_sub, pt_subL, pt_Lsub, pt_rem, pt_le, pt_leL, pt_Lle, pt_lt, pt_ltL, pt_Llt, pt_eq, pt_eqL, pt_Leq, pt_m1, pt_lt0, pt_ge0, pt_m1lt0, pt_m1ge0, pt_10, pt_01, pt_00, pt_11, pt_m11, pt_0m1, pt_1m1, pt_ib, pt_ib1, pt_hs, pt_so, pt_ofNat, pt_si, pt_sin, pt_si1, pt_si2, pt_sl, pt_sln, pt_sl0, pt_sl2, pt_sr, pt_srn, pt_sr0, pt_sr1, if_true, if_false, ite_true, ite_false, not_true_eq_false, not_false_eq_true, if_pos, if_neg]; exact (hM.2.2.2.1 j (by omega)).1)] at em
    simp (disch := omega) only [pt_lt_, pt_clsome, pt_ck, pt_ckL, pt_cl, pt_clL, pt_cz0, pt_cz1, pt_czi, pt_add, pt_addL, pt_Ladd, pt_mul, pt_mulL, pt_Lmul, pt_sub, pt_subL, pt_Lsub, pt_rem, pt_le, pt_leL, pt_Lle, pt_lt, pt_ltL, pt_Llt, pt_eq, pt_eqL, pt_Leq, pt_m1, pt_lt0, pt_ge0, pt_m1lt0, pt_m1ge0, pt_10, pt_01, pt_00, pt_11, pt_m11, pt_0m1, pt_1m1, pt_ib, pt_ib1, pt_hs, pt_so, pt_ofNat, pt_si, pt_sin, pt_si1, pt_si2, pt_sl, pt_sln, pt_sl0, pt_sl2, pt_sr, pt_srn, pt_sr0, pt_sr1, if_true, if_false, ite_true, ite_false, not_true_eq_false, not_false_eq_true, if_pos, if_neg, ex, em, hM.1 0 (by omega)]
    exact ⟨_, _, rfl, rfl, I.th, MF0⟩
  · rw [if_neg h0, if_neg h0]
    by_cases h1 : v = 1
    · rw [if_pos h1, if_pos h1]
      have ex : pX2_fact F hb hu κx x = some (oI (fnd (fun j => hu.1 10 j) x 0 (hu.2.1 1))) := px_fact (by omega) (hu.2.1 1) 0 (by omega) F (by omega)
      have em : pX6_found F (s_i κm 66 0 0) 72 0 (nI (hu.2.1 1)) x = some (oI (fnd (fun j => (s_i κm 66 0 0).1 72 (0 + j)) x 0 (hu.2.1 1))) := pm_found (s := 0) aL72 (by omega) (by omega) (hu.2.1 1) 0 (by omega) F (by omega)
      rw [fnd_congr (g := fun j => hu.1 10 j) _ _ (fun j _ hj => by rw [Nat.zero_add]; simp (disch := omega) only [pt_lt_, pt_clsome, pt_ck, pt_ckL, pt_cl, pt_clL, pt_cz0, pt_cz1, pt_czi, pt_add, pt_addL, pt_Ladd, pt_mul, pt_mulL, pt_Lmul, pt_sub, pt_subL, pt_Lsub, pt_rem, pt_le, pt_leL, pt_Lle, pt_lt, pt_ltL, pt_Llt, pt_eq, pt_eqL, pt_Leq, pt_m1, pt_lt0, pt_ge0, pt_m1lt0, pt_m1ge0, pt_10, pt_01, pt_00, pt_11, pt_m11, pt_0m1, pt_1m1, pt_ib, pt_ib1, pt_hs, pt_so, pt_ofNat, pt_si, pt_sin, pt_si1, pt_si2, pt_sl, pt_sln, pt_sl0, pt_sl2, pt_sr, pt_srn, pt_sr0, pt_sr1, if_true, if_false, ite_true, ite_false, not_true_eq_false, not_false_eq_true, if_pos, if_neg]; exact (hM.2.2.2.2.1 j (by omega)).1)] at em
      simp (disch := omega) only [pt_lt_, pt_clsome, pt_ck, pt_ckL, pt_cl, pt_clL, pt_cz0, pt_cz1, pt_czi, pt_add, pt_addL, pt_Ladd, pt_mul, pt_mulL, pt_Lmul, pt_sub, pt_subL, pt_Lsub, pt_rem, pt_le, pt_leL, pt_Lle, pt_lt, pt_ltL, pt_Llt, pt_eq, pt_eqL, pt_Leq, pt_m1, pt_lt0, pt_ge0, pt_m1lt0, pt_m1ge0, pt_10, pt_01, pt_00, pt_11, pt_m11, pt_0m1, pt_1m1, pt_ib, pt_ib1, pt_hs, pt_so, pt_ofNat, pt_si, pt_sin, pt_si1, pt_si2, pt_sl, pt_sln, pt_sl0, pt_sl2, pt_sr, pt_srn, pt_sr0, pt_sr1, if_true, if_false, ite_true, ite_false, not_true_eq_false, not_false_eq_true, if_pos, if_neg, ex, em, hM.1 1 (by omega)]
      exact ⟨_, _, rfl, rfl, I.th, MF0⟩
    · rw [if_neg h1, if_neg h1]
      by_cases h2 : v = 2
      · rw [if_pos h2, if_pos h2]
        have ex : pX2_may F hb hu κx x = some (oI (fnd (fun j => hu.1 50 j) x 0 (hu.2.1 5))) := px_may (by omega) (hu.2.1 5) 0 (by omega) F (by omega)
        have em : pX6_found F (s_i κm 66 0 0) 84 0 (nI (hu.2.1 5)) x = some (oI (fnd (fun j => (s_i κm 66 0 0).1 84 (0 + j)) x 0 (hu.2.1 5))) := pm_found (s := 0) aL84 (by omega) (by omega) (hu.2.1 5) 0 (by omega) F (by omega)
        rw [fnd_congr (g := fun j => hu.1 50 j) _ _ (fun j _ hj => by rw [Nat.zero_add]; simp (disch := omega) only [pt_lt_, pt_clsome, pt_ck, pt_ckL, pt_cl, pt_clL, pt_cz0, pt_cz1, pt_czi, pt_add, pt_addL, pt_Ladd, pt_mul, pt_mulL, pt_Lmul, pt_sub, pt_subL, pt_Lsub, pt_rem, pt_le, pt_leL, pt_Lle, pt_lt, pt_ltL, pt_Llt, pt_eq, pt_eqL, pt_Leq, pt_m1, pt_lt0, pt_ge0, pt_m1lt0, pt_m1ge0, pt_10, pt_01, pt_00, pt_11, pt_m11, pt_0m1, pt_1m1, pt_ib, pt_ib1, pt_hs, pt_so, pt_ofNat, pt_si, pt_sin, pt_si1, pt_si2, pt_sl, pt_sln, pt_sl0, pt_sl2, pt_sr, pt_srn, pt_sr0, pt_sr1, if_true, if_false, ite_true, ite_false, not_true_eq_false, not_false_eq_true, if_pos, if_neg]; exact hM.2.2.2.2.2.2.2.2.1 j (by omega))] at em
        simp (disch := omega) only [pt_lt_, pt_clsome, pt_ck, pt_ckL, pt_cl, pt_clL, pt_cz0, pt_cz1, pt_czi, pt_add, pt_addL, pt_Ladd, pt_mul, pt_mulL, pt_Lmul, pt_sub, pt_subL, pt_Lsub, pt_rem, pt_le, pt_leL, pt_Lle, pt_lt, pt_ltL, pt_Llt, pt_eq, pt_eqL, pt_Leq, pt_m1, pt_lt0, pt_ge0, pt_m1lt0, pt_m1ge0, pt_10, pt_01, pt_00, pt_11, pt_m11, pt_0m1, pt_1m1, pt_ib, pt_ib1, pt_hs, pt_so, pt_ofNat, pt_si, pt_sin, pt_si1, pt_si2, pt_sl, pt_sln, pt_sl0, pt_sl2, pt_sr, pt_srn, pt_sr0, pt_sr1, if_true, if_false, ite_true, ite_false, not_true_eq_false, not_false_eq_true, if_pos, if_neg, ex, em, hM.1 5 (by omega)]
        exact ⟨_, _, rfl, rfl, I.th, MF0⟩
      · rw [if_neg h2, if_neg h2]
        exact ⟨_, _, rfl, rfl, I.th, MF0⟩
theorem ls_line {hu : hd_T} {hb : Nat} {κx κm : kp_K} (I : INV hu hb κx κm) (v k x : Int32) : iLR hu hb κx κm (pX1_line hb hu κx v k x) (pX6_line_2 κm v k x) := by
  obtain ⟨⟨⟨t0, t1, t2, t3, t4, t5⟩, -⟩, hM, hs, -, -, ⟨⟨dy, mn, w, R⟩, -⟩, -⟩ := id I
  have hM' := (I.th (v := 0)).2.1
  unfold pX1_line pX6_line_2
  simp (disch := omega) only [pt_lt_, pt_clsome, pt_ck, pt_ckL, pt_cl, pt_clL, pt_cz0, pt_cz1, pt_czi, pt_add, pt_addL, pt_Ladd, pt_mul, pt_mulL, pt_Lmul, pt_sub, pt_subL, pt_Lsub, pt_rem, pt_le, pt_leL, pt_Lle, pt_lt, pt_ltL, pt_Llt, pt_eq, pt_eqL, pt_Leq, pt_m1, pt_lt0, pt_ge0, pt_m1lt0, pt_m1ge0, pt_10, pt_01, pt_00, pt_11, pt_m11, pt_0m1, pt_1m1, pt_ib, pt_ib1, pt_hs, pt_so, pt_ofNat, pt_si, pt_sin, pt_si1, pt_si2, pt_sl, pt_sln, pt_sl0, pt_sl2, pt_sr, pt_srn, pt_sr0, pt_sr1, if_true, if_false, ite_true, ite_false, not_true_eq_false, not_false_eq_true, px_isDesk hs t0 v, pm_isDesk hM' v, px_isIn]
  simp only [ite_not]
  by_cases hd : 0 ≤ v ∧ v < nI (hu.2.1 0)
  · rw [if_pos hd, if_pos hd]
    obtain ⟨d, hd2, rfl⟩ := below hd (by omega)
    obtain ⟨c1, c2, c3⟩ := R.2.2.1 d (by omega)
    rw [Nat.mul_zero, Nat.zero_add] at c2
    by_cases hk : k < 0
    · rw [if_pos hk, if_pos hk]
      exact ⟨_, _, rfl, rfl, I.th, MF0⟩
    · rw [if_neg hk, if_neg hk]
      by_cases hx : 0 ≤ x ∧ x ≤ 2
      · rw [if_pos hx, if_neg (Int32.not_lt.mpr hx.1), if_pos hx.2]
        obtain ⟨j, hj, rfl⟩ := nI_of hk
        simp (disch := omega) only [pt_lt_, pt_clsome, pt_ck, pt_ckL, pt_cl, pt_clL, pt_cz0, pt_cz1, pt_czi, pt_add, pt_addL, pt_Ladd, pt_mul, pt_mulL, pt_Lmul, pt_sub, pt_subL, pt_Lsub, pt_rem, pt_le, pt_leL, pt_Lle, pt_lt, pt_ltL, pt_Llt, pt_eq, pt_eqL, pt_Leq, pt_m1, pt_lt0, pt_ge0, pt_m1lt0, pt_m1ge0, pt_10, pt_01, pt_00, pt_11, pt_m11, pt_0m1, pt_1m1, pt_ib, pt_ib1, pt_hs, pt_so, pt_ofNat, pt_si, pt_sin, pt_si1, pt_si2, pt_sl, pt_sln, pt_sl0, pt_sl2, pt_sr, pt_srn, pt_sr0, pt_sr1, if_true, if_false, ite_true, ite_false, not_true_eq_false, not_false_eq_true, if_pos, if_neg, c1, c2, Nat.mul_zero, Nat.add_zero]
        by_cases hjm : j < mn d
        · obtain ⟨l1, l2, l3, -⟩ := R.2.2.2.2.1 d j (by omega) hjm
          simp only [Nat.mul_zero, Nat.zero_add, Nat.add_zero] at l1 l2 l3
          rw [if_pos hjm, if_pos hjm]
          have es : pX6_slot 0 (nI d) (nI j) = some (nI (28 * 0 + 7 * d + j)) := pm_slot (a := 0)
          rw [Nat.mul_zero, Nat.zero_add] at es
          simp (disch := omega) only [pt_lt_, pt_clsome, pt_ck, pt_ckL, pt_cl, pt_clL, pt_cz0, pt_cz1, pt_czi, pt_add, pt_addL, pt_Ladd, pt_mul, pt_mulL, pt_Lmul, pt_sub, pt_subL, pt_Lsub, pt_rem, pt_le, pt_leL, pt_Lle, pt_lt, pt_ltL, pt_Llt, pt_eq, pt_eqL, pt_Leq, pt_m1, pt_lt0, pt_ge0, pt_m1lt0, pt_m1ge0, pt_10, pt_01, pt_00, pt_11, pt_m11, pt_0m1, pt_1m1, pt_ib, pt_ib1, pt_hs, pt_so, pt_ofNat, pt_si, pt_sin, pt_si1, pt_si2, pt_sl, pt_sln, pt_sl0, pt_sl2, pt_sr, pt_srn, pt_sr0, pt_sr1, if_true, if_false, ite_true, ite_false, not_true_eq_false, not_false_eq_true, if_pos, if_neg, es, l1, l2, l3]
          by_cases h0 : x = 0
          · rw [if_pos h0, if_pos h0]
            exact ⟨_, _, rfl, rfl, I.th, MF0⟩
          · rw [if_neg h0, if_neg h0]
            by_cases h1 : x = 1
            · rw [if_pos h1, if_pos h1]
              exact ⟨_, _, rfl, rfl, I.th, MF0⟩
            · rw [if_neg h1, if_neg h1]
              exact ⟨_, _, rfl, rfl, I.th, MF0⟩
        · rw [if_neg hjm, if_neg hjm]
          exact ⟨_, _, rfl, rfl, I.th, MF0⟩
      · rw [if_neg hx]
        by_cases hx0 : x < 0
        · rw [if_pos hx0]
          exact ⟨_, _, rfl, rfl, I.th, MF0⟩
        · rw [if_neg hx0, if_neg (fun q => hx ⟨Int32.not_lt.mp hx0, q⟩)]
          exact ⟨_, _, rfl, rfl, I.th, MF0⟩
  · rw [if_neg hd, if_neg hd]
    exact ⟨_, _, rfl, rfl, I.th, MF0⟩
theorem ls_answer {hu : hd_T} {hb : Nat} {κx κm : kp_K} (I : INV hu hb κx κm) (v : Int32) : iLR hu hb κx κm (pX1_answer hb hu κx v) (pX6_answer κm v) := by
  obtain ⟨⟨⟨t0, t1, t2, t3, t4, t5⟩, -⟩, hM, hs, -, -, ⟨⟨dy, mn, w, R⟩, -⟩, -⟩ := id I
  have hM' := (I.th (v := 0)).2.1
  unfold pX1_answer pX6_answer
  simp (disch := omega) only [pt_lt_, pt_clsome, pt_ck, pt_ckL, pt_cl, pt_clL, pt_cz0, pt_cz1, pt_czi, pt_add, pt_addL, pt_Ladd, pt_mul, pt_mulL, pt_Lmul, pt_sub, pt_subL, pt_Lsub, pt_rem, pt_le, pt_leL, pt_Lle, pt_lt, pt_ltL, pt_Llt, pt_eq, pt_eqL, pt_Leq, pt_m1, pt_lt0, pt_ge0, pt_m1lt0, pt_m1ge0, pt_10, pt_01, pt_00, pt_11, pt_m11, pt_0m1, pt_1m1, pt_ib, pt_ib1, pt_hs, pt_so, pt_ofNat, pt_si, pt_sin, pt_si1, pt_si2, pt_sl, pt_sln, pt_sl0, pt_sl2, pt_sr, pt_srn, pt_sr0, pt_sr1, if_true, if_false, ite_true, ite_false, not_true_eq_false, not_false_eq_true, hs, isIn_below v (by omega : hu.2.1 3 < 1073741824), pm_isQuestion hM' v]
  simp only [ite_not]
  by_cases hd : 0 ≤ v ∧ v < nI (hu.2.1 3)
  · rw [if_pos hd, if_pos hd]
    obtain ⟨q, hq, rfl⟩ := below hd (by omega)
    have e := R.2.2.2.2.2.1 q (by omega)
    simp only [Nat.mul_zero, Nat.zero_add, Nat.add_zero] at e
    simp (disch := omega) only [pt_lt_, pt_clsome, pt_ck, pt_ckL, pt_cl, pt_clL, pt_cz0, pt_cz1, pt_czi, pt_add, pt_addL, pt_Ladd, pt_mul, pt_mulL, pt_Lmul, pt_sub, pt_subL, pt_Lsub, pt_rem, pt_le, pt_leL, pt_Lle, pt_lt, pt_ltL, pt_Llt, pt_eq, pt_eqL, pt_Leq, pt_m1, pt_lt0, pt_ge0, pt_m1lt0, pt_m1ge0, pt_10, pt_01, pt_00, pt_11, pt_m11, pt_0m1, pt_1m1, pt_ib, pt_ib1, pt_hs, pt_so, pt_ofNat, pt_si, pt_sin, pt_si1, pt_si2, pt_sl, pt_sln, pt_sl0, pt_sl2, pt_sr, pt_srn, pt_sr0, pt_sr1, if_true, if_false, ite_true, ite_false, not_true_eq_false, not_false_eq_true, if_pos, if_neg, e]
    exact ⟨_, _, rfl, rfl, I.th, MF0⟩
  · rw [if_neg hd, if_neg hd]
    exact ⟨_, _, rfl, rfl, I.th, MF0⟩
theorem ls_went {hu : hd_T} {hb : Nat} {κx κm : kp_K} (I : INV hu hb κx κm) (k x : Int32) : iLR hu hb κx κm (pX1_went κx k x) (pX6_went κm k x) := by
  obtain ⟨hT, hM, hs, -, -, ⟨⟨dy, mn, w, R⟩, -⟩, -⟩ := id I
  have hB := Bd_le hT R.1.2.2
  obtain ⟨b1, b2⟩ := R.2.1
  have hw : w ≤ 260 := by have := R.2.2.2.2.2.2.2; omega
  simp only [Nat.mul_zero, Nat.add_zero] at b1
  have done : ∀ z : Int32, iLR hu hb κx κm (some z) (some (z, s_i κm 66 0 0)) := fun z => ⟨_, _, rfl, rfl, I.th, MF0⟩
  unfold pX1_went pX6_went
  simp (disch := omega) only [pt_lt_, pt_clsome, pt_ck, pt_ckL, pt_cl, pt_clL, pt_cz0, pt_cz1, pt_czi, pt_add, pt_addL, pt_Ladd, pt_mul, pt_mulL, pt_Lmul, pt_sub, pt_subL, pt_Lsub, pt_rem, pt_le, pt_leL, pt_Lle, pt_lt, pt_ltL, pt_Llt, pt_eq, pt_eqL, pt_Leq, pt_m1, pt_lt0, pt_ge0, pt_m1lt0, pt_m1ge0, pt_10, pt_01, pt_00, pt_11, pt_m11, pt_0m1, pt_1m1, pt_ib, pt_ib1, pt_hs, pt_so, pt_ofNat, pt_si, pt_sin, pt_si1, pt_si2, pt_sl, pt_sln, pt_sl0, pt_sl2, pt_sr, pt_srn, pt_sr0, pt_sr1, if_true, if_false, ite_true, ite_false, not_true_eq_false, not_false_eq_true, b1, b2, px_isIn]
  simp only [ite_not]
  by_cases hk : k < -1
  · have h1 : ¬ k = -1 := fun q => by rw [q] at hk; exact absurd hk (by decide)
    have h2 : k < 0 := by
      rw [Int32.lt_iff_toInt_lt] at hk ⊢
      rw [show (-1 : Int32).toInt = -1 from by decide] at hk
      rw [show (0 : Int32).toInt = 0 from by decide]
      omega
    rw [if_pos hk, if_neg h1, if_pos h2]
    exact done _
  · rw [if_neg hk]
    by_cases hk1 : k = -1
    · subst hk1
      simp (disch := omega) only [pt_lt_, pt_clsome, pt_ck, pt_ckL, pt_cl, pt_clL, pt_cz0, pt_cz1, pt_czi, pt_add, pt_addL, pt_Ladd, pt_mul, pt_mulL, pt_Lmul, pt_sub, pt_subL, pt_Lsub, pt_rem, pt_le, pt_leL, pt_Lle, pt_lt, pt_ltL, pt_Llt, pt_eq, pt_eqL, pt_Leq, pt_m1, pt_lt0, pt_ge0, pt_m1lt0, pt_m1ge0, pt_10, pt_01, pt_00, pt_11, pt_m11, pt_0m1, pt_1m1, pt_ib, pt_ib1, pt_hs, pt_so, pt_ofNat, pt_si, pt_sin, pt_si1, pt_si2, pt_sl, pt_sln, pt_sl0, pt_sl2, pt_sr, pt_srn, pt_sr0, pt_sr1, if_true, if_false, ite_true, ite_false, not_true_eq_false, not_false_eq_true]
      by_cases hx : 0 ≤ x ∧ x ≤ 3
      · rw [if_pos hx]
        by_cases h0 : x = 0
        · rw [if_pos h0, if_pos h0]; exact done _
        · rw [if_neg h0, if_neg h0]; exact done _
      · rw [if_neg hx]
        have h0 : ¬ x = 0 := fun q => hx (by rw [q]; decide)
        rw [if_neg h0]
        exact done _
    · have hk0 : ¬ k < 0 := fun q => by
        rw [Int32.lt_iff_toInt_lt] at hk q
        rw [show (-1 : Int32).toInt = -1 from by decide] at hk
        rw [show (0 : Int32).toInt = 0 from by decide] at q
        exact hk1 (Int32.toInt_inj.mp (by rw [show (-1 : Int32).toInt = -1 from by decide]; omega))
      rw [if_neg hk1, if_neg hk0]
      by_cases hx : 0 ≤ x ∧ x ≤ 3
      · rw [if_pos hx, if_neg (Int32.not_lt.mpr hx.1), if_pos hx.2]
        obtain ⟨j, hj, rfl⟩ := nI_of hk0
        simp (disch := omega) only [pt_lt_, pt_clsome, pt_ck, pt_ckL, pt_cl, pt_clL, pt_cz0, pt_cz1, pt_czi, pt_add, pt_addL, pt_Ladd, pt_mul, pt_mulL, pt_Lmul, pt_sub, pt_subL, pt_Lsub, pt_rem, pt_le, pt_leL, pt_Lle, pt_lt, pt_ltL, pt_Llt, pt_eq, pt_eqL, pt_Leq, pt_m1, pt_lt0, pt_ge0, pt_m1lt0, pt_m1ge0, pt_10, pt_01, pt_00, pt_11, pt_m11, pt_0m1, pt_1m1, pt_ib, pt_ib1, pt_hs, pt_so, pt_ofNat, pt_si, pt_sin, pt_si1, pt_si2, pt_sl, pt_sln, pt_sl0, pt_sl2, pt_sr, pt_srn, pt_sr0, pt_sr1, if_true, if_false, ite_true, ite_false, not_true_eq_false, not_false_eq_true, if_pos, if_neg]
        by_cases hjw : j < w
        · obtain ⟨a, b, c, e, ha, hb', hc, he, g1, g2, g3, g4, g5⟩ := R.2.2.2.2.2.2.1 j hjw
          simp only [Nat.mul_zero, Nat.zero_add, Nat.add_zero] at g1 g2 g3 g4 g5
          rw [if_pos hjw, if_pos hjw]
          have n1 : ¬ (256 : Int32) = 0 := by decide
          have n2 : ¬ (32 : Int32) = 0 := by decide
          have n3 : ¬ (8 : Int32) = 0 := by decide
          have n4 : ¬ (4 : Int32) = 0 := by decide
          rw [pt_cd n1, pt_cd n2, pt_cd n3, pt_cd n4, pt_cd n3, pt_cd n4]
          simp (disch := omega) only [pt_lt_, pt_clsome, pt_ck, pt_ckL, pt_cl, pt_clL, pt_cz0, pt_cz1, pt_czi, pt_add, pt_addL, pt_Ladd, pt_mul, pt_mulL, pt_Lmul, pt_sub, pt_subL, pt_Lsub, pt_rem, pt_le, pt_leL, pt_Lle, pt_lt, pt_ltL, pt_Llt, pt_eq, pt_eqL, pt_Leq, pt_m1, pt_lt0, pt_ge0, pt_m1lt0, pt_m1ge0, pt_10, pt_01, pt_00, pt_11, pt_m11, pt_0m1, pt_1m1, pt_ib, pt_ib1, pt_hs, pt_so, pt_ofNat, pt_si, pt_sin, pt_si1, pt_si2, pt_sl, pt_sln, pt_sl0, pt_sl2, pt_sr, pt_srn, pt_sr0, pt_sr1, if_true, if_false, ite_true, ite_false, not_true_eq_false, not_false_eq_true, if_pos, if_neg, g1, g2, g3, g4, g5, pt_div]
          have d1 : (((a * 8 + b) * 8 + c) * 4 + e) / 256 = a := by omega
          have d2 : (((a * 8 + b) * 8 + c) * 4 + e) / 32 - (((a * 8 + b) * 8 + c) * 4 + e) / 32 / 8 * 8 = b := by omega
          have d3 : (((a * 8 + b) * 8 + c) * 4 + e) / 4 - (((a * 8 + b) * 8 + c) * 4 + e) / 4 / 8 * 8 = c := by omega
          have d4 : ((a * 8 + b) * 8 + c) * 4 + e - (((a * 8 + b) * 8 + c) * 4 + e) / 4 * 4 = e := by omega
          rw [d1, d2, d3, d4]
          by_cases h0 : x = 0
          · rw [if_pos h0, if_pos h0]; exact done _
          · rw [if_neg h0, if_neg h0]
            by_cases h1 : x = 1
            · rw [if_pos h1, if_pos h1]; exact done _
            · rw [if_neg h1, if_neg h1]
              by_cases h2 : x = 2
              · rw [if_pos h2, if_pos h2]; exact done _
              · rw [if_neg h2, if_neg h2]; exact done _
        · rw [if_neg hjw, if_neg hjw]
          exact done _
      · rw [if_neg hx]
        by_cases hx0 : x < 0
        · rw [if_pos hx0]; exact done _
        · rw [if_neg hx0, if_neg (fun q => hx ⟨Int32.not_lt.mp hx0, q⟩)]; exact done _
