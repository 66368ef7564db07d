/-! PURE LAYER: the empty set of desks -/
set_option maxRecDepth 100000
theorem ob_zero {i : Nat} (hi : i < 4) : ob (nI 0) (nI i) = 0 := by
  have key : ∀ i : Fin 4, ob (nI 0) (nI i.val) = 0 := by decide +kernel
  exact key ⟨i, hi⟩
theorem kp_zero {F : Nat} {v1 v3 : Int32} : ∀ m i, i + m = 4 → ∀ f, m < f → ∀ p, bX1_keeping_8 F f v1 (nI 0) v3 p (nI i) = some v3 := by
  intro m
  induction m with
  | zero =>
    intro i hi f hf p
    obtain ⟨f, rfl⟩ : ∃ f', f = f' + 1 := ⟨f - 1, by omega⟩
    have hle : 4 ≤ i := by omega
    rw [bX1_keeping_8]
    simp (disch := omega) only [pt_lt_, pt_clsome, pt_ck, pt_ckL, pt_cl, pt_clL, pt_cz0, pt_cz1, pt_czi, pt_add, pt_addL, pt_Ladd, pt_mul, pt_mulL, pt_Lmul, pt_sub, pt_subL, pt_Lsub, pt_rem, pt_le, pt_leL, pt_Lle, pt_lt, pt_ltL, pt_Llt, pt_eq, pt_eqL, pt_Leq, pt_m1, pt_lt0, pt_ge0, pt_m1lt0, pt_m1ge0, pt_10, pt_01, pt_00, pt_11, pt_m11, pt_0m1, pt_1m1, pt_ib, pt_ib1, pt_hs, pt_so, pt_ofNat, pt_si, pt_sin, pt_si1, pt_si2, pt_sl, pt_sln, pt_sl0, pt_sl2, pt_sr, pt_srn, pt_sr0, pt_sr1, if_true, if_false, ite_true, ite_false, not_true_eq_false, not_false_eq_true, if_pos, if_neg, hle]
  | succ m ih =>
    intro i hi f hf p
    obtain ⟨f, rfl⟩ : ∃ f', f = f' + 1 := ⟨f - 1, by omega⟩
    have hle : ¬ 4 ≤ i := by omega
    rw [bX1_keeping_8]
    unfold bX1_keeping_40
    simp (disch := omega) only [pt_lt_, pt_clsome, pt_ck, pt_ckL, pt_cl, pt_clL, pt_cz0, pt_cz1, pt_czi, pt_add, pt_addL, pt_Ladd, pt_mul, pt_mulL, pt_Lmul, pt_sub, pt_subL, pt_Lsub, pt_rem, pt_le, pt_leL, pt_Lle, pt_lt, pt_ltL, pt_Llt, pt_eq, pt_eqL, pt_Leq, pt_m1, pt_lt0, pt_ge0, pt_m1lt0, pt_m1ge0, pt_10, pt_01, pt_00, pt_11, pt_m11, pt_0m1, pt_1m1, pt_ib, pt_ib1, pt_hs, pt_so, pt_ofNat, pt_si, pt_sin, pt_si1, pt_si2, pt_sl, pt_sln, pt_sl0, pt_sl2, pt_sr, pt_srn, pt_sr0, pt_sr1, if_true, if_false, ite_true, ite_false, not_true_eq_false, not_false_eq_true, if_pos, if_neg, hle, px_isOf, ob_zero (by omega : i < 4)]
    exact ih (i + 1) (by omega) f (by omega) _
theorem keep_zero {F e : Nat} (hF : 80 ≤ F) : pX1_keeping F (nI e) (nI 0) = some (nI e) := kp_zero 4 0 (by omega) F (by omega) 1
theorem sh_zero {F hb f : Nat} {hu : hd_T} {κx : kp_K} {v3 : Int32} (hT : TW hu) (hs : κx.2.2 0 4 = some hb) : ∀ m i, i + m = hu.2.1 3 → ∀ fx, m < fx → ∀ acc, bX1_shareOf_6 F hb hu fx κx (nI f) (nI 0) v3 acc (nI i) = some acc := by
  obtain ⟨⟨t0, t1, t2, t3, t4, t5⟩, -⟩ := id hT
  intro m
  induction m with
  | zero =>
    intro i hi fx hfx acc
    obtain ⟨fx, rfl⟩ : ∃ f', fx = f' + 1 := ⟨fx - 1, by omega⟩
    have hle : hu.2.1 3 ≤ i := by omega
    rw [bX1_shareOf_6]
    simp (disch := omega) only [pt_lt_, pt_clsome, pt_ck, pt_ckL, pt_cl, pt_clL, pt_cz0, pt_cz1, pt_czi, pt_add, pt_addL, pt_Ladd, pt_mul, pt_mulL, pt_Lmul, pt_sub, pt_subL, pt_Lsub, pt_rem, pt_le, pt_leL, pt_Lle, pt_lt, pt_ltL, pt_Llt, pt_eq, pt_eqL, pt_Leq, pt_m1, pt_lt0, pt_ge0, pt_m1lt0, pt_m1ge0, pt_10, pt_01, pt_00, pt_11, pt_m11, pt_0m1, pt_1m1, pt_ib, pt_ib1, pt_hs, pt_so, pt_ofNat, pt_si, pt_sin, pt_si1, pt_si2, pt_sl, pt_sln, pt_sl0, pt_sl2, pt_sr, pt_srn, pt_sr0, pt_sr1, if_true, if_false, ite_true, ite_false, not_true_eq_false, not_false_eq_true, if_pos, if_neg, hs, hle]
  | succ m ih =>
    intro i hi fx hfx acc
    obtain ⟨fx, rfl⟩ : ∃ f', fx = f' + 1 := ⟨fx - 1, by omega⟩
    have hle : ¬ hu.2.1 3 ≤ i := by omega
    have hq : i < hu.2.1 3 := by omega
    obtain ⟨y, d, g, z, -, hd, hg, -, -, e31, e32, -⟩ := hT.2.2.2.2.1 i hq
    have next := ih (i + 1) (by omega) fx (by omega) acc
    have zX : bX1_shareOf_147 F hb hu (bX1_shareOf_6 F hb hu fx) κx (nI f) (nI 0) v3 (nI i) acc = some acc := by
      unfold bX1_shareOf_147
      simp only [pt_lt_, pt_addL, Int32.add_zero]
      exact next
    rw [bX1_shareOf_6]
    simp (disch := omega) only [pt_lt_, pt_clsome, pt_ck, pt_ckL, pt_cl, pt_clL, pt_cz0, pt_cz1, pt_czi, pt_add, pt_addL, pt_Ladd, pt_mul, pt_mulL, pt_Lmul, pt_sub, pt_subL, pt_Lsub, pt_rem, pt_le, pt_leL, pt_Lle, pt_lt, pt_ltL, pt_Llt, pt_eq, pt_eqL, pt_Leq, pt_m1, pt_lt0, pt_ge0, pt_m1lt0, pt_m1ge0, pt_10, pt_01, pt_00, pt_11, pt_m11, pt_0m1, pt_1m1, pt_ib, pt_ib1, pt_hs, pt_so, pt_ofNat, pt_si, pt_sin, pt_si1, pt_si2, pt_sl, pt_sln, pt_sl0, pt_sl2, pt_sr, pt_srn, pt_sr0, pt_sr1, if_true, if_false, ite_true, ite_false, not_true_eq_false, not_false_eq_true, hs, hle, e31, e32, px_isOf, ob_zero (by omega : d < 4)]
    rw [next]
    unfold bX1_shareOf_102 bX1_shareOf_103 bX1_shareOf_129
    rcases asA_of hT hd with ⟨-, h2⟩ | ⟨a, h1, -, -, h4⟩
    · simp (disch := omega) only [pt_lt_, pt_clsome, pt_ck, pt_ckL, pt_cl, pt_clL, pt_cz0, pt_cz1, pt_czi, pt_add, pt_addL, pt_Ladd, pt_mul, pt_mulL, pt_Lmul, pt_sub, pt_subL, pt_Lsub, pt_rem, pt_le, pt_leL, pt_Lle, pt_lt, pt_ltL, pt_Llt, pt_eq, pt_eqL, pt_Leq, pt_m1, pt_lt0, pt_ge0, pt_m1lt0, pt_m1ge0, pt_10, pt_01, pt_00, pt_11, pt_m11, pt_0m1, pt_1m1, pt_ib, pt_ib1, pt_hs, pt_so, pt_ofNat, pt_si, pt_sin, pt_si1, pt_si2, pt_sl, pt_sln, pt_sl0, pt_sl2, pt_sr, pt_srn, pt_sr0, pt_sr1, if_true, if_false, ite_true, ite_false, not_true_eq_false, not_false_eq_true, if_pos, if_neg, h2, zX]
      simp only [ite_self]
    · simp (disch := omega) only [pt_lt_, pt_clsome, pt_ck, pt_ckL, pt_cl, pt_clL, pt_cz0, pt_cz1, pt_czi, pt_add, pt_addL, pt_Ladd, pt_mul, pt_mulL, pt_Lmul, pt_sub, pt_subL, pt_Lsub, pt_rem, pt_le, pt_leL, pt_Lle, pt_lt, pt_ltL, pt_Llt, pt_eq, pt_eqL, pt_Leq, pt_m1, pt_lt0, pt_ge0, pt_m1lt0, pt_m1ge0, pt_10, pt_01, pt_00, pt_11, pt_m11, pt_0m1, pt_1m1, pt_ib, pt_ib1, pt_hs, pt_so, pt_ofNat, pt_si, pt_sin, pt_si1, pt_si2, pt_sl, pt_sln, pt_sl0, pt_sl2, pt_sr, pt_srn, pt_sr0, pt_sr1, if_true, if_false, ite_true, ite_false, not_true_eq_false, not_false_eq_true, if_pos, if_neg, h4, ob_zero (by omega : a < 4), zX]
      simp only [ite_self]
