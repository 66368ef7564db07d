/-! PURE LAYER: what a fact is worth to a set of desks -/
set_option maxRecDepth 100000
theorem sh_loop {F hb f : Nat} {hu : hd_T} {κx κm : kp_K} {v2 v2' v3 : Int32} (hT : TW hu) (hM : MT hu κm) (hs : κx.2.2 0 4 = some hb) (hf : f < hu.2.1 1) (hbit : ∀ d, d < hu.2.1 0 → ob v2' (nI d) = ob v2 (nI d)) : ∀ m i, i + m = hu.2.1 3 → ∀ fx fm, m < fx → m < fm → ∀ acc, ∃ z, bX1_shareOf_6 F hb hu fx κx (nI f) v2 v3 acc (nI i) = some z ∧ bX6_worthBy_6 F fm κm (nI f) v2' v3 acc (nI i) = some z := by
  obtain ⟨⟨t0, t1, t2, t3, t4, t5⟩, -⟩ := id hT
  have ew := px_worth (κ := κx) hs hf t1
  have ew2 := (hM.2.2.2.2.1 f hf).2
  intro m
  induction m with
  | zero =>
    intro i hi fx fm hfx hfm acc
    obtain ⟨fx, rfl⟩ : ∃ f', fx = f' + 1 := ⟨fx - 1, by omega⟩
    obtain ⟨fm, rfl⟩ : ∃ f', fm = f' + 1 := ⟨fm - 1, by omega⟩
    have hle : hu.2.1 3 ≤ i := by omega
    rw [bX1_shareOf_6, bX6_worthBy_6]
    simp (disch := omega) only [pt_lt_, pt_clsome, pt_ck, pt_ckL, pt_cl, pt_clL, pt_cz0, pt_cz1, pt_czi, pt_add, pt_addL, pt_Ladd, pt_mul, pt_mulL, pt_Lmul, pt_sub, pt_subL, pt_Lsub, pt_rem, pt_le, pt_leL, pt_Lle, pt_lt, pt_ltL, pt_Llt, pt_eq, pt_eqL, pt_Leq, pt_m1, pt_lt0, pt_ge0, pt_m1lt0, pt_m1ge0, pt_10, pt_01, pt_00, pt_11, pt_m11, pt_0m1, pt_1m1, pt_ib, pt_ib1, pt_hs, pt_so, pt_ofNat, pt_si, pt_sin, pt_si1, pt_si2, pt_sl, pt_sln, pt_sl0, pt_sl2, pt_sr, pt_srn, pt_sr0, pt_sr1, if_true, if_false, ite_true, ite_false, not_true_eq_false, not_false_eq_true, if_pos, if_neg, hs, hM.1 3 (by omega), hle]
    exact ⟨_, rfl, rfl⟩
  | succ m ih =>
    intro i hi fx fm hfx hfm acc
    obtain ⟨fx, rfl⟩ : ∃ f', fx = f' + 1 := ⟨fx - 1, by omega⟩
    obtain ⟨fm, rfl⟩ : ∃ f', fm = f' + 1 := ⟨fm - 1, by omega⟩
    have next := ih (i + 1) (by omega) fx fm (by omega) (by omega)
    have hle : ¬ hu.2.1 3 ≤ i := by omega
    have hq : i < hu.2.1 3 := by omega
    obtain ⟨y, d, g, z, -, hd, hg, -, -, e31, e32, -⟩ := hT.2.2.2.2.1 i hq
    obtain ⟨-, m79, m80, -⟩ := hM.2.2.2.2.2.2.1 i hq
    rw [e31] at m79
    rw [e32] at m80
    have m71 := (hM.2.2.2.1 d hd).2.2
    have e3 := hM.1 3 (by omega)
    rw [bX1_shareOf_6, bX6_worthBy_6]
    simp (disch := omega) only [pt_lt_, pt_clsome, pt_ck, pt_ckL, pt_cl, pt_clL, pt_cz0, pt_cz1, pt_czi, pt_add, pt_addL, pt_Ladd, pt_mul, pt_mulL, pt_Lmul, pt_sub, pt_subL, pt_Lsub, pt_rem, pt_le, pt_leL, pt_Lle, pt_lt, pt_ltL, pt_Llt, pt_eq, pt_eqL, pt_Leq, pt_m1, pt_lt0, pt_ge0, pt_m1lt0, pt_m1ge0, pt_10, pt_01, pt_00, pt_11, pt_m11, pt_0m1, pt_1m1, pt_ib, pt_ib1, pt_hs, pt_so, pt_ofNat, pt_si, pt_sin, pt_si1, pt_si2, pt_sl, pt_sln, pt_sl0, pt_sl2, pt_sr, pt_srn, pt_sr0, pt_sr1, if_true, if_false, ite_true, ite_false, not_true_eq_false, not_false_eq_true, hs, e3, hle, e31, e32, m79, m80, px_isOf]
    by_cases hgf : g = f
    · rw [if_pos hgf, if_pos hgf]
      have hob : ∀ x k : Int32, ((x >>> (k &&& 31)) &&& 1) = ob x k := fun _ _ => rfl
      have e10 : ((1 : Int32) = 0) = False := by decide
      have e01 : ((0 : Int32) = 1) = False := by decide
      -- the ends
      have zX : ∀ v, bX1_shareOf_147 F hb hu (bX1_shareOf_6 F hb hu fx) κx (nI f) v2 v3 (nI i) v = bX1_shareOf_6 F hb hu fx κx (nI f) v2 v3 v (nI (i + 1)) := by
        intro v
        unfold bX1_shareOf_147
        simp only [pt_lt_, pt_addL, Int32.add_zero]
      have wX : ∀ v, bX1_shareOf_139 F hb hu (bX1_shareOf_6 F hb hu fx) κx (nI f) v2 v3 (nI i) v = bX1_shareOf_6 F hb hu fx κx (nI f) v2 v3 (v + hu.1 11 f) (nI (i + 1)) := by
        intro v
        unfold bX1_shareOf_139
        rw [ew]
        simp only [pt_clsome, pt_lt_, pt_addL]
      have zM : ∀ v, bX6_worthBy_138 F (bX6_worthBy_6 F fm) κm (nI f) v2' v3 v (nI i) 0 = bX6_worthBy_6 F fm κm (nI f) v2' v3 v (nI (i + 1)) := by
        intro v
        unfold bX6_worthBy_138
        simp only [if_true, pt_lt_, pt_addL, Int32.add_zero]
      have wM : ∀ v, bX6_worthBy_138 F (bX6_worthBy_6 F fm) κm (nI f) v2' v3 v (nI i) 1 = bX6_worthBy_6 F fm κm (nI f) v2' v3 (v + hu.1 11 f) (nI (i + 1)) := by
        intro v
        unfold bX6_worthBy_138
        rw [if_neg (by decide)]
        simp (disch := omega) only [pt_lt_, pt_clsome, pt_ck, pt_ckL, pt_cl, pt_clL, pt_cz0, pt_cz1, pt_czi, pt_add, pt_addL, pt_Ladd, pt_mul, pt_mulL, pt_Lmul, pt_sub, pt_subL, pt_Lsub, pt_rem, pt_le, pt_leL, pt_Lle, pt_lt, pt_ltL, pt_Llt, pt_eq, pt_eqL, pt_Leq, pt_m1, pt_lt0, pt_ge0, pt_m1lt0, pt_m1ge0, pt_10, pt_01, pt_00, pt_11, pt_m11, pt_0m1, pt_1m1, pt_ib, pt_ib1, pt_hs, pt_so, pt_ofNat, pt_si, pt_sin, pt_si1, pt_si2, pt_sl, pt_sln, pt_sl0, pt_sl2, pt_sr, pt_srn, pt_sr0, pt_sr1, if_true, if_false, ite_true, ite_false, not_true_eq_false, not_false_eq_true, if_pos, if_neg, ew2]
      rw [hob, hbit d hd]
      unfold bX1_shareOf_102 bX1_shareOf_103 bX1_shareOf_129 bX6_worthBy_55 bX6_worthBy_87 bX6_worthBy_88 bX6_worthBy_133 bX6_worthBy_119 bX6_worthBy_115
      rcases asA_of hT hd with ⟨-, h2⟩ | ⟨a, h1, -, -, h4⟩
      · rcases ob_01 v2 (nI d) with q | q
        · rw [q]
          simp (disch := omega) only [pt_lt_, pt_clsome, pt_ck, pt_ckL, pt_cl, pt_clL, pt_cz0, pt_cz1, pt_czi, pt_add, pt_addL, pt_Ladd, pt_mul, pt_mulL, pt_Lmul, pt_sub, pt_subL, pt_Lsub, pt_rem, pt_le, pt_leL, pt_Lle, pt_lt, pt_ltL, pt_Llt, pt_eq, pt_eqL, pt_Leq, pt_m1, pt_lt0, pt_ge0, pt_m1lt0, pt_m1ge0, pt_10, pt_01, pt_00, pt_11, pt_m11, pt_0m1, pt_1m1, pt_ib, pt_ib1, pt_hs, pt_so, pt_ofNat, pt_si, pt_sin, pt_si1, pt_si2, pt_sl, pt_sln, pt_sl0, pt_sl2, pt_sr, pt_srn, pt_sr0, pt_sr1, if_true, if_false, ite_true, ite_false, not_true_eq_false, not_false_eq_true, if_pos, if_neg, h2, m71, zX, wX, zM, wM, e01, e10]
          split <;> exact next _
        · rw [q]
          simp (disch := omega) only [pt_lt_, pt_clsome, pt_ck, pt_ckL, pt_cl, pt_clL, pt_cz0, pt_cz1, pt_czi, pt_add, pt_addL, pt_Ladd, pt_mul, pt_mulL, pt_Lmul, pt_sub, pt_subL, pt_Lsub, pt_rem, pt_le, pt_leL, pt_Lle, pt_lt, pt_ltL, pt_Llt, pt_eq, pt_eqL, pt_Leq, pt_m1, pt_lt0, pt_ge0, pt_m1lt0, pt_m1ge0, pt_10, pt_01, pt_00, pt_11, pt_m11, pt_0m1, pt_1m1, pt_ib, pt_ib1, pt_hs, pt_so, pt_ofNat, pt_si, pt_sin, pt_si1, pt_si2, pt_sl, pt_sln, pt_sl0, pt_sl2, pt_sr, pt_srn, pt_sr0, pt_sr1, if_true, if_false, ite_true, ite_false, not_true_eq_false, not_false_eq_true, if_pos, if_neg, h2, m71, zX, wX, zM, wM, e01, e10]
          split <;> exact next _
      · have ga : ¬ a < 0 := Nat.not_lt_zero a
        rcases ob_01 v2 (nI d) with q | q
        · rcases ob_01 v2 (nI a) with r | r
          · rw [q]
            simp (disch := omega) only [pt_lt_, pt_clsome, pt_ck, pt_ckL, pt_cl, pt_clL, pt_cz0, pt_cz1, pt_czi, pt_add, pt_addL, pt_Ladd, pt_mul, pt_mulL, pt_Lmul, pt_sub, pt_subL, pt_Lsub, pt_rem, pt_le, pt_leL, pt_Lle, pt_lt, pt_ltL, pt_Llt, pt_eq, pt_eqL, pt_Leq, pt_m1, pt_lt0, pt_ge0, pt_m1lt0, pt_m1ge0, pt_10, pt_01, pt_00, pt_11, pt_m11, pt_0m1, pt_1m1, pt_ib, pt_ib1, pt_hs, pt_so, pt_ofNat, pt_si, pt_sin, pt_si1, pt_si2, pt_sl, pt_sln, pt_sl0, pt_sl2, pt_sr, pt_srn, pt_sr0, pt_sr1, if_true, if_false, ite_true, ite_false, not_true_eq_false, not_false_eq_true, if_pos, if_neg, h4, m71, hob, hbit a h1, r, ga, zX, wX, zM, wM, e01, e10]
            split <;> exact next _
          · rw [q]
            simp (disch := omega) only [pt_lt_, pt_clsome, pt_ck, pt_ckL, pt_cl, pt_clL, pt_cz0, pt_cz1, pt_czi, pt_add, pt_addL, pt_Ladd, pt_mul, pt_mulL, pt_Lmul, pt_sub, pt_subL, pt_Lsub, pt_rem, pt_le, pt_leL, pt_Lle, pt_lt, pt_ltL, pt_Llt, pt_eq, pt_eqL, pt_Leq, pt_m1, pt_lt0, pt_ge0, pt_m1lt0, pt_m1ge0, pt_10, pt_01, pt_00, pt_11, pt_m11, pt_0m1, pt_1m1, pt_ib, pt_ib1, pt_hs, pt_so, pt_ofNat, pt_si, pt_sin, pt_si1, pt_si2, pt_sl, pt_sln, pt_sl0, pt_sl2, pt_sr, pt_srn, pt_sr0, pt_sr1, if_true, if_false, ite_true, ite_false, not_true_eq_false, not_false_eq_true, if_pos, if_neg, h4, m71, hob, hbit a h1, r, ga, zX, wX, zM, wM, e01, e10]
            split <;> exact next _
        · rcases ob_01 v2 (nI a) with r | r
          · rw [q]
            simp (disch := omega) only [pt_lt_, pt_clsome, pt_ck, pt_ckL, pt_cl, pt_clL, pt_cz0, pt_cz1, pt_czi, pt_add, pt_addL, pt_Ladd, pt_mul, pt_mulL, pt_Lmul, pt_sub, pt_subL, pt_Lsub, pt_rem, pt_le, pt_leL, pt_Lle, pt_lt, pt_ltL, pt_Llt, pt_eq, pt_eqL, pt_Leq, pt_m1, pt_lt0, pt_ge0, pt_m1lt0, pt_m1ge0, pt_10, pt_01, pt_00, pt_11, pt_m11, pt_0m1, pt_1m1, pt_ib, pt_ib1, pt_hs, pt_so, pt_ofNat, pt_si, pt_sin, pt_si1, pt_si2, pt_sl, pt_sln, pt_sl0, pt_sl2, pt_sr, pt_srn, pt_sr0, pt_sr1, if_true, if_false, ite_true, ite_false, not_true_eq_false, not_false_eq_true, if_pos, if_neg, h4, m71, hob, hbit a h1, r, ga, zX, wX, zM, wM, e01, e10]
            split <;> exact next _
          · rw [q]
            simp (disch := omega) only [pt_lt_, pt_clsome, pt_ck, pt_ckL, pt_cl, pt_clL, pt_cz0, pt_cz1, pt_czi, pt_add, pt_addL, pt_Ladd, pt_mul, pt_mulL, pt_Lmul, pt_sub, pt_subL, pt_Lsub, pt_rem, pt_le, pt_leL, pt_Lle, pt_lt, pt_ltL, pt_Llt, pt_eq, pt_eqL, pt_Leq, pt_m1, pt_lt0, pt_ge0, pt_m1lt0, pt_m1ge0, pt_10, pt_01, pt_00, pt_11, pt_m11, pt_0m1, pt_1m1, pt_ib, pt_ib1, pt_hs, pt_so, pt_ofNat, pt_si, pt_sin, pt_si1, pt_si2, pt_sl, pt_sln, pt_sl0, pt_sl2, pt_sr, pt_srn, pt_sr0, pt_sr1, if_true, if_false, ite_true, ite_false, not_true_eq_false, not_false_eq_true, if_pos, if_neg, h4, m71, hob, hbit a h1, r, ga, zX, wX, zM, wM, e01, e10]
            split <;> exact next _
    · rw [if_neg hgf, if_neg hgf]
      exact next acc
/-- .. in lock step -/
theorem sh_ls {F hb f : Nat} {hu : hd_T} {κx κm : kp_K} {v2 v2' v3 : Int32} (hF : 80 ≤ F) (hT : TW hu) (hM : MT hu κm) (hs : κx.2.2 0 4 = some hb) (hf : f < hu.2.1 1) (hbit : ∀ d, d < hu.2.1 0 → ob v2' (nI d) = ob v2 (nI d)) : ∃ z, pX1_shareOf F hb hu κx (nI f) v2 v3 = some z ∧ pX6_worthBy F κm (nI f) v2' v3 = some z := by
  have t3 := hT.1.2.2.2.1
  exact sh_loop hT hM hs hf hbit (hu.2.1 3) 0 (by omega) F F (by omega) (by omega) 0
