/-! PURE LAYER: what was heard; the tape; counts -/
set_option maxRecDepth 100000
def SX2 (j i : Nat) : Prop := SX j i ∨ j = 63 ∨ j = 64 ∨ (j = 0 ∧ (i = 1 ∨ i = 25 ∨ i = 26)) ∨ j = 1
def SM2 (j i : Nat) : Prop := SM j i ∨ j = 113 ∨ j = 114 ∨ j = 67 ∨ (j = 66 ∧ (i = 2 ∨ i = 71 ∨ i = 72))
theorem IR.same2 {hu : hd_T} (hT : TW hu) {r : Nat} (hr : r = 0 ∨ r = 2) {κx κm κx' κm' : kp_K} (h : IR hu r κx κm) (gx : ∀ j i, j < 66 → ¬ SX2 j i → κx'.1 j i = κx.1 j i) (gm : ∀ j i, 66 ≤ j → ¬ SM2 j i → κm'.1 j i = κm.1 j i) : IR hu r κx' κm' := by
  obtain ⟨dy, mn, w, h⟩ := h
  have hb := Bd_le hT h.1.2.2
  refine ⟨dy, mn, w, h.same2 (by omega) (fun j i a b _ _ _ => ?_) (fun j i q => ?_)⟩
  · rcases hr with rfl | rfl
    · exact gx j i (by omega) (by unfold SX2 SX; omega)
    · exact gx j i (by omega) (by unfold SX2 SX; omega)
  · rcases hr with rfl | rfl
    · exact gm j i (by omega) (by unfold SM2 SM; omega)
    · exact gm j i (by omega) (by unfold SM2 SM; omega)
theorem INV.same2 {hu : hd_T} {hb : Nat} {κx κm κx' κm' : kp_K} (h : INV hu hb κx κm) (gx : ∀ j i, j < 66 → ¬ SX2 j i → κx'.1 j i = κx.1 j i) (gr : ∀ j i, j = 0 ∨ j = 13 ∨ j = 41 ∨ j = 11 → κx'.2.2 j i = κx.2.2 j i) (gm : ∀ j i, 66 ≤ j → ¬ SM2 j i → κm'.1 j i = κm.1 j i) (ht : ∃ t, I_tape t κx' κm') (hh : IH hu κx' κm') : INV hu hb κx' κm' := by
  obtain ⟨h1, h2, h3, -, ⟨f1, f2⟩, ⟨r1, ⟨n1, n2⟩, r3⟩, ⟨c1, c2, c3, c4, c5, c6, c7⟩, ⟨i1, i2⟩, -⟩ := h
  refine ⟨h1, h2.same (fun j i a b => gm j i (by omega) (by unfold SM2 SM; omega)), by rw [gr 0 4 (by omega)]; exact h3, ht, ⟨?_, ?_⟩, ⟨r1.same2 h1 (Or.inl rfl) gx gm, ⟨?_, ?_⟩, by rw [gr 13 0 (by omega)]; exact r3⟩, ⟨?_, ?_, ?_, ?_, ?_, ?_, ?_⟩, ⟨?_, ?_⟩, hh⟩
  · rw [gx 0 2 (by omega) (by unfold SX2 SX; omega), gm 66 33 (by omega) (by unfold SM2 SM; omega)]; exact f1
  · rw [gx 0 3 (by omega) (by unfold SX2 SX; omega), gm 66 34 (by omega) (by unfold SM2 SM; omega)]; exact f2
  · rw [gx _ 13 (by omega) (by unfold SX2 SX; omega)]; exact n1
  · rw [gm 66 59 (by omega) (by unfold SM2 SM; omega)]; exact n2
  · rw [gx 11 1 (by omega) (by unfold SX2 SX; omega)]; exact c1
  · rw [gx 11 2 (by omega) (by unfold SX2 SX; omega)]; exact c2
  · rw [gx 11 3 (by omega) (by unfold SX2 SX; omega)]; exact c3
  · rw [gx 11 4 (by omega) (by unfold SX2 SX; omega)]; exact c4
  · rw [gx 11 5 (by omega) (by unfold SX2 SX; omega)]; exact c5
  · rw [gx 11 6 (by omega) (by unfold SX2 SX; omega)]; exact c6
  · rw [gr 11 0 (by omega)]; exact c7
  · rw [gx 0 27 (by omega) (by unfold SX2 SX; omega), gm 66 57 (by omega) (by unfold SM2 SM; omega)]; exact i1
  · rw [gm 66 57 (by omega) (by unfold SM2 SM; omega), gr 41 0 (by omega)]
    rcases i2 with i2 | ⟨i2, i3, i4⟩
    · exact Or.inl i2
    · exact Or.inr ⟨i2, i3, i4.same2 h1 (Or.inr rfl) gx gm⟩
/-- one more was heard -/
theorem inv_heard {hu : hd_T} {hb n : Nat} {κx κm : kp_K} (I : INV hu hb κx κm) (hn : n < 24) (e1 : κx.1 0 25 = nI n) (e2 : κm.1 66 71 = nI n) {v a : Int32} (hv : (∃ q b : Nat, q < hu.2.1 3 ∧ b ≤ 2 ∧ v = nI q ∧ a = nI b) ∨ (v = -1 ∧ ∃ j : Nat, j < n ∧ a = nI j)) : INV hu hb (s_i (s_i (s_i κx 63 n v) 64 n a) 0 25 (nI (n + 1))) (s_i (s_i (s_i (s_i κm 66 0 0) 113 n v) 114 n a) 66 71 (nI (n + 1))) := by
  obtain ⟨-, -, -, ⟨t, t1, t2, t3, t4⟩, -, -, -, -, ⟨n', q1, q2, q3, q4, q5, q6⟩⟩ := id I
  have hn9 : n' = n := by
    rw [e1, pt_eq (by omega) (by omega)] at q2
    exact q2.symm
  subst hn9
  refine I.same2 (fun j i a b => pt_sin (fun q => b (by unfold SX2; omega)) |>.trans (pt_sin (fun q => b (by unfold SX2; omega)) |>.trans (pt_sin (fun q => b (by unfold SX2; omega))))) (fun _ _ _ => rfl) (fun j i a b => ?_) ⟨t, ?_, ?_, t3, fun i hi => ?_⟩ ⟨n' + 1, by omega, ?_, ?_, ?_, ?_, fun k hk => ?_⟩
  · rw [pt_sin (fun q => b (by unfold SM2; omega)), pt_sin (fun q => b (by unfold SM2; omega)), pt_sin (fun q => b (by unfold SM2; omega)), pt_sin (fun q => b (by unfold SM2 SM; omega))]
  · simp (disch := omega) only [pt_lt_, pt_clsome, pt_ck, pt_ckL, pt_cl, pt_clL, pt_cz0, pt_cz1, pt_czi, pt_add, pt_addL, pt_Ladd, pt_mul, pt_mulL, pt_Lmul, pt_sub, pt_subL, pt_Lsub, pt_rem, pt_le, pt_leL, pt_Lle, pt_lt, pt_ltL, pt_Llt, pt_eq, pt_eqL, pt_Leq, pt_m1, pt_lt0, pt_ge0, pt_m1lt0, pt_m1ge0, pt_10, pt_01, pt_00, pt_11, pt_m11, pt_0m1, pt_1m1, pt_ib, pt_ib1, pt_hs, pt_so, pt_ofNat, pt_si, pt_sin, pt_si1, pt_si2, pt_sl, pt_sln, pt_sl0, pt_sl2, pt_sr, pt_srn, pt_sr0, pt_sr1, if_true, if_false, ite_true, ite_false, not_true_eq_false, not_false_eq_true, if_pos, if_neg]; exact t1
  · simp (disch := omega) only [pt_lt_, pt_clsome, pt_ck, pt_ckL, pt_cl, pt_clL, pt_cz0, pt_cz1, pt_czi, pt_add, pt_addL, pt_Ladd, pt_mul, pt_mulL, pt_Lmul, pt_sub, pt_subL, pt_Lsub, pt_rem, pt_le, pt_leL, pt_Lle, pt_lt, pt_ltL, pt_Llt, pt_eq, pt_eqL, pt_Leq, pt_m1, pt_lt0, pt_ge0, pt_m1lt0, pt_m1ge0, pt_10, pt_01, pt_00, pt_11, pt_m11, pt_0m1, pt_1m1, pt_ib, pt_ib1, pt_hs, pt_so, pt_ofNat, pt_si, pt_sin, pt_si1, pt_si2, pt_sl, pt_sln, pt_sl0, pt_sl2, pt_sr, pt_srn, pt_sr0, pt_sr1, if_true, if_false, ite_true, ite_false, not_true_eq_false, not_false_eq_true, if_pos, if_neg]; exact t2
  · simp (disch := omega) only [pt_lt_, pt_clsome, pt_ck, pt_ckL, pt_cl, pt_clL, pt_cz0, pt_cz1, pt_czi, pt_add, pt_addL, pt_Ladd, pt_mul, pt_mulL, pt_Lmul, pt_sub, pt_subL, pt_Lsub, pt_rem, pt_le, pt_leL, pt_Lle, pt_lt, pt_ltL, pt_Llt, pt_eq, pt_eqL, pt_Leq, pt_m1, pt_lt0, pt_ge0, pt_m1lt0, pt_m1ge0, pt_10, pt_01, pt_00, pt_11, pt_m11, pt_0m1, pt_1m1, pt_ib, pt_ib1, pt_hs, pt_so, pt_ofNat, pt_si, pt_sin, pt_si1, pt_si2, pt_sl, pt_sln, pt_sl0, pt_sl2, pt_sr, pt_srn, pt_sr0, pt_sr1, if_true, if_false, ite_true, ite_false, not_true_eq_false, not_false_eq_true, if_pos, if_neg]; exact t4 i hi
  · simp (disch := omega) only [pt_lt_, pt_clsome, pt_ck, pt_ckL, pt_cl, pt_clL, pt_cz0, pt_cz1, pt_czi, pt_add, pt_addL, pt_Ladd, pt_mul, pt_mulL, pt_Lmul, pt_sub, pt_subL, pt_Lsub, pt_rem, pt_le, pt_leL, pt_Lle, pt_lt, pt_ltL, pt_Llt, pt_eq, pt_eqL, pt_Leq, pt_m1, pt_lt0, pt_ge0, pt_m1lt0, pt_m1ge0, pt_10, pt_01, pt_00, pt_11, pt_m11, pt_0m1, pt_1m1, pt_ib, pt_ib1, pt_hs, pt_so, pt_ofNat, pt_si, pt_sin, pt_si1, pt_si2, pt_sl, pt_sln, pt_sl0, pt_sl2, pt_sr, pt_srn, pt_sr0, pt_sr1, if_true, if_false, ite_true, ite_false, not_true_eq_false, not_false_eq_true, if_pos, if_neg]
  · simp (disch := omega) only [pt_lt_, pt_clsome, pt_ck, pt_ckL, pt_cl, pt_clL, pt_cz0, pt_cz1, pt_czi, pt_add, pt_addL, pt_Ladd, pt_mul, pt_mulL, pt_Lmul, pt_sub, pt_subL, pt_Lsub, pt_rem, pt_le, pt_leL, pt_Lle, pt_lt, pt_ltL, pt_Llt, pt_eq, pt_eqL, pt_Leq, pt_m1, pt_lt0, pt_ge0, pt_m1lt0, pt_m1ge0, pt_10, pt_01, pt_00, pt_11, pt_m11, pt_0m1, pt_1m1, pt_ib, pt_ib1, pt_hs, pt_so, pt_ofNat, pt_si, pt_sin, pt_si1, pt_si2, pt_sl, pt_sln, pt_sl0, pt_sl2, pt_sr, pt_srn, pt_sr0, pt_sr1, if_true, if_false, ite_true, ite_false, not_true_eq_false, not_false_eq_true, if_pos, if_neg]
  · simp (disch := omega) only [pt_lt_, pt_clsome, pt_ck, pt_ckL, pt_cl, pt_clL, pt_cz0, pt_cz1, pt_czi, pt_add, pt_addL, pt_Ladd, pt_mul, pt_mulL, pt_Lmul, pt_sub, pt_subL, pt_Lsub, pt_rem, pt_le, pt_leL, pt_Lle, pt_lt, pt_ltL, pt_Llt, pt_eq, pt_eqL, pt_Leq, pt_m1, pt_lt0, pt_ge0, pt_m1lt0, pt_m1ge0, pt_10, pt_01, pt_00, pt_11, pt_m11, pt_0m1, pt_1m1, pt_ib, pt_ib1, pt_hs, pt_so, pt_ofNat, pt_si, pt_sin, pt_si1, pt_si2, pt_sl, pt_sln, pt_sl0, pt_sl2, pt_sr, pt_srn, pt_sr0, pt_sr1, if_true, if_false, ite_true, ite_false, not_true_eq_false, not_false_eq_true, if_pos, if_neg]; exact q4
  · simp (disch := omega) only [pt_lt_, pt_clsome, pt_ck, pt_ckL, pt_cl, pt_clL, pt_cz0, pt_cz1, pt_czi, pt_add, pt_addL, pt_Ladd, pt_mul, pt_mulL, pt_Lmul, pt_sub, pt_subL, pt_Lsub, pt_rem, pt_le, pt_leL, pt_Lle, pt_lt, pt_ltL, pt_Llt, pt_eq, pt_eqL, pt_Leq, pt_m1, pt_lt0, pt_ge0, pt_m1lt0, pt_m1ge0, pt_10, pt_01, pt_00, pt_11, pt_m11, pt_0m1, pt_1m1, pt_ib, pt_ib1, pt_hs, pt_so, pt_ofNat, pt_si, pt_sin, pt_si1, pt_si2, pt_sl, pt_sln, pt_sl0, pt_sl2, pt_sr, pt_srn, pt_sr0, pt_sr1, if_true, if_false, ite_true, ite_false, not_true_eq_false, not_false_eq_true, if_pos, if_neg]
    rcases q5 with q5 | ⟨s, s1, s2⟩
    · exact Or.inl q5
    · exact Or.inr ⟨s, by omega, s2⟩
  · by_cases hkn : k = n'
    · subst hkn
      simp (disch := omega) only [pt_lt_, pt_clsome, pt_ck, pt_ckL, pt_cl, pt_clL, pt_cz0, pt_cz1, pt_czi, pt_add, pt_addL, pt_Ladd, pt_mul, pt_mulL, pt_Lmul, pt_sub, pt_subL, pt_Lsub, pt_rem, pt_le, pt_leL, pt_Lle, pt_lt, pt_ltL, pt_Llt, pt_eq, pt_eqL, pt_Leq, pt_m1, pt_lt0, pt_ge0, pt_m1lt0, pt_m1ge0, pt_10, pt_01, pt_00, pt_11, pt_m11, pt_0m1, pt_1m1, pt_ib, pt_ib1, pt_hs, pt_so, pt_ofNat, pt_si, pt_sin, pt_si1, pt_si2, pt_sl, pt_sln, pt_sl0, pt_sl2, pt_sr, pt_srn, pt_sr0, pt_sr1, if_true, if_false, ite_true, ite_false, not_true_eq_false, not_false_eq_true, if_pos, if_neg]
      exact ⟨trivial, trivial, hv⟩
    · simp (disch := omega) only [pt_lt_, pt_clsome, pt_ck, pt_ckL, pt_cl, pt_clL, pt_cz0, pt_cz1, pt_czi, pt_add, pt_addL, pt_Ladd, pt_mul, pt_mulL, pt_Lmul, pt_sub, pt_subL, pt_Lsub, pt_rem, pt_le, pt_leL, pt_Lle, pt_lt, pt_ltL, pt_Llt, pt_eq, pt_eqL, pt_Leq, pt_m1, pt_lt0, pt_ge0, pt_m1lt0, pt_m1ge0, pt_10, pt_01, pt_00, pt_11, pt_m11, pt_0m1, pt_1m1, pt_ib, pt_ib1, pt_hs, pt_so, pt_ofNat, pt_si, pt_sin, pt_si1, pt_si2, pt_sl, pt_sln, pt_sl0, pt_sl2, pt_sr, pt_srn, pt_sr0, pt_sr1, if_true, if_false, ite_true, ite_false, not_true_eq_false, not_false_eq_true, if_pos, if_neg]
      exact q6 k (by omega)
theorem xf3 {κ : kp_K} {n : Nat} {v a x : Int32} : XF κ (s_i (s_i (s_i κ 63 n v) 64 n a) 0 25 x) := fun j i hj => ⟨by simp (disch := omega) only [pt_lt_, pt_clsome, pt_ck, pt_ckL, pt_cl, pt_clL, pt_cz0, pt_cz1, pt_czi, pt_add, pt_addL, pt_Ladd, pt_mul, pt_mulL, pt_Lmul, pt_sub, pt_subL, pt_Lsub, pt_rem, pt_le, pt_leL, pt_Lle, pt_lt, pt_ltL, pt_Llt, pt_eq, pt_eqL, pt_Leq, pt_m1, pt_lt0, pt_ge0, pt_m1lt0, pt_m1ge0, pt_10, pt_01, pt_00, pt_11, pt_m11, pt_0m1, pt_1m1, pt_ib, pt_ib1, pt_hs, pt_so, pt_ofNat, pt_si, pt_sin, pt_si1, pt_si2, pt_sl, pt_sln, pt_sl0, pt_sl2, pt_sr, pt_srn, pt_sr0, pt_sr1, if_true, if_false, ite_true, ite_false, not_true_eq_false, not_false_eq_true, if_pos, if_neg], rfl⟩
theorem mf4 {κ : kp_K} {n : Nat} {v a x : Int32} : MF κ (s_i (s_i (s_i (s_i κ 66 0 0) 113 n v) 114 n a) 66 71 x) := ⟨fun j i hj => ⟨by simp (disch := omega) only [pt_lt_, pt_clsome, pt_ck, pt_ckL, pt_cl, pt_clL, pt_cz0, pt_cz1, pt_czi, pt_add, pt_addL, pt_Ladd, pt_mul, pt_mulL, pt_Lmul, pt_sub, pt_subL, pt_Lsub, pt_rem, pt_le, pt_leL, pt_Lle, pt_lt, pt_ltL, pt_Llt, pt_eq, pt_eqL, pt_Leq, pt_m1, pt_lt0, pt_ge0, pt_m1lt0, pt_m1ge0, pt_10, pt_01, pt_00, pt_11, pt_m11, pt_0m1, pt_1m1, pt_ib, pt_ib1, pt_hs, pt_so, pt_ofNat, pt_si, pt_sin, pt_si1, pt_si2, pt_sl, pt_sln, pt_sl0, pt_sl2, pt_sr, pt_srn, pt_sr0, pt_sr1, if_true, if_false, ite_true, ite_false, not_true_eq_false, not_false_eq_true, if_pos, if_neg], rfl⟩, rfl⟩
theorem ls_hear {hu : hd_T} {hb : Nat} {κx κm : kp_K} (I : INV hu hb κx κm) (v a : Int32) : iLS hu hb κx κm (pX1_hear hb hu κx v a) (pX6_hear κm v a) := by
  obtain ⟨⟨⟨t0, t1, t2, t3, t4, t5⟩, -⟩, hM, hs, -, -, -, -, -, ⟨n, q1, q2, q3, -⟩⟩ := id I
  have hM' := (I.th (v := 0)).2.1
  have no : iLS hu hb κx κm (some ((-1 : Int32), κx)) (some ((-1 : Int32), s_i κm 66 0 0)) := ⟨_, _, _, rfl, rfl, I.th, fun _ _ _ => ⟨rfl, rfl⟩, MF0⟩
  unfold pX1_hear pX6_hear pX1_hears
  simp (disch := omega) only [pt_lt_, pt_clsome, pt_ck, pt_ckL, pt_cl, pt_clL, pt_cz0, pt_cz1, pt_czi, pt_add, pt_addL, pt_Ladd, pt_mul, pt_mulL, pt_Lmul, pt_sub, pt_subL, pt_Lsub, pt_rem, pt_le, pt_leL, pt_Lle, pt_lt, pt_ltL, pt_Llt, pt_eq, pt_eqL, pt_Leq, pt_m1, pt_lt0, pt_ge0, pt_m1lt0, pt_m1ge0, pt_10, pt_01, pt_00, pt_11, pt_m11, pt_0m1, pt_1m1, pt_ib, pt_ib1, pt_hs, pt_so, pt_ofNat, pt_si, pt_sin, pt_si1, pt_si2, pt_sl, pt_sln, pt_sl0, pt_sl2, pt_sr, pt_srn, pt_sr0, pt_sr1, if_true, if_false, ite_true, ite_false, not_true_eq_false, not_false_eq_true, hs, isIn_below v (by omega : hu.2.1 3 < 1073741824), pm_isQuestion hM' v, px_isIn, q2, q3]
  simp only [ite_not]
  by_cases hn : 24 ≤ n
  · rw [if_pos hn]
    have hn2 : n = 24 := by omega
    rw [if_pos hn2]
    by_cases h1 : 0 ≤ v ∧ v < nI (hu.2.1 3)
    · rw [if_pos h1]
      split
      · exact no
      · split
        · exact no
        · exact no
    · rw [if_neg h1]; exact no
  · have hn2 : ¬ n = 24 := by omega
    rw [if_neg hn, if_neg hn2]
    by_cases h1 : 0 ≤ v ∧ v < nI (hu.2.1 3)
    · rw [if_pos h1, if_pos h1]
      by_cases h2 : 0 ≤ a ∧ a ≤ 2
      · rw [if_pos h2, if_neg (Int32.not_lt.mpr h2.1), if_neg (Int32.not_lt.mpr h2.2)]
        obtain ⟨q, hq, rfl⟩ := below h1 (by omega)
        obtain ⟨b, hb2, rfl⟩ := nI_of2 (M := 2) (n := 2) (by decide) (Int32.not_lt.mpr h2.1) h2.2
        refine ⟨_, _, _, rfl, rfl, inv_heard I (by omega) q2 q3 (Or.inl ⟨q, b, hq, hb2, rfl, rfl⟩), xf3, mf4⟩
      · rw [if_neg h2]
        by_cases h3 : a < 0
        · rw [if_pos h3]; exact no
        · rw [if_neg h3, if_pos (Int32.not_le.mp (fun q => h2 ⟨Int32.not_lt.mp h3, q⟩))]; exact no
    · rw [if_neg h1, if_neg h1]; exact no
theorem ls_strike {hu : hd_T} {hb : Nat} {κx κm : kp_K} (I : INV hu hb κx κm) (v : Int32) : iLS hu hb κx κm (pX1_strike κx v) (pX6_strike κm v) := by
  obtain ⟨-, hM, hs, -, -, -, -, -, ⟨n, q1, q2, q3, -⟩⟩ := id I
  have no : iLS hu hb κx κm (some ((-1 : Int32), κx)) (some ((-1 : Int32), s_i κm 66 0 0)) := ⟨_, _, _, rfl, rfl, I.th, fun _ _ _ => ⟨rfl, rfl⟩, MF0⟩
  unfold pX1_strike pX6_strike pX1_hears
  simp (disch := omega) only [pt_lt_, pt_clsome, pt_ck, pt_ckL, pt_cl, pt_clL, pt_cz0, pt_cz1, pt_czi, pt_add, pt_addL, pt_Ladd, pt_mul, pt_mulL, pt_Lmul, pt_sub, pt_subL, pt_Lsub, pt_rem, pt_le, pt_leL, pt_Lle, pt_lt, pt_ltL, pt_Llt, pt_eq, pt_eqL, pt_Leq, pt_m1, pt_lt0, pt_ge0, pt_m1lt0, pt_m1ge0, pt_10, pt_01, pt_00, pt_11, pt_m11, pt_0m1, pt_1m1, pt_ib, pt_ib1, pt_hs, pt_so, pt_ofNat, pt_si, pt_sin, pt_si1, pt_si2, pt_sl, pt_sln, pt_sl0, pt_sl2, pt_sr, pt_srn, pt_sr0, pt_sr1, if_true, if_false, ite_true, ite_false, not_true_eq_false, not_false_eq_true, isIn_below v (by omega : n < 1073741824), q2, q3]
  simp only [ite_not]
  by_cases hn : 24 ≤ n
  · rw [if_pos hn]
    have hn2 : n = 24 := by omega
    rw [if_pos hn2]
    split
    · exact no
    · split
      · exact no
      · exact no
  · have hn2 : ¬ n = 24 := by omega
    rw [if_neg hn, if_neg hn2]
    by_cases h1 : 0 ≤ v ∧ v < nI n
    · rw [if_pos h1, if_neg (Int32.not_lt.mpr h1.1), if_neg (Int32.not_le.mpr h1.2)]
      obtain ⟨j, hj, rfl⟩ := below h1 (by omega)
      refine ⟨_, _, _, rfl, rfl, inv_heard I (by omega) q2 q3 (Or.inr ⟨rfl, j, hj, rfl⟩), xf3, mf4⟩
    · rw [if_neg h1]
      by_cases h2 : v < 0
      · rw [if_pos h2]; exact no
      · rw [if_neg h2, if_pos (Int32.not_lt.mp (fun q => h1 ⟨Int32.not_lt.mp h2, q⟩))]; exact no
theorem ls_known {hu : hd_T} {hb : Nat} {κx κm : kp_K} (I : INV hu hb κx κm) (v : Int32) : iLS hu hb κx κm (pX1_known κx v) (pX6_known κm v) := by
  obtain ⟨-, hM, hs, ⟨t, t1, t2, t3, t4⟩, -, -, -, -, ⟨n, q1, q2, q3, q4, q5, q6⟩⟩ := id I
  have no : iLS hu hb κx κm (some ((0 : Int32), κx)) (some ((0 : Int32), s_i κm 66 0 0)) := ⟨_, _, _, rfl, rfl, I.th, fun _ _ _ => ⟨rfl, rfl⟩, MF0⟩
  unfold pX1_known pX6_known
  simp (disch := omega) only [pt_lt_, pt_clsome, pt_ck, pt_ckL, pt_cl, pt_clL, pt_cz0, pt_cz1, pt_czi, pt_add, pt_addL, pt_Ladd, pt_mul, pt_mulL, pt_Lmul, pt_sub, pt_subL, pt_Lsub, pt_rem, pt_le, pt_leL, pt_Lle, pt_lt, pt_ltL, pt_Llt, pt_eq, pt_eqL, pt_Leq, pt_m1, pt_lt0, pt_ge0, pt_m1lt0, pt_m1ge0, pt_10, pt_01, pt_00, pt_11, pt_m11, pt_0m1, pt_1m1, pt_ib, pt_ib1, pt_hs, pt_so, pt_ofNat, pt_si, pt_sin, pt_si1, pt_si2, pt_sl, pt_sln, pt_sl0, pt_sl2, pt_sr, pt_srn, pt_sr0, pt_sr1, if_true, if_false, ite_true, ite_false, not_true_eq_false, not_false_eq_true, px_isIn, q2, q3]
  simp only [ite_not]
  by_cases h1 : -1 ≤ v ∧ v ≤ nI n
  · rw [if_pos h1, if_neg (Int32.not_lt.mpr h1.1), if_pos h1.2]
    refine ⟨_, _, _, rfl, rfl, ?_, fun j i hj => ⟨by simp (disch := omega) only [pt_lt_, pt_clsome, pt_ck, pt_ckL, pt_cl, pt_clL, pt_cz0, pt_cz1, pt_czi, pt_add, pt_addL, pt_Ladd, pt_mul, pt_mulL, pt_Lmul, pt_sub, pt_subL, pt_Lsub, pt_rem, pt_le, pt_leL, pt_Lle, pt_lt, pt_ltL, pt_Llt, pt_eq, pt_eqL, pt_Leq, pt_m1, pt_lt0, pt_ge0, pt_m1lt0, pt_m1ge0, pt_10, pt_01, pt_00, pt_11, pt_m11, pt_0m1, pt_1m1, pt_ib, pt_ib1, pt_hs, pt_so, pt_ofNat, pt_si, pt_sin, pt_si1, pt_si2, pt_sl, pt_sln, pt_sl0, pt_sl2, pt_sr, pt_srn, pt_sr0, pt_sr1, if_true, if_false, ite_true, ite_false, not_true_eq_false, not_false_eq_true, if_pos, if_neg], rfl⟩, ⟨fun j i hj => ⟨by simp (disch := omega) only [pt_lt_, pt_clsome, pt_ck, pt_ckL, pt_cl, pt_clL, pt_cz0, pt_cz1, pt_czi, pt_add, pt_addL, pt_Ladd, pt_mul, pt_mulL, pt_Lmul, pt_sub, pt_subL, pt_Lsub, pt_rem, pt_le, pt_leL, pt_Lle, pt_lt, pt_ltL, pt_Llt, pt_eq, pt_eqL, pt_Leq, pt_m1, pt_lt0, pt_ge0, pt_m1lt0, pt_m1ge0, pt_10, pt_01, pt_00, pt_11, pt_m11, pt_0m1, pt_1m1, pt_ib, pt_ib1, pt_hs, pt_so, pt_ofNat, pt_si, pt_sin, pt_si1, pt_si2, pt_sl, pt_sln, pt_sl0, pt_sl2, pt_sr, pt_srn, pt_sr0, pt_sr1, if_true, if_false, ite_true, ite_false, not_true_eq_false, not_false_eq_true, if_pos, if_neg], rfl⟩, rfl⟩⟩
    refine I.same2 (fun j i a b => pt_sin (fun q => b (by unfold SX2; omega))) (fun _ _ _ => rfl) (fun j i a b => (pt_sin (fun q => b (by unfold SM2; omega))).trans (pt_sin (fun q => b (by unfold SM2 SM; omega)))) ⟨t, ?_, ?_, t3, fun i hi => ?_⟩ ⟨n, q1, ?_, ?_, ?_, ?_, fun k hk => ?_⟩
    · simp (disch := omega) only [pt_lt_, pt_clsome, pt_ck, pt_ckL, pt_cl, pt_clL, pt_cz0, pt_cz1, pt_czi, pt_add, pt_addL, pt_Ladd, pt_mul, pt_mulL, pt_Lmul, pt_sub, pt_subL, pt_Lsub, pt_rem, pt_le, pt_leL, pt_Lle, pt_lt, pt_ltL, pt_Llt, pt_eq, pt_eqL, pt_Leq, pt_m1, pt_lt0, pt_ge0, pt_m1lt0, pt_m1ge0, pt_10, pt_01, pt_00, pt_11, pt_m11, pt_0m1, pt_1m1, pt_ib, pt_ib1, pt_hs, pt_so, pt_ofNat, pt_si, pt_sin, pt_si1, pt_si2, pt_sl, pt_sln, pt_sl0, pt_sl2, pt_sr, pt_srn, pt_sr0, pt_sr1, if_true, if_false, ite_true, ite_false, not_true_eq_false, not_false_eq_true, if_pos, if_neg]; exact t1
    · simp (disch := omega) only [pt_lt_, pt_clsome, pt_ck, pt_ckL, pt_cl, pt_clL, pt_cz0, pt_cz1, pt_czi, pt_add, pt_addL, pt_Ladd, pt_mul, pt_mulL, pt_Lmul, pt_sub, pt_subL, pt_Lsub, pt_rem, pt_le, pt_leL, pt_Lle, pt_lt, pt_ltL, pt_Llt, pt_eq, pt_eqL, pt_Leq, pt_m1, pt_lt0, pt_ge0, pt_m1lt0, pt_m1ge0, pt_10, pt_01, pt_00, pt_11, pt_m11, pt_0m1, pt_1m1, pt_ib, pt_ib1, pt_hs, pt_so, pt_ofNat, pt_si, pt_sin, pt_si1, pt_si2, pt_sl, pt_sln, pt_sl0, pt_sl2, pt_sr, pt_srn, pt_sr0, pt_sr1, if_true, if_false, ite_true, ite_false, not_true_eq_false, not_false_eq_true, if_pos, if_neg]; exact t2
    · simp (disch := omega) only [pt_lt_, pt_clsome, pt_ck, pt_ckL, pt_cl, pt_clL, pt_cz0, pt_cz1, pt_czi, pt_add, pt_addL, pt_Ladd, pt_mul, pt_mulL, pt_Lmul, pt_sub, pt_subL, pt_Lsub, pt_rem, pt_le, pt_leL, pt_Lle, pt_lt, pt_ltL, pt_Llt, pt_eq, pt_eqL, pt_Leq, pt_m1, pt_lt0, pt_ge0, pt_m1lt0, pt_m1ge0, pt_10, pt_01, pt_00, pt_11, pt_m11, pt_0m1, pt_1m1, pt_ib, pt_ib1, pt_hs, pt_so, pt_ofNat, pt_si, pt_sin, pt_si1, pt_si2, pt_sl, pt_sln, pt_sl0, pt_sl2, pt_sr, pt_srn, pt_sr0, pt_sr1, if_true, if_false, ite_true, ite_false, not_true_eq_false, not_false_eq_true, if_pos, if_neg]; exact t4 i hi
    · simp (disch := omega) only [pt_lt_, pt_clsome, pt_ck, pt_ckL, pt_cl, pt_clL, pt_cz0, pt_cz1, pt_czi, pt_add, pt_addL, pt_Ladd, pt_mul, pt_mulL, pt_Lmul, pt_sub, pt_subL, pt_Lsub, pt_rem, pt_le, pt_leL, pt_Lle, pt_lt, pt_ltL, pt_Llt, pt_eq, pt_eqL, pt_Leq, pt_m1, pt_lt0, pt_ge0, pt_m1lt0, pt_m1ge0, pt_10, pt_01, pt_00, pt_11, pt_m11, pt_0m1, pt_1m1, pt_ib, pt_ib1, pt_hs, pt_so, pt_ofNat, pt_si, pt_sin, pt_si1, pt_si2, pt_sl, pt_sln, pt_sl0, pt_sl2, pt_sr, pt_srn, pt_sr0, pt_sr1, if_true, if_false, ite_true, ite_false, not_true_eq_false, not_false_eq_true, if_pos, if_neg]; exact q2
    · simp (disch := omega) only [pt_lt_, pt_clsome, pt_ck, pt_ckL, pt_cl, pt_clL, pt_cz0, pt_cz1, pt_czi, pt_add, pt_addL, pt_Ladd, pt_mul, pt_mulL, pt_Lmul, pt_sub, pt_subL, pt_Lsub, pt_rem, pt_le, pt_leL, pt_Lle, pt_lt, pt_ltL, pt_Llt, pt_eq, pt_eqL, pt_Leq, pt_m1, pt_lt0, pt_ge0, pt_m1lt0, pt_m1ge0, pt_10, pt_01, pt_00, pt_11, pt_m11, pt_0m1, pt_1m1, pt_ib, pt_ib1, pt_hs, pt_so, pt_ofNat, pt_si, pt_sin, pt_si1, pt_si2, pt_sl, pt_sln, pt_sl0, pt_sl2, pt_sr, pt_srn, pt_sr0, pt_sr1, if_true, if_false, ite_true, ite_false, not_true_eq_false, not_false_eq_true, if_pos, if_neg]; exact q3
    · simp (disch := omega) only [pt_lt_, pt_clsome, pt_ck, pt_ckL, pt_cl, pt_clL, pt_cz0, pt_cz1, pt_czi, pt_add, pt_addL, pt_Ladd, pt_mul, pt_mulL, pt_Lmul, pt_sub, pt_subL, pt_Lsub, pt_rem, pt_le, pt_leL, pt_Lle, pt_lt, pt_ltL, pt_Llt, pt_eq, pt_eqL, pt_Leq, pt_m1, pt_lt0, pt_ge0, pt_m1lt0, pt_m1ge0, pt_10, pt_01, pt_00, pt_11, pt_m11, pt_0m1, pt_1m1, pt_ib, pt_ib1, pt_hs, pt_so, pt_ofNat, pt_si, pt_sin, pt_si1, pt_si2, pt_sl, pt_sln, pt_sl0, pt_sl2, pt_sr, pt_srn, pt_sr0, pt_sr1, if_true, if_false, ite_true, ite_false, not_true_eq_false, not_false_eq_true, if_pos, if_neg]
    · simp (disch := omega) only [pt_lt_, pt_clsome, pt_ck, pt_ckL, pt_cl, pt_clL, pt_cz0, pt_cz1, pt_czi, pt_add, pt_addL, pt_Ladd, pt_mul, pt_mulL, pt_Lmul, pt_sub, pt_subL, pt_Lsub, pt_rem, pt_le, pt_leL, pt_Lle, pt_lt, pt_ltL, pt_Llt, pt_eq, pt_eqL, pt_Leq, pt_m1, pt_lt0, pt_ge0, pt_m1lt0, pt_m1ge0, pt_10, pt_01, pt_00, pt_11, pt_m11, pt_0m1, pt_1m1, pt_ib, pt_ib1, pt_hs, pt_so, pt_ofNat, pt_si, pt_sin, pt_si1, pt_si2, pt_sl, pt_sln, pt_sl0, pt_sl2, pt_sr, pt_srn, pt_sr0, pt_sr1, if_true, if_false, ite_true, ite_false, not_true_eq_false, not_false_eq_true, if_pos, if_neg]
      by_cases hv0 : v < 0
      · left
        have a1 := h1.1
        rw [Int32.lt_iff_toInt_lt] at hv0
        rw [Int32.le_iff_toInt_le] at a1
        rw [show (-1 : Int32).toInt = -1 from by decide] at a1
        rw [show (0 : Int32).toInt = 0 from by decide] at hv0
        exact Int32.toInt_inj.mp (by rw [show (-1 : Int32).toInt = -1 from by decide]; omega)
      · right
        obtain ⟨j, hj, rfl⟩ := nI_of hv0
        have a2 := h1.2
        rw [pt_le (by omega) (by omega)] at a2
        exact ⟨j, a2, rfl⟩
    · simp (disch := omega) only [pt_lt_, pt_clsome, pt_ck, pt_ckL, pt_cl, pt_clL, pt_cz0, pt_cz1, pt_czi, pt_add, pt_addL, pt_Ladd, pt_mul, pt_mulL, pt_Lmul, pt_sub, pt_subL, pt_Lsub, pt_rem, pt_le, pt_leL, pt_Lle, pt_lt, pt_ltL, pt_Llt, pt_eq, pt_eqL, pt_Leq, pt_m1, pt_lt0, pt_ge0, pt_m1lt0, pt_m1ge0, pt_10, pt_01, pt_00, pt_11, pt_m11, pt_0m1, pt_1m1, pt_ib, pt_ib1, pt_hs, pt_so, pt_ofNat, pt_si, pt_sin, pt_si1, pt_si2, pt_sl, pt_sln, pt_sl0, pt_sl2, pt_sr, pt_srn, pt_sr0, pt_sr1, if_true, if_false, ite_true, ite_false, not_true_eq_false, not_false_eq_true, if_pos, if_neg]; exact q6 k hk
  · rw [if_neg h1]
    by_cases h2 : v < -1
    · rw [if_pos h2]; exact no
    · rw [if_neg h2, if_neg (fun q => h1 ⟨Int32.not_lt.mp h2, q⟩)]; exact no
theorem known_by {hu : hd_T} {hb : Nat} {κx κm : kp_K} (I : INV hu hb κx κm) : ∃ s : Nat, s ≤ 24 ∧ pX1_knownBy κx = some (nI s) ∧ pX6_knownMany κm = some (nI s) ∧ ∃ n, s ≤ n ∧ κx.1 0 25 = nI n ∧ n ≤ 24 := by
  obtain ⟨-, hM, hs, -, -, -, -, -, ⟨n, q1, q2, q3, q4, q5, q6⟩⟩ := I
  unfold pX1_knownBy pX6_knownMany
  rw [q2, q3, q4]
  rcases q5 with q5 | ⟨s, s1, s2⟩
  · rw [q5]
    simp (disch := omega) only [pt_lt_, pt_clsome, pt_ck, pt_ckL, pt_cl, pt_clL, pt_cz0, pt_cz1, pt_czi, pt_add, pt_addL, pt_Ladd, pt_mul, pt_mulL, pt_Lmul, pt_sub, pt_subL, pt_Lsub, pt_rem, pt_le, pt_leL, pt_Lle, pt_lt, pt_ltL, pt_Llt, pt_eq, pt_eqL, pt_Leq, pt_m1, pt_lt0, pt_ge0, pt_m1lt0, pt_m1ge0, pt_10, pt_01, pt_00, pt_11, pt_m11, pt_0m1, pt_1m1, pt_ib, pt_ib1, pt_hs, pt_so, pt_ofNat, pt_si, pt_sin, pt_si1, pt_si2, pt_sl, pt_sln, pt_sl0, pt_sl2, pt_sr, pt_srn, pt_sr0, pt_sr1, if_true, if_false, ite_true, ite_false, not_true_eq_false, not_false_eq_true, if_pos, if_neg]
    exact ⟨n, q1, rfl, rfl, n, by omega, rfl, q1⟩
  · rw [s2]
    simp (disch := omega) only [pt_lt_, pt_clsome, pt_ck, pt_ckL, pt_cl, pt_clL, pt_cz0, pt_cz1, pt_czi, pt_add, pt_addL, pt_Ladd, pt_mul, pt_mulL, pt_Lmul, pt_sub, pt_subL, pt_Lsub, pt_rem, pt_le, pt_leL, pt_Lle, pt_lt, pt_ltL, pt_Llt, pt_eq, pt_eqL, pt_Leq, pt_m1, pt_lt0, pt_ge0, pt_m1lt0, pt_m1ge0, pt_10, pt_01, pt_00, pt_11, pt_m11, pt_0m1, pt_1m1, pt_ib, pt_ib1, pt_hs, pt_so, pt_ofNat, pt_si, pt_sin, pt_si1, pt_si2, pt_sl, pt_sln, pt_sl0, pt_sl2, pt_sr, pt_srn, pt_sr0, pt_sr1, if_true, if_false, ite_true, ite_false, not_true_eq_false, not_false_eq_true, if_pos, if_neg]
    exact ⟨s, by omega, rfl, rfl, n, s1, rfl, q1⟩
theorem rr_lossSum {F : Nat} {hu : hd_T} {hb : Nat} {κx κm : kp_K} (hs : κx.2.2 0 4 = some hb) (hn : κm.1 68 0 = nI (hu.2.1 0)) (h4 : hu.2.1 0 ≤ 4) (hl : ∀ d, d < 4 → κx.1 15 d = κm.1 96 d) : ∀ m d, d + m = hu.2.1 0 → ∀ fx fm, m < fx → m < fm → ∀ acc, ∃ z, bX1_count_133 F hb hu fx κx acc (nI d) = some z ∧ bX6_count_126 F fm κm acc (nI d) = some (z, κm) := by
  intro m
  induction m with
  | zero =>
    intro d hd fx fm hfx hfm acc
    obtain ⟨fx, rfl⟩ : ∃ f', fx = f' + 1 := ⟨fx - 1, by omega⟩
    obtain ⟨fm, rfl⟩ : ∃ f', fm = f' + 1 := ⟨fm - 1, by omega⟩
    rw [bX1_count_133, bX6_count_126]
    unfold pX1_desks
    simp (disch := omega) only [pt_lt_, pt_clsome, pt_ck, pt_ckL, pt_cl, pt_clL, pt_cz0, pt_cz1, pt_czi, pt_add, pt_addL, pt_Ladd, pt_mul, pt_mulL, pt_Lmul, pt_sub, pt_subL, pt_Lsub, pt_rem, pt_le, pt_leL, pt_Lle, pt_lt, pt_ltL, pt_Llt, pt_eq, pt_eqL, pt_Leq, pt_m1, pt_lt0, pt_ge0, pt_m1lt0, pt_m1ge0, pt_10, pt_01, pt_00, pt_11, pt_m11, pt_0m1, pt_1m1, pt_ib, pt_ib1, pt_hs, pt_so, pt_ofNat, pt_si, pt_sin, pt_si1, pt_si2, pt_sl, pt_sln, pt_sl0, pt_sl2, pt_sr, pt_srn, pt_sr0, pt_sr1, if_true, if_false, ite_true, ite_false, not_true_eq_false, not_false_eq_true, if_pos, if_neg, hs, hn]
    exact ⟨acc, rfl, rfl⟩
  | succ m ih =>
    intro d hd fx fm hfx hfm acc
    obtain ⟨fx, rfl⟩ : ∃ f', fx = f' + 1 := ⟨fx - 1, by omega⟩
    obtain ⟨fm, rfl⟩ : ∃ f', fm = f' + 1 := ⟨fm - 1, by omega⟩
    rw [bX1_count_133, bX6_count_126]
    unfold pX1_desks
    simp (disch := omega) only [pt_lt_, pt_clsome, pt_ck, pt_ckL, pt_cl, pt_clL, pt_cz0, pt_cz1, pt_czi, pt_add, pt_addL, pt_Ladd, pt_mul, pt_mulL, pt_Lmul, pt_sub, pt_subL, pt_Lsub, pt_rem, pt_le, pt_leL, pt_Lle, pt_lt, pt_ltL, pt_Llt, pt_eq, pt_eqL, pt_Leq, pt_m1, pt_lt0, pt_ge0, pt_m1lt0, pt_m1ge0, pt_10, pt_01, pt_00, pt_11, pt_m11, pt_0m1, pt_1m1, pt_ib, pt_ib1, pt_hs, pt_so, pt_ofNat, pt_si, pt_sin, pt_si1, pt_si2, pt_sl, pt_sln, pt_sl0, pt_sl2, pt_sr, pt_srn, pt_sr0, pt_sr1, if_true, if_false, ite_true, ite_false, not_true_eq_false, not_false_eq_true, if_pos, if_neg, hs, hn, hl d (by omega)]
    exact ih (d + 1) (by omega) fx fm (by omega) (by omega) _
theorem ls_count {F : Nat} {hu : hd_T} {hb : Nat} {κx κm : kp_K} (hF : 80 ≤ F) (I : INV hu hb κx κm) (v : Int32) : iLR hu hb κx κm (pX1_count F hb hu κx v) (pX6_count F κm v) := by
  obtain ⟨s, s1, s2, s3, -⟩ := known_by I
  obtain ⟨⟨⟨t0, t1, t2, t3, t4, t5⟩, -⟩, hM, hs, -, -, ⟨⟨dy, mn, w, R⟩, -⟩, -, -, ⟨n, q1, q2, q3, -⟩⟩ := id I
  have hM' := (I.th (v := 0)).2.1
  have done : ∀ z : Int32, iLR hu hb κx κm (some z) (some (z, s_i κm 66 0 0)) := fun z => ⟨_, _, rfl, rfl, I.th, MF0⟩
  have d1 := R.1.1
  have d2 := R.1.2.1
  simp only [Nat.mul_zero, Nat.add_zero] at d1
  have s3' : pX6_knownMany (s_i κm 66 0 0) = some (nI s) := by
    rw [← s3]
    unfold pX6_knownMany
    simp (disch := omega) only [pt_lt_, pt_clsome, pt_ck, pt_ckL, pt_cl, pt_clL, pt_cz0, pt_cz1, pt_czi, pt_add, pt_addL, pt_Ladd, pt_mul, pt_mulL, pt_Lmul, pt_sub, pt_subL, pt_Lsub, pt_rem, pt_le, pt_leL, pt_Lle, pt_lt, pt_ltL, pt_Llt, pt_eq, pt_eqL, pt_Leq, pt_m1, pt_lt0, pt_ge0, pt_m1lt0, pt_m1ge0, pt_10, pt_01, pt_00, pt_11, pt_m11, pt_0m1, pt_1m1, pt_ib, pt_ib1, pt_hs, pt_so, pt_ofNat, pt_si, pt_sin, pt_si1, pt_si2, pt_sl, pt_sln, pt_sl0, pt_sl2, pt_sr, pt_srn, pt_sr0, pt_sr1, if_true, if_false, ite_true, ite_false, not_true_eq_false, not_false_eq_true, if_pos, if_neg]
  unfold pX1_count pX6_count pX1_desks
  simp only [pt_lt_]
  by_cases h0 : v = 0
  · rw [if_pos h0, if_pos h0]
    simp (disch := omega) only [pt_lt_, pt_clsome, pt_ck, pt_ckL, pt_cl, pt_clL, pt_cz0, pt_cz1, pt_czi, pt_add, pt_addL, pt_Ladd, pt_mul, pt_mulL, pt_Lmul, pt_sub, pt_subL, pt_Lsub, pt_rem, pt_le, pt_leL, pt_Lle, pt_lt, pt_ltL, pt_Llt, pt_eq, pt_eqL, pt_Leq, pt_m1, pt_lt0, pt_ge0, pt_m1lt0, pt_m1ge0, pt_10, pt_01, pt_00, pt_11, pt_m11, pt_0m1, pt_1m1, pt_ib, pt_ib1, pt_hs, pt_so, pt_ofNat, pt_si, pt_sin, pt_si1, pt_si2, pt_sl, pt_sln, pt_sl0, pt_sl2, pt_sr, pt_srn, pt_sr0, pt_sr1, if_true, if_false, ite_true, ite_false, not_true_eq_false, not_false_eq_true, if_pos, if_neg, hs, hM.1 0 (by omega)]
    exact done _
  rw [if_neg h0, if_neg h0]
  by_cases h1 : v = 1
  · rw [if_pos h1, if_pos h1]
    simp (disch := omega) only [pt_lt_, pt_clsome, pt_ck, pt_ckL, pt_cl, pt_clL, pt_cz0, pt_cz1, pt_czi, pt_add, pt_addL, pt_Ladd, pt_mul, pt_mulL, pt_Lmul, pt_sub, pt_subL, pt_Lsub, pt_rem, pt_le, pt_leL, pt_Lle, pt_lt, pt_ltL, pt_Llt, pt_eq, pt_eqL, pt_Leq, pt_m1, pt_lt0, pt_ge0, pt_m1lt0, pt_m1ge0, pt_10, pt_01, pt_00, pt_11, pt_m11, pt_0m1, pt_1m1, pt_ib, pt_ib1, pt_hs, pt_so, pt_ofNat, pt_si, pt_sin, pt_si1, pt_si2, pt_sl, pt_sln, pt_sl0, pt_sl2, pt_sr, pt_srn, pt_sr0, pt_sr1, if_true, if_false, ite_true, ite_false, not_true_eq_false, not_false_eq_true, if_pos, if_neg, hs, hM.1 1 (by omega)]
    exact done _
  rw [if_neg h1, if_neg h1]
  by_cases h2 : v = 2
  · rw [if_pos h2, if_pos h2]
    simp (disch := omega) only [pt_lt_, pt_clsome, pt_ck, pt_ckL, pt_cl, pt_clL, pt_cz0, pt_cz1, pt_czi, pt_add, pt_addL, pt_Ladd, pt_mul, pt_mulL, pt_Lmul, pt_sub, pt_subL, pt_Lsub, pt_rem, pt_le, pt_leL, pt_Lle, pt_lt, pt_ltL, pt_Llt, pt_eq, pt_eqL, pt_Leq, pt_m1, pt_lt0, pt_ge0, pt_m1lt0, pt_m1ge0, pt_10, pt_01, pt_00, pt_11, pt_m11, pt_0m1, pt_1m1, pt_ib, pt_ib1, pt_hs, pt_so, pt_ofNat, pt_si, pt_sin, pt_si1, pt_si2, pt_sl, pt_sln, pt_sl0, pt_sl2, pt_sr, pt_srn, pt_sr0, pt_sr1, if_true, if_false, ite_true, ite_false, not_true_eq_false, not_false_eq_true, if_pos, if_neg, hs, hM.1 2 (by omega)]
    exact done _
  rw [if_neg h2, if_neg h2]
  by_cases h3 : v = 3
  · rw [if_pos h3, if_pos h3]
    simp (disch := omega) only [pt_lt_, pt_clsome, pt_ck, pt_ckL, pt_cl, pt_clL, pt_cz0, pt_cz1, pt_czi, pt_add, pt_addL, pt_Ladd, pt_mul, pt_mulL, pt_Lmul, pt_sub, pt_subL, pt_Lsub, pt_rem, pt_le, pt_leL, pt_Lle, pt_lt, pt_ltL, pt_Llt, pt_eq, pt_eqL, pt_Leq, pt_m1, pt_lt0, pt_ge0, pt_m1lt0, pt_m1ge0, pt_10, pt_01, pt_00, pt_11, pt_m11, pt_0m1, pt_1m1, pt_ib, pt_ib1, pt_hs, pt_so, pt_ofNat, pt_si, pt_sin, pt_si1, pt_si2, pt_sl, pt_sln, pt_sl0, pt_sl2, pt_sr, pt_srn, pt_sr0, pt_sr1, if_true, if_false, ite_true, ite_false, not_true_eq_false, not_false_eq_true, if_pos, if_neg, hs, hM.1 3 (by omega)]
    exact done _
  rw [if_neg h3, if_neg h3]
  by_cases h4 : v = 4
  · rw [if_pos h4, if_pos h4]
    simp (disch := omega) only [pt_lt_, pt_clsome, pt_ck, pt_ckL, pt_cl, pt_clL, pt_cz0, pt_cz1, pt_czi, pt_add, pt_addL, pt_Ladd, pt_mul, pt_mulL, pt_Lmul, pt_sub, pt_subL, pt_Lsub, pt_rem, pt_le, pt_leL, pt_Lle, pt_lt, pt_ltL, pt_Llt, pt_eq, pt_eqL, pt_Leq, pt_m1, pt_lt0, pt_ge0, pt_m1lt0, pt_m1ge0, pt_10, pt_01, pt_00, pt_11, pt_m11, pt_0m1, pt_1m1, pt_ib, pt_ib1, pt_hs, pt_so, pt_ofNat, pt_si, pt_sin, pt_si1, pt_si2, pt_sl, pt_sln, pt_sl0, pt_sl2, pt_sr, pt_srn, pt_sr0, pt_sr1, if_true, if_false, ite_true, ite_false, not_true_eq_false, not_false_eq_true, if_pos, if_neg, hs, hM.1 5 (by omega)]
    exact done _
  rw [if_neg h4, if_neg h4]
  by_cases h5 : v = 5
  · rw [if_pos h5, if_pos h5]
    simp (disch := omega) only [pt_lt_, pt_clsome, pt_ck, pt_ckL, pt_cl, pt_clL, pt_cz0, pt_cz1, pt_czi, pt_add, pt_addL, pt_Ladd, pt_mul, pt_mulL, pt_Lmul, pt_sub, pt_subL, pt_Lsub, pt_rem, pt_le, pt_leL, pt_Lle, pt_lt, pt_ltL, pt_Llt, pt_eq, pt_eqL, pt_Leq, pt_m1, pt_lt0, pt_ge0, pt_m1lt0, pt_m1ge0, pt_10, pt_01, pt_00, pt_11, pt_m11, pt_0m1, pt_1m1, pt_ib, pt_ib1, pt_hs, pt_so, pt_ofNat, pt_si, pt_sin, pt_si1, pt_si2, pt_sl, pt_sln, pt_sl0, pt_sl2, pt_sr, pt_srn, pt_sr0, pt_sr1, if_true, if_false, ite_true, ite_false, not_true_eq_false, not_false_eq_true, if_pos, if_neg, hs, hM.2.2.1]
    exact done _
  rw [if_neg h5, if_neg h5]
  by_cases h6 : v = 6
  · rw [if_pos h6, if_pos h6]
    simp (disch := omega) only [pt_lt_, pt_clsome, pt_ck, pt_ckL, pt_cl, pt_clL, pt_cz0, pt_cz1, pt_czi, pt_add, pt_addL, pt_Ladd, pt_mul, pt_mulL, pt_Lmul, pt_sub, pt_subL, pt_Lsub, pt_rem, pt_le, pt_leL, pt_Lle, pt_lt, pt_ltL, pt_Llt, pt_eq, pt_eqL, pt_Leq, pt_m1, pt_lt0, pt_ge0, pt_m1lt0, pt_m1ge0, pt_10, pt_01, pt_00, pt_11, pt_m11, pt_0m1, pt_1m1, pt_ib, pt_ib1, pt_hs, pt_so, pt_ofNat, pt_si, pt_sin, pt_si1, pt_si2, pt_sl, pt_sln, pt_sl0, pt_sl2, pt_sr, pt_srn, pt_sr0, pt_sr1, if_true, if_false, ite_true, ite_false, not_true_eq_false, not_false_eq_true, if_pos, if_neg, d1, d2]
    exact done _
  rw [if_neg h6, if_neg h6]
  by_cases h7 : v = 7
  · rw [if_pos h7, if_pos h7]
    simp (disch := omega) only [pt_lt_, pt_clsome, pt_ck, pt_ckL, pt_cl, pt_clL, pt_cz0, pt_cz1, pt_czi, pt_add, pt_addL, pt_Ladd, pt_mul, pt_mulL, pt_Lmul, pt_sub, pt_subL, pt_Lsub, pt_rem, pt_le, pt_leL, pt_Lle, pt_lt, pt_ltL, pt_Llt, pt_eq, pt_eqL, pt_Leq, pt_m1, pt_lt0, pt_ge0, pt_m1lt0, pt_m1ge0, pt_10, pt_01, pt_00, pt_11, pt_m11, pt_0m1, pt_1m1, pt_ib, pt_ib1, pt_hs, pt_so, pt_ofNat, pt_si, pt_sin, pt_si1, pt_si2, pt_sl, pt_sln, pt_sl0, pt_sl2, pt_sr, pt_srn, pt_sr0, pt_sr1, if_true, if_false, ite_true, ite_false, not_true_eq_false, not_false_eq_true, if_pos, if_neg, q2, q3]
    exact done _
  rw [if_neg h7, if_neg h7]
  by_cases h8 : v = 8
  · rw [if_pos h8, if_pos h8]
    simp (disch := omega) only [pt_lt_, pt_clsome, pt_ck, pt_ckL, pt_cl, pt_clL, pt_cz0, pt_cz1, pt_czi, pt_add, pt_addL, pt_Ladd, pt_mul, pt_mulL, pt_Lmul, pt_sub, pt_subL, pt_Lsub, pt_rem, pt_le, pt_leL, pt_Lle, pt_lt, pt_ltL, pt_Llt, pt_eq, pt_eqL, pt_Leq, pt_m1, pt_lt0, pt_ge0, pt_m1lt0, pt_m1ge0, pt_10, pt_01, pt_00, pt_11, pt_m11, pt_0m1, pt_1m1, pt_ib, pt_ib1, pt_hs, pt_so, pt_ofNat, pt_si, pt_sin, pt_si1, pt_si2, pt_sl, pt_sln, pt_sl0, pt_sl2, pt_sr, pt_srn, pt_sr0, pt_sr1, if_true, if_false, ite_true, ite_false, not_true_eq_false, not_false_eq_true, if_pos, if_neg, s2, s3']
    exact done _
  rw [if_neg h8, if_neg h8]
  by_cases h9 : v = 9
  · rw [if_pos h9, if_pos h9]
    obtain ⟨z, z1, z2⟩ := rr_lossSum (F := F) (κm := s_i κm 66 0 0) hs (hM'.1 0 (by omega)) t0 (fun d hd => by
      have e := (R.2.2.2.1 d hd).1
      simp only [Nat.mul_zero, Nat.add_zero, Nat.zero_add] at e
      simp (disch := omega) only [pt_lt_, pt_clsome, pt_ck, pt_ckL, pt_cl, pt_clL, pt_cz0, pt_cz1, pt_czi, pt_add, pt_addL, pt_Ladd, pt_mul, pt_mulL, pt_Lmul, pt_sub, pt_subL, pt_Lsub, pt_rem, pt_le, pt_leL, pt_Lle, pt_lt, pt_ltL, pt_Llt, pt_eq, pt_eqL, pt_Leq, pt_m1, pt_lt0, pt_ge0, pt_m1lt0, pt_m1ge0, pt_10, pt_01, pt_00, pt_11, pt_m11, pt_0m1, pt_1m1, pt_ib, pt_ib1, pt_hs, pt_so, pt_ofNat, pt_si, pt_sin, pt_si1, pt_si2, pt_sl, pt_sln, pt_sl0, pt_sl2, pt_sr, pt_srn, pt_sr0, pt_sr1, if_true, if_false, ite_true, ite_false, not_true_eq_false, not_false_eq_true, if_pos, if_neg]
      exact e) (hu.2.1 0) 0 (by omega) F F (by omega) (by omega) 0
    have z1' : bX1_count_133 F hb hu F κx 0 0 = some z := z1
    have z2' : bX6_count_126 F F (s_i κm 66 0 0) 0 0 = some (z, s_i κm 66 0 0) := z2
    rw [z1', z2']
    exact done _
  rw [if_neg h9, if_neg h9]
  exact done _
theorem IH.same {hu : hd_T} {κx κm κx' κm' : kp_K} (h : IH hu κx κm) (gx : ∀ j i, (j = 0 ∧ (i = 25 ∨ i = 26)) ∨ j = 63 ∨ j = 64 → κx'.1 j i = κx.1 j i) (gm : ∀ j i, (j = 66 ∧ (i = 71 ∨ i = 72)) ∨ j = 113 ∨ j = 114 → κm'.1 j i = κm.1 j i) : IH hu κx' κm' := by
  obtain ⟨n, q1, q2, q3, q4, q5, q6⟩ := h
  refine ⟨n, q1, by rw [gx _ _ (by omega)]; exact q2, by rw [gm _ _ (by omega)]; exact q3, by rw [gx _ _ (by omega), gm _ _ (by omega)]; exact q4, by rw [gm _ _ (by omega)]; exact q5, fun k hk => ?_⟩
  rw [gx _ _ (by omega), gx _ _ (by omega), gm _ _ (by omega), gm _ _ (by omega)]
  exact q6 k hk
theorem four4 {κ : kp_K} {t : Nat} {v : Int32} (a3 : κ.1 1 t = byt v 24) (a4 : κ.1 1 (t + 1) = byt v 16) (a5 : κ.1 1 (t + 2) = byt v 8) (a6 : κ.1 1 (t + 3) = byt v 0) : ∀ p, p < 4 → κ.1 1 (t + p) = byt v (nI (24 - 8 * p)) := by
  intro p hp
  match p, hp with
  | 0, _ => exact a3
  | 1, _ => exact a4
  | 2, _ => exact a5
  | 3, _ => exact a6
  | p + 4, h => omega
theorem ls_feed {F : Nat} {hu : hd_T} {hb : Nat} {κx κm : kp_K} (hF : 80 ≤ F) (I : INV hu hb κx κm) (a b c d e : Int32) : iLS hu hb κx κm (pX1_feed F κx a b c d e) (pX6_feed F κm a b c d e) := by
  obtain ⟨-, -, -, ⟨t, t1, t2, t3, t4⟩, -, -, -, -, hH⟩ := id I
  unfold pX1_feed pX6_feed
  simp (disch := omega) only [pt_lt_, pt_clsome, pt_ck, pt_ckL, pt_cl, pt_clL, pt_cz0, pt_cz1, pt_czi, pt_add, pt_addL, pt_Ladd, pt_mul, pt_mulL, pt_Lmul, pt_sub, pt_subL, pt_Lsub, pt_rem, pt_le, pt_leL, pt_Lle, pt_lt, pt_ltL, pt_Llt, pt_eq, pt_eqL, pt_Leq, pt_m1, pt_lt0, pt_ge0, pt_m1lt0, pt_m1ge0, pt_10, pt_01, pt_00, pt_11, pt_m11, pt_0m1, pt_1m1, pt_ib, pt_ib1, pt_hs, pt_so, pt_ofNat, pt_si, pt_sin, pt_si1, pt_si2, pt_sl, pt_sln, pt_sl0, pt_sl2, pt_sr, pt_srn, pt_sr0, pt_sr1, if_true, if_false, ite_true, ite_false, not_true_eq_false, not_false_eq_true, t1, t2]
  by_cases h : t + 20 ≤ 900
  · have h' : t ≤ 880 := by omega
    rw [if_pos h, if_pos h']
    obtain ⟨k1, a1, a2, a3, a4, a5, a6, a7⟩ := tp_four (F := F) (v := a) (by omega) t1 (by omega)
    obtain ⟨k2, b1, b2, b3, b4, b5, b6, b7⟩ := tp_four (F := F) (v := b) (by omega) a2 (by omega)
    obtain ⟨k3, c1, c2, c3, c4, c5, c6, c7⟩ := tp_four (F := F) (v := c) (by omega) b2 (by omega)
    obtain ⟨k4, d1, d2, d3, d4, d5, d6, d7⟩ := tp_four (F := F) (v := d) (by omega) c2 (by omega)
    obtain ⟨k5, e1, e2, e3, e4, e5, e6, e7⟩ := tp_four (F := F) (v := e) (by omega) d2 (by omega)
    obtain ⟨km, m1, m2, m3, m4⟩ := tp_mfeed (F := F) (a := a) (b := b) (c := c) (d := d) (e := e) h 20 0 (by omega) F (by omega) (s_i κm 66 0 0) (by simp (disch := omega) only [pt_lt_, pt_clsome, pt_ck, pt_ckL, pt_cl, pt_clL, pt_cz0, pt_cz1, pt_czi, pt_add, pt_addL, pt_Ladd, pt_mul, pt_mulL, pt_Lmul, pt_sub, pt_subL, pt_Lsub, pt_rem, pt_le, pt_leL, pt_Lle, pt_lt, pt_ltL, pt_Llt, pt_eq, pt_eqL, pt_Leq, pt_m1, pt_lt0, pt_ge0, pt_m1lt0, pt_m1ge0, pt_10, pt_01, pt_00, pt_11, pt_m11, pt_0m1, pt_1m1, pt_ib, pt_ib1, pt_hs, pt_so, pt_ofNat, pt_si, pt_sin, pt_si1, pt_si2, pt_sl, pt_sln, pt_sl0, pt_sl2, pt_sr, pt_srn, pt_sr0, pt_sr1, if_true, if_false, ite_true, ite_false, not_true_eq_false, not_false_eq_true, if_pos, if_neg]; exact t2)
    have m1' : bX6_feed_20 F F (s_i κm 66 0 0) a b c d e 0 = some (nI (t + 20), km) := m1
    simp (disch := omega) only [pt_lt_, pt_clsome, pt_ck, pt_ckL, pt_cl, pt_clL, pt_cz0, pt_cz1, pt_czi, pt_add, pt_addL, pt_Ladd, pt_mul, pt_mulL, pt_Lmul, pt_sub, pt_subL, pt_Lsub, pt_rem, pt_le, pt_leL, pt_Lle, pt_lt, pt_ltL, pt_Llt, pt_eq, pt_eqL, pt_Leq, pt_m1, pt_lt0, pt_ge0, pt_m1lt0, pt_m1ge0, pt_10, pt_01, pt_00, pt_11, pt_m11, pt_0m1, pt_1m1, pt_ib, pt_ib1, pt_hs, pt_so, pt_ofNat, pt_si, pt_sin, pt_si1, pt_si2, pt_sl, pt_sln, pt_sl0, pt_sl2, pt_sr, pt_srn, pt_sr0, pt_sr1, if_true, if_false, ite_true, ite_false, not_true_eq_false, not_false_eq_true, if_pos, if_neg, a1, b1, c1, d1, e1, m1', e2]
    have et : t + 4 + 4 + 4 + 4 + 4 = t + 20 := by omega
    rw [et] at e2 ⊢
    have gm : Fr (fun j i => (j = 66 ∧ (i = 0 ∨ i = 2)) ∨ j = 67) κm km := Fr.tr (κ1 := s_i κm 66 0 0) (Fr.si (by omega)) (m4.mono (fun j i q => by omega))
    have gx : Fr (fun j i => (j = 0 ∧ i = 1) ∨ (j = 1 ∧ t ≤ i)) κx k5 := (a7.mono (fun j i q => by omega)).tr ((b7.mono (fun j i q => by omega)).tr ((c7.mono (fun j i q => by omega)).tr ((d7.mono (fun j i q => by omega)).tr (e7.mono (fun j i q => by omega)))))
    have g2 : Fr (fun j i => (j = 0 ∧ i = 1) ∨ (j = 1 ∧ t + 4 ≤ i)) k1 k5 := (b7.mono (fun j i q => by omega)).tr ((c7.mono (fun j i q => by omega)).tr ((d7.mono (fun j i q => by omega)).tr (e7.mono (fun j i q => by omega))))
    have g3 : Fr (fun j i => (j = 0 ∧ i = 1) ∨ (j = 1 ∧ t + 8 ≤ i)) k2 k5 := (c7.mono (fun j i q => by omega)).tr ((d7.mono (fun j i q => by omega)).tr (e7.mono (fun j i q => by omega)))
    have g4 : Fr (fun j i => (j = 0 ∧ i = 1) ∨ (j = 1 ∧ t + 12 ≤ i)) k3 k5 := (d7.mono (fun j i q => by omega)).tr (e7.mono (fun j i q => by omega))
    have g5 : Fr (fun j i => (j = 0 ∧ i = 1) ∨ (j = 1 ∧ t + 16 ≤ i)) k4 k5 := e7.mono (fun j i q => by omega)
    refine ⟨_, k5, km, rfl, rfl, ?_, XF.of gx (fun j i q => by omega), MF.of gm (fun j i q => by omega)⟩
    refine I.same2 (fun j i p q => (gx.1 j i (fun z => q (by unfold SX2; omega))).1) (fun j i _ => by rw [gx.2]) (fun j i p q => (gm.1 j i (fun z => q (by unfold SM2 SM; omega))).1) ⟨t + 20, e2, m2, h, fun i hi => ?_⟩ ?_
    · by_cases hi0 : i < t
      · rw [(m4.1 67 i (by omega)).1, (gx.1 1 i (by omega)).1]
        simp (disch := omega) only [pt_lt_, pt_clsome, pt_ck, pt_ckL, pt_cl, pt_clL, pt_cz0, pt_cz1, pt_czi, pt_add, pt_addL, pt_Ladd, pt_mul, pt_mulL, pt_Lmul, pt_sub, pt_subL, pt_Lsub, pt_rem, pt_le, pt_leL, pt_Lle, pt_lt, pt_ltL, pt_Llt, pt_eq, pt_eqL, pt_Leq, pt_m1, pt_lt0, pt_ge0, pt_m1lt0, pt_m1ge0, pt_10, pt_01, pt_00, pt_11, pt_m11, pt_0m1, pt_1m1, pt_ib, pt_ib1, pt_hs, pt_so, pt_ofNat, pt_si, pt_sin, pt_si1, pt_si2, pt_sl, pt_sln, pt_sl0, pt_sl2, pt_sr, pt_srn, pt_sr0, pt_sr1, if_true, if_false, ite_true, ite_false, not_true_eq_false, not_false_eq_true, if_pos, if_neg]
        exact t4 i hi0
      · obtain ⟨j, rfl⟩ : ∃ j, i = t + j := ⟨i - t, by omega⟩
        have hj : j < 20 := by omega
        rw [m3 j (by omega) hj, fval_byt j hj]
        congr 1
        unfold fsel
        by_cases j4 : j < 4
        · rw [if_pos j4, show j % 4 = j from by omega, (g2.1 1 _ (by omega)).1]
          exact (four4 a3 a4 a5 a6 j j4).symm
        · rw [if_neg j4]
          by_cases j8 : j < 8
          · have := four4 b3 b4 b5 b6 (j - 4) (by omega)
            rw [show t + 4 + (j - 4) = t + j from by omega] at this
            rw [if_pos j8, show j % 4 = j - 4 from by omega, (g3.1 1 _ (by omega)).1]
            exact this.symm
          · rw [if_neg j8]
            by_cases j12 : j < 12
            · have := four4 c3 c4 c5 c6 (j - 8) (by omega)
              rw [show t + 4 + 4 + (j - 8) = t + j from by omega] at this
              rw [if_pos j12, show j % 4 = j - 8 from by omega, (g4.1 1 _ (by omega)).1]
              exact this.symm
            · rw [if_neg j12]
              by_cases j16 : j < 16
              · have := four4 d3 d4 d5 d6 (j - 12) (by omega)
                rw [show t + 4 + 4 + 4 + (j - 12) = t + j from by omega] at this
                rw [if_pos j16, show j % 4 = j - 12 from by omega, (g5.1 1 _ (by omega)).1]
                exact this.symm
              · have := four4 e3 e4 e5 e6 (j - 16) (by omega)
                rw [show t + 4 + 4 + 4 + 4 + (j - 16) = t + j from by omega] at this
                rw [if_neg j16, show j % 4 = j - 16 from by omega]
                exact this.symm
    · exact hH.same (fun j i q => (gx.1 j i (by omega)).1) (fun j i q => (gm.1 j i (by omega)).1)
  · have h' : ¬ t ≤ 880 := by omega
    rw [if_neg h, if_neg h']
    exact ⟨_, _, _, rfl, rfl, I.th, fun _ _ _ => ⟨rfl, rfl⟩, MF0⟩
