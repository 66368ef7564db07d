/-! PURE LAYER: the image: keep and back, in lock step -/
set_option maxRecDepth 100000
theorem rr_copy {F : Nat} {hu : hd_T} {dy : Nat} {mn : Nat → Nat} {w B ra rb : Nat} {κx κm : kp_K} (hF : 700 ≤ F) (ha : ra < 3) (hb : rb < 3) (hne : ¬ ra = rb) (hB : B ≤ 600) (hc : κx.2.2 (13 + 14 * rb) 0 = some 11) (R : RR hu rb dy mn w B κx κm) : ∃ κx' κm', pX5_copy ra κx rb = some κx' ∧ pX6_copies F κm (nI ra) (nI rb) = some κm' ∧ RR hu ra dy mn w B κx' κm' ∧ (∀ j i, ¬ (13 + 14 * ra ≤ j ∧ j ≤ 26 + 14 * ra ∧ ¬ (j = 13 + 14 * ra ∧ i = 13)) → κx'.1 j i = κx.1 j i ∧ κx'.2.1 j i = κx.2.1 j i) ∧ κx'.2.2 = (s_r κx (13 + 14 * ra) 0 (some 11)).2.2 ∧ Fr (PM ra) κm κm' ∧ κm'.1 66 59 = κm.1 66 59 := by
  obtain ⟨⟨q1, q2, q3⟩, ⟨q4, q5⟩, q6, q7, q8, q9, qa, qb⟩ := R
  obtain ⟨κx', x1, x2, x3, x4, x5, x6, x7, x8, x9⟩ := px_copy (κ := κx) ha hb hne hc
  obtain ⟨κm', m1, m2, m3, m4, m5, m6, m7, m8, m9⟩ := pm_copies (F := F) (w := w) (κ := κm) hF ha hb hne (by omega) q5
  refine ⟨κx', κm', x1, m1, ⟨⟨by rw [x2, q1], by rw [m2, q2], q3⟩, ⟨by rw [x3, q4], m3⟩, fun d hd => ?_, fun d hd => ?_, fun d k hd hk => ?_, fun q hq => ?_, fun k hk => ?_, qb⟩, x8, x9, m8, m9⟩
  · rw [(x4 d hd).1, (m4 d hd).1]
    exact q6 d hd
  · obtain ⟨-, y2, y3⟩ := x4 d hd
    obtain ⟨-, n2, n3⟩ := m4 d hd
    rw [y2, y3, n2, n3]
    exact q7 d hd
  · have h7 := (q6 d hd).2.2
    obtain ⟨y1, y2, y3⟩ := x5 (7 * d + k) (by omega)
    obtain ⟨n1, n2, n3⟩ := m5 (7 * d + k) (by omega)
    rw [← Nat.add_assoc, ← Nat.add_assoc] at n1 n2 n3
    rw [y1, y2, y3, n1, n2, n3]
    exact q8 d k hd hk
  · rw [x6 q hq, m6 q hq]
    exact q9 q hq
  · obtain ⟨n1, n2, n3, n4⟩ := m7 k hk
    rw [x7 k (by omega), n1, n2, n3, n4]
    exact qa k hk
theorem INV.runs {hu : hd_T} {hb : Nat} {κx κm κx' κm' : kp_K} (h : INV hu hb κx κm) (gx : ∀ j i, j < 66 → ¬ (SX j i ∨ PX 0 j i ∨ PX 2 j i ∨ (j = 0 ∧ i = 27)) → κx'.1 j i = κx.1 j i) (gr : ∀ j i, j = 0 ∨ j = 11 → κx'.2.2 j i = κx.2.2 j i) (gm : ∀ j i, 66 ≤ j → ¬ (SM j i ∨ PM 0 j i ∨ PM 2 j i ∨ (j = 66 ∧ i = 57)) → κm'.1 j i = κm.1 j i) (r : IR hu 0 κx' κm' ∧ NF 0 κx' κm' ∧ κx'.2.2 13 0 = some 11) (ii : II hu κx' κm') : INV hu hb κx' κm' := by
  obtain ⟨h1, h2, h3, ⟨t, t1, t2, t3, t4⟩, ⟨f1, f2⟩, -, ⟨c1, c2, c3, c4, c5, c6, c7⟩, -, hH⟩ := h
  refine ⟨h1, h2.same (fun j i a b => gm j i (by omega) (by unfold SM PM; omega)), by rw [gr 0 4 (by omega)]; exact h3, ⟨t, ?_, ?_, t3, fun i hi => ?_⟩, ⟨?_, ?_⟩, r, ⟨?_, ?_, ?_, ?_, ?_, ?_, ?_⟩, ii, hH.same (fun j i q => gx j i (by omega) (by unfold SX PX; omega)) (fun j i q => gm j i (by omega) (by unfold SM PM; omega))⟩
  · rw [gx 0 1 (by omega) (by unfold SX PX; omega)]; exact t1
  · rw [gm 66 2 (by omega) (by unfold SM PM; omega)]; exact t2
  · rw [gx 1 i (by omega) (by unfold SX PX; omega), gm 67 i (by omega) (by unfold SM PM; omega)]; exact t4 i hi
  · rw [gx 0 2 (by omega) (by unfold SX PX; omega), gm 66 33 (by omega) (by unfold SM PM; omega)]; exact f1
  · rw [gx 0 3 (by omega) (by unfold SX PX; omega), gm 66 34 (by omega) (by unfold SM PM; omega)]; exact f2
  · rw [gx 11 1 (by omega) (by unfold SX PX; omega)]; exact c1
  · rw [gx 11 2 (by omega) (by unfold SX PX; omega)]; exact c2
  · rw [gx 11 3 (by omega) (by unfold SX PX; omega)]; exact c3
  · rw [gx 11 4 (by omega) (by unfold SX PX; omega)]; exact c4
  · rw [gx 11 5 (by omega) (by unfold SX PX; omega)]; exact c5
  · rw [gx 11 6 (by omega) (by unfold SX PX; omega)]; exact c6
  · rw [gr 11 0 (by omega)]; exact c7
theorem ls_keep {F : Nat} {hu : hd_T} {hb : Nat} {κx κm : kp_K} (hF : 700 ≤ F) (I : INV hu hb κx κm) : iLS hu hb κx κm (pX1_keep κx) (pX6_keep F κm) := by
  obtain ⟨hT, hM, hs, -, -, ⟨⟨dy, mn, w, R⟩, N, hc⟩, -⟩ := id I
  have hB := Bd_le hT R.1.2.2
  have R1 : RR hu 0 dy mn w (Bd hu dy) (s_i κx 0 27 1) (s_i κm 66 0 0) := R.same2 (by omega) (fun j i a b _ _ _ => pt_sin (by omega)) (fun j i q => pt_sin (by omega))
  obtain ⟨k1, m1, a1, a2, a3, a4, a5, a6, a7⟩ := rr_copy (F := F) (κx := s_i κx 0 27 1) (ra := 2) (rb := 0) hF (by omega) (by omega) (by omega) (by omega) hc R1
  have a2' : pX6_copies F (s_i κm 66 0 0) 2 0 = some m1 := a2
  unfold pX1_keep pX6_keep
  simp only [pt_lt_]
  rw [a1, a2']
  have x13 : k1.1 13 1 = nI dy := by
    rw [(a4 13 1 (by omega)).1]
    simp (disch := omega) only [pt_lt_, pt_clsome, pt_ck, pt_ckL, pt_cl, pt_clL, pt_cz0, pt_cz1, pt_czi, pt_add, pt_addL, pt_Ladd, pt_mul, pt_mulL, pt_Lmul, pt_sub, pt_subL, pt_Lsub, pt_rem, pt_le, pt_leL, pt_Lle, pt_lt, pt_ltL, pt_Llt, pt_eq, pt_eqL, pt_Leq, pt_m1, pt_lt0, pt_ge0, pt_m1lt0, pt_m1ge0, pt_10, pt_01, pt_00, pt_11, pt_m11, pt_0m1, pt_1m1, pt_ib, pt_ib1, pt_hs, pt_so, pt_ofNat, pt_si, pt_sin, pt_si1, pt_si2, pt_sl, pt_sln, pt_sl0, pt_sl2, pt_sr, pt_srn, pt_sr0, pt_sr1, if_true, if_false, ite_true, ite_false, not_true_eq_false, not_false_eq_true, if_pos, if_neg]
    exact R.1.1
  have m91 : m1.1 91 0 = nI dy := by
    rw [(a6.1 91 0 (by unfold PM; omega)).1]
    simp (disch := omega) only [pt_lt_, pt_clsome, pt_ck, pt_ckL, pt_cl, pt_clL, pt_cz0, pt_cz1, pt_czi, pt_add, pt_addL, pt_Ladd, pt_mul, pt_mulL, pt_Lmul, pt_sub, pt_subL, pt_Lsub, pt_rem, pt_le, pt_leL, pt_Lle, pt_lt, pt_ltL, pt_Llt, pt_eq, pt_eqL, pt_Leq, pt_m1, pt_lt0, pt_ge0, pt_m1lt0, pt_m1ge0, pt_10, pt_01, pt_00, pt_11, pt_m11, pt_0m1, pt_1m1, pt_ib, pt_ib1, pt_hs, pt_so, pt_ofNat, pt_si, pt_sin, pt_si1, pt_si2, pt_sl, pt_sln, pt_sl0, pt_sl2, pt_sr, pt_srn, pt_sr0, pt_sr1, if_true, if_false, ite_true, ite_false, not_true_eq_false, not_false_eq_true, if_pos, if_neg]
    exact R.1.2.1
  simp (disch := omega) only [pt_lt_, pt_clsome, pt_ck, pt_ckL, pt_cl, pt_clL, pt_cz0, pt_cz1, pt_czi, pt_add, pt_addL, pt_Ladd, pt_mul, pt_mulL, pt_Lmul, pt_sub, pt_subL, pt_Lsub, pt_rem, pt_le, pt_leL, pt_Lle, pt_lt, pt_ltL, pt_Llt, pt_eq, pt_eqL, pt_Leq, pt_m1, pt_lt0, pt_ge0, pt_m1lt0, pt_m1ge0, pt_10, pt_01, pt_00, pt_11, pt_m11, pt_0m1, pt_1m1, pt_ib, pt_ib1, pt_hs, pt_so, pt_ofNat, pt_si, pt_sin, pt_si1, pt_si2, pt_sl, pt_sln, pt_sl0, pt_sl2, pt_sr, pt_srn, pt_sr0, pt_sr1, if_true, if_false, ite_true, ite_false, not_true_eq_false, not_false_eq_true, if_pos, if_neg, x13, m91]
  refine ⟨_, k1, s_i m1 66 57 1, rfl, rfl, ?_, fun j i hj => ?_, ?_⟩
  · refine I.runs (fun j i a b => ?_) (fun j i q => ?_) (fun j i a b => ?_) ⟨⟨dy, mn, w, R.same2 (by omega) (fun j i a b _ _ _ => ?_) (fun j i q => ?_)⟩, ⟨?_, ?_⟩, ?_⟩ ⟨?_, Or.inr ⟨?_, ?_, dy, mn, w, a3.same2 (by omega) (fun j i a b _ _ _ => rfl) (fun j i q => pt_sin (by omega))⟩⟩
    · rw [(a4 j i (fun q => b (by unfold PX; omega))).1, pt_sin (fun q => b (by omega))]
    · rw [a5, pt_srn (by omega)]
      try rfl
    · rw [pt_sin (fun q => b (by omega)), (a6.1 j i (fun q => b (Or.inr (Or.inr (Or.inl q))))).1, pt_sin (fun q => b (Or.inl (by unfold SM; omega)))]
    · rw [(a4 j i (by omega)).1, pt_sin (by omega)]
    · rw [pt_sin (by omega), (a6.1 j i (by unfold PM; omega)).1, pt_sin (by omega)]
    · rw [(a4 _ 13 (by omega)).1]
      simp (disch := omega) only [pt_lt_, pt_clsome, pt_ck, pt_ckL, pt_cl, pt_clL, pt_cz0, pt_cz1, pt_czi, pt_add, pt_addL, pt_Ladd, pt_mul, pt_mulL, pt_Lmul, pt_sub, pt_subL, pt_Lsub, pt_rem, pt_le, pt_leL, pt_Lle, pt_lt, pt_ltL, pt_Llt, pt_eq, pt_eqL, pt_Leq, pt_m1, pt_lt0, pt_ge0, pt_m1lt0, pt_m1ge0, pt_10, pt_01, pt_00, pt_11, pt_m11, pt_0m1, pt_1m1, pt_ib, pt_ib1, pt_hs, pt_so, pt_ofNat, pt_si, pt_sin, pt_si1, pt_si2, pt_sl, pt_sln, pt_sl0, pt_sl2, pt_sr, pt_srn, pt_sr0, pt_sr1, if_true, if_false, ite_true, ite_false, not_true_eq_false, not_false_eq_true, if_pos, if_neg]
      exact N.1
    · simp (disch := omega) only [pt_lt_, pt_clsome, pt_ck, pt_ckL, pt_cl, pt_clL, pt_cz0, pt_cz1, pt_czi, pt_add, pt_addL, pt_Ladd, pt_mul, pt_mulL, pt_Lmul, pt_sub, pt_subL, pt_Lsub, pt_rem, pt_le, pt_leL, pt_Lle, pt_lt, pt_ltL, pt_Llt, pt_eq, pt_eqL, pt_Leq, pt_m1, pt_lt0, pt_ge0, pt_m1lt0, pt_m1ge0, pt_10, pt_01, pt_00, pt_11, pt_m11, pt_0m1, pt_1m1, pt_ib, pt_ib1, pt_hs, pt_so, pt_ofNat, pt_si, pt_sin, pt_si1, pt_si2, pt_sl, pt_sln, pt_sl0, pt_sl2, pt_sr, pt_srn, pt_sr0, pt_sr1, if_true, if_false, ite_true, ite_false, not_true_eq_false, not_false_eq_true, if_pos, if_neg, a7]
      exact N.2
    · rw [a5, pt_srn (by omega)]
      exact hc
    · rw [(a4 0 27 (by omega)).1]
      simp (disch := omega) only [pt_lt_, pt_clsome, pt_ck, pt_ckL, pt_cl, pt_clL, pt_cz0, pt_cz1, pt_czi, pt_add, pt_addL, pt_Ladd, pt_mul, pt_mulL, pt_Lmul, pt_sub, pt_subL, pt_Lsub, pt_rem, pt_le, pt_leL, pt_Lle, pt_lt, pt_ltL, pt_Llt, pt_eq, pt_eqL, pt_Leq, pt_m1, pt_lt0, pt_ge0, pt_m1lt0, pt_m1ge0, pt_10, pt_01, pt_00, pt_11, pt_m11, pt_0m1, pt_1m1, pt_ib, pt_ib1, pt_hs, pt_so, pt_ofNat, pt_si, pt_sin, pt_si1, pt_si2, pt_sl, pt_sln, pt_sl0, pt_sl2, pt_sr, pt_srn, pt_sr0, pt_sr1, if_true, if_false, ite_true, ite_false, not_true_eq_false, not_false_eq_true, if_pos, if_neg]
    · simp (disch := omega) only [pt_lt_, pt_clsome, pt_ck, pt_ckL, pt_cl, pt_clL, pt_cz0, pt_cz1, pt_czi, pt_add, pt_addL, pt_Ladd, pt_mul, pt_mulL, pt_Lmul, pt_sub, pt_subL, pt_Lsub, pt_rem, pt_le, pt_leL, pt_Lle, pt_lt, pt_ltL, pt_Llt, pt_eq, pt_eqL, pt_Leq, pt_m1, pt_lt0, pt_ge0, pt_m1lt0, pt_m1ge0, pt_10, pt_01, pt_00, pt_11, pt_m11, pt_0m1, pt_1m1, pt_ib, pt_ib1, pt_hs, pt_so, pt_ofNat, pt_si, pt_sin, pt_si1, pt_si2, pt_sl, pt_sln, pt_sl0, pt_sl2, pt_sr, pt_srn, pt_sr0, pt_sr1, if_true, if_false, ite_true, ite_false, not_true_eq_false, not_false_eq_true, if_pos, if_neg]
    · rw [a5, pt_sr (by omega)]
  · obtain ⟨y1, y2⟩ := a4 j i (by omega)
    rw [y1, y2]
    exact ⟨by simp (disch := omega) only [pt_lt_, pt_clsome, pt_ck, pt_ckL, pt_cl, pt_clL, pt_cz0, pt_cz1, pt_czi, pt_add, pt_addL, pt_Ladd, pt_mul, pt_mulL, pt_Lmul, pt_sub, pt_subL, pt_Lsub, pt_rem, pt_le, pt_leL, pt_Lle, pt_lt, pt_ltL, pt_Llt, pt_eq, pt_eqL, pt_Leq, pt_m1, pt_lt0, pt_ge0, pt_m1lt0, pt_m1ge0, pt_10, pt_01, pt_00, pt_11, pt_m11, pt_0m1, pt_1m1, pt_ib, pt_ib1, pt_hs, pt_so, pt_ofNat, pt_si, pt_sin, pt_si1, pt_si2, pt_sl, pt_sln, pt_sl0, pt_sl2, pt_sr, pt_srn, pt_sr0, pt_sr1, if_true, if_false, ite_true, ite_false, not_true_eq_false, not_false_eq_true, if_pos, if_neg], rfl⟩
  · refine ⟨fun j i hj => ?_, a6.2⟩
    obtain ⟨y1, y2⟩ := a6.1 j i (by unfold PM; omega)
    exact ⟨by rw [pt_sin (by omega), y1]; simp (disch := omega) only [pt_lt_, pt_clsome, pt_ck, pt_ckL, pt_cl, pt_clL, pt_cz0, pt_cz1, pt_czi, pt_add, pt_addL, pt_Ladd, pt_mul, pt_mulL, pt_Lmul, pt_sub, pt_subL, pt_Lsub, pt_rem, pt_le, pt_leL, pt_Lle, pt_lt, pt_ltL, pt_Llt, pt_eq, pt_eqL, pt_Leq, pt_m1, pt_lt0, pt_ge0, pt_m1lt0, pt_m1ge0, pt_10, pt_01, pt_00, pt_11, pt_m11, pt_0m1, pt_1m1, pt_ib, pt_ib1, pt_hs, pt_so, pt_ofNat, pt_si, pt_sin, pt_si1, pt_si2, pt_sl, pt_sln, pt_sl0, pt_sl2, pt_sr, pt_srn, pt_sr0, pt_sr1, if_true, if_false, ite_true, ite_false, not_true_eq_false, not_false_eq_true, if_pos, if_neg], y2⟩
theorem ls_back {F : Nat} {hu : hd_T} {hb : Nat} {κx κm : kp_K} (hF : 700 ≤ F) (I : INV hu hb κx κm) : iLS hu hb κx κm (pX1_back κx) (pX6_back F κm) := by
  obtain ⟨hT, hM, hs, -, -, ⟨-, N, hc⟩, -, ⟨i1, i2⟩, -⟩ := id I
  have no : iLS hu hb κx κm (some ((-1 : Int32), κx)) (some ((-1 : Int32), s_i κm 66 0 0)) := ⟨_, _, _, rfl, rfl, I.th, fun _ _ _ => ⟨rfl, rfl⟩, MF0⟩
  unfold pX1_back pX6_back
  simp (disch := omega) only [pt_lt_, pt_clsome, pt_ck, pt_ckL, pt_cl, pt_clL, pt_cz0, pt_cz1, pt_czi, pt_add, pt_addL, pt_Ladd, pt_mul, pt_mulL, pt_Lmul, pt_sub, pt_subL, pt_Lsub, pt_rem, pt_le, pt_leL, pt_Lle, pt_lt, pt_ltL, pt_Llt, pt_eq, pt_eqL, pt_Leq, pt_m1, pt_lt0, pt_ge0, pt_m1lt0, pt_m1ge0, pt_10, pt_01, pt_00, pt_11, pt_m11, pt_0m1, pt_1m1, pt_ib, pt_ib1, pt_hs, pt_so, pt_ofNat, pt_si, pt_sin, pt_si1, pt_si2, pt_sl, pt_sln, pt_sl0, pt_sl2, pt_sr, pt_srn, pt_sr0, pt_sr1, if_true, if_false, ite_true, ite_false, not_true_eq_false, not_false_eq_true, i1]
  rcases i2 with i2 | ⟨i2, i3, dy, mn, w, R⟩
  · rw [if_pos i2, if_pos i2]
    exact no
  · have hB := Bd_le hT R.1.2.2
    rw [if_neg (by rw [i2]; decide), if_neg (by rw [i2]; decide)]
    have R1 : RR hu 2 dy mn w (Bd hu dy) κx (s_i κm 66 0 0) := R.same2 (by omega) (fun j i a b _ _ _ => rfl) (fun j i q => pt_sin (by omega))
    obtain ⟨k1, m1, a1, a2, a3, a4, a5, a6, a7⟩ := rr_copy (F := F) (ra := 0) (rb := 2) hF (by omega) (by omega) (by omega) (by omega) i3 R1
    have a2' : pX6_copies F (s_i κm 66 0 0) 0 2 = some m1 := a2
    rw [a1, a2']
    have x13 : k1.1 13 1 = nI dy := a3.1.1
    have m91 : m1.1 91 0 = nI dy := a3.1.2.1
    simp (disch := omega) only [pt_lt_, pt_clsome, pt_ck, pt_ckL, pt_cl, pt_clL, pt_cz0, pt_cz1, pt_czi, pt_add, pt_addL, pt_Ladd, pt_mul, pt_mulL, pt_Lmul, pt_sub, pt_subL, pt_Lsub, pt_rem, pt_le, pt_leL, pt_Lle, pt_lt, pt_ltL, pt_Llt, pt_eq, pt_eqL, pt_Leq, pt_m1, pt_lt0, pt_ge0, pt_m1lt0, pt_m1ge0, pt_10, pt_01, pt_00, pt_11, pt_m11, pt_0m1, pt_1m1, pt_ib, pt_ib1, pt_hs, pt_so, pt_ofNat, pt_si, pt_sin, pt_si1, pt_si2, pt_sl, pt_sln, pt_sl0, pt_sl2, pt_sr, pt_srn, pt_sr0, pt_sr1, if_true, if_false, ite_true, ite_false, not_true_eq_false, not_false_eq_true, if_pos, if_neg, x13, m91]
    have hM57 : m1.1 66 57 = κm.1 66 57 := by
      rw [(a6.1 66 57 (by unfold PM; omega)).1]
      simp (disch := omega) only [pt_lt_, pt_clsome, pt_ck, pt_ckL, pt_cl, pt_clL, pt_cz0, pt_cz1, pt_czi, pt_add, pt_addL, pt_Ladd, pt_mul, pt_mulL, pt_Lmul, pt_sub, pt_subL, pt_Lsub, pt_rem, pt_le, pt_leL, pt_Lle, pt_lt, pt_ltL, pt_Llt, pt_eq, pt_eqL, pt_Leq, pt_m1, pt_lt0, pt_ge0, pt_m1lt0, pt_m1ge0, pt_10, pt_01, pt_00, pt_11, pt_m11, pt_0m1, pt_1m1, pt_ib, pt_ib1, pt_hs, pt_so, pt_ofNat, pt_si, pt_sin, pt_si1, pt_si2, pt_sl, pt_sln, pt_sl0, pt_sl2, pt_sr, pt_srn, pt_sr0, pt_sr1, if_true, if_false, ite_true, ite_false, not_true_eq_false, not_false_eq_true, if_pos, if_neg]
    refine ⟨_, k1, m1, rfl, rfl, ?_, fun j i hj => ?_, ?_⟩
    · refine I.runs (fun j i a b => ?_) (fun j i q => ?_) (fun j i a b => ?_) ⟨⟨dy, mn, w, a3⟩, ⟨?_, ?_⟩, ?_⟩ ⟨?_, Or.inr ⟨?_, ?_, dy, mn, w, R.same2 (by omega) (fun j i a b _ _ _ => ?_) (fun j i q => ?_)⟩⟩
      · rw [(a4 j i (fun q => b (by unfold PX; omega))).1]
      · rw [a5, pt_srn (by omega)]
      · rw [(a6.1 j i (fun q => b (Or.inr (Or.inl q)))).1, pt_sin (fun q => b (Or.inl (by unfold SM; omega)))]
      · rw [(a4 _ 13 (by omega)).1]
        exact N.1
      · rw [a7]
        simp (disch := omega) only [pt_lt_, pt_clsome, pt_ck, pt_ckL, pt_cl, pt_clL, pt_cz0, pt_cz1, pt_czi, pt_add, pt_addL, pt_Ladd, pt_mul, pt_mulL, pt_Lmul, pt_sub, pt_subL, pt_Lsub, pt_rem, pt_le, pt_leL, pt_Lle, pt_lt, pt_ltL, pt_Llt, pt_eq, pt_eqL, pt_Leq, pt_m1, pt_lt0, pt_ge0, pt_m1lt0, pt_m1ge0, pt_10, pt_01, pt_00, pt_11, pt_m11, pt_0m1, pt_1m1, pt_ib, pt_ib1, pt_hs, pt_so, pt_ofNat, pt_si, pt_sin, pt_si1, pt_si2, pt_sl, pt_sln, pt_sl0, pt_sl2, pt_sr, pt_srn, pt_sr0, pt_sr1, if_true, if_false, ite_true, ite_false, not_true_eq_false, not_false_eq_true, if_pos, if_neg]
        exact N.2
      · rw [a5, pt_sr (by omega)]
      · rw [(a4 0 27 (by omega)).1, hM57]
        exact i1
      · rw [hM57]
        exact i2
      · rw [a5, pt_srn (by omega)]
        exact i3
      · rw [(a4 j i (by omega)).1]
      · rw [(a6.1 j i (by unfold PM; omega)).1, pt_sin (by omega)]
    · obtain ⟨y1, y2⟩ := a4 j i (by omega)
      rw [y1, y2]
      exact ⟨rfl, rfl⟩
    · refine ⟨fun j i hj => ?_, a6.2⟩
      obtain ⟨y1, y2⟩ := a6.1 j i (by unfold PM; omega)
      exact ⟨by rw [y1]; simp (disch := omega) only [pt_lt_, pt_clsome, pt_ck, pt_ckL, pt_cl, pt_clL, pt_cz0, pt_cz1, pt_czi, pt_add, pt_addL, pt_Ladd, pt_mul, pt_mulL, pt_Lmul, pt_sub, pt_subL, pt_Lsub, pt_rem, pt_le, pt_leL, pt_Lle, pt_lt, pt_ltL, pt_Llt, pt_eq, pt_eqL, pt_Leq, pt_m1, pt_lt0, pt_ge0, pt_m1lt0, pt_m1ge0, pt_10, pt_01, pt_00, pt_11, pt_m11, pt_0m1, pt_1m1, pt_ib, pt_ib1, pt_hs, pt_so, pt_ofNat, pt_si, pt_sin, pt_si1, pt_si2, pt_sl, pt_sln, pt_sl0, pt_sl2, pt_sr, pt_srn, pt_sr0, pt_sr1, if_true, if_false, ite_true, ite_false, not_true_eq_false, not_false_eq_true, if_pos, if_neg], y2⟩
