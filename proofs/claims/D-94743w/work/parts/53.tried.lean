/-! PURE LAYER: a run begins; days; what is tried otherwise -/
set_option maxRecDepth 100000
theorem rr_begin2 {F : Nat} {r : Nat} (hr : r < 3) : ∀ m q, q + m = 16 → ∀ fx fm, m < fx → m < fm → ∀ (κx κm : kp_K), (∀ e, e < q → κx.1 (25 + 14 * r) e = -2 ∧ κm.1 99 (16 * r + e) = -2) →
    ∃ κx' κm', bX5_begin_63 F r fx κx (nI q) = some κx' ∧ bX6_begins_56 F fm κm (nI r) (nI q) = some κm' ∧ (∀ e, e < 16 → κx'.1 (25 + 14 * r) e = -2 ∧ κm'.1 99 (16 * r + e) = -2) ∧ Fr (fun j _ => j = 25 + 14 * r) κx κx' ∧ Fr (fun j i => j = 99 ∧ 16 * r ≤ i ∧ i < 16 * r + 16) κm κm' := by
  intro m
  induction m with
  | zero =>
    intro q hq fx fm hfx hfm κx κm hz
    obtain ⟨fx, rfl⟩ : ∃ f', fx = f' + 1 := ⟨fx - 1, by omega⟩
    obtain ⟨fm, rfl⟩ : ∃ f', fm = f' + 1 := ⟨fm - 1, by omega⟩
    rw [bX5_begin_63, bX6_begins_56]
    simp (disch := omega) only [pt_lt_, pt_clsome, pt_ck, pt_ckL, pt_cl, pt_clL, pt_cz0, pt_cz1, pt_czi, pt_add, pt_addL, pt_Ladd, pt_mul, pt_mulL, pt_Lmul, pt_sub, pt_subL, pt_Lsub, pt_rem, pt_le, pt_leL, pt_Lle, pt_lt, pt_ltL, pt_Llt, pt_eq, pt_eqL, pt_Leq, pt_m1, pt_lt0, pt_ge0, pt_m1lt0, pt_m1ge0, pt_10, pt_01, pt_00, pt_11, pt_m11, pt_0m1, pt_1m1, pt_ib, pt_ib1, pt_hs, pt_so, pt_ofNat, pt_si, pt_sin, pt_si1, pt_si2, pt_sl, pt_sln, pt_sl0, pt_sl2, pt_sr, pt_srn, pt_sr0, pt_sr1, if_true, if_false, ite_true, ite_false, not_true_eq_false, not_false_eq_true, if_pos, if_neg]
    exact ⟨κx, κm, rfl, rfl, fun e he => hz e (by omega), Fr.rf, Fr.rf⟩
  | succ m ih =>
    intro q hq fx fm hfx hfm κx κm hz
    obtain ⟨fx, rfl⟩ : ∃ f', fx = f' + 1 := ⟨fx - 1, by omega⟩
    obtain ⟨fm, rfl⟩ : ∃ f', fm = f' + 1 := ⟨fm - 1, by omega⟩
    rw [bX5_begin_63, bX6_begins_56]
    simp (disch := omega) only [pt_lt_, pt_clsome, pt_ck, pt_ckL, pt_cl, pt_clL, pt_cz0, pt_cz1, pt_czi, pt_add, pt_addL, pt_Ladd, pt_mul, pt_mulL, pt_Lmul, pt_sub, pt_subL, pt_Lsub, pt_rem, pt_le, pt_leL, pt_Lle, pt_lt, pt_ltL, pt_Llt, pt_eq, pt_eqL, pt_Leq, pt_m1, pt_lt0, pt_ge0, pt_m1lt0, pt_m1ge0, pt_10, pt_01, pt_00, pt_11, pt_m11, pt_0m1, pt_1m1, pt_ib, pt_ib1, pt_hs, pt_so, pt_ofNat, pt_si, pt_sin, pt_si1, pt_si2, pt_sl, pt_sln, pt_sl0, pt_sl2, pt_sr, pt_srn, pt_sr0, pt_sr1, if_true, if_false, ite_true, ite_false, not_true_eq_false, not_false_eq_true, if_pos, if_neg]
    obtain ⟨κx', κm', e1, e2, e3, e4, e5⟩ := ih (q + 1) (by omega) fx fm (by omega) (by omega) (s_i κx (25 + 14 * r) q (-2)) (s_i κm 99 (16 * r + q) (-2)) (fun e he => by
      by_cases hq2 : e = q
      · subst hq2
        simp (disch := omega) only [pt_lt_, pt_clsome, pt_ck, pt_ckL, pt_cl, pt_clL, pt_cz0, pt_cz1, pt_czi, pt_add, pt_addL, pt_Ladd, pt_mul, pt_mulL, pt_Lmul, pt_sub, pt_subL, pt_Lsub, pt_rem, pt_le, pt_leL, pt_Lle, pt_lt, pt_ltL, pt_Llt, pt_eq, pt_eqL, pt_Leq, pt_m1, pt_lt0, pt_ge0, pt_m1lt0, pt_m1ge0, pt_10, pt_01, pt_00, pt_11, pt_m11, pt_0m1, pt_1m1, pt_ib, pt_ib1, pt_hs, pt_so, pt_ofNat, pt_si, pt_sin, pt_si1, pt_si2, pt_sl, pt_sln, pt_sl0, pt_sl2, pt_sr, pt_srn, pt_sr0, pt_sr1, if_true, if_false, ite_true, ite_false, not_true_eq_false, not_false_eq_true, if_pos, if_neg]
        exact ⟨trivial, trivial⟩
      · simp (disch := omega) only [pt_lt_, pt_clsome, pt_ck, pt_ckL, pt_cl, pt_clL, pt_cz0, pt_cz1, pt_czi, pt_add, pt_addL, pt_Ladd, pt_mul, pt_mulL, pt_Lmul, pt_sub, pt_subL, pt_Lsub, pt_rem, pt_le, pt_leL, pt_Lle, pt_lt, pt_ltL, pt_Llt, pt_eq, pt_eqL, pt_Leq, pt_m1, pt_lt0, pt_ge0, pt_m1lt0, pt_m1ge0, pt_10, pt_01, pt_00, pt_11, pt_m11, pt_0m1, pt_1m1, pt_ib, pt_ib1, pt_hs, pt_so, pt_ofNat, pt_si, pt_sin, pt_si1, pt_si2, pt_sl, pt_sln, pt_sl0, pt_sl2, pt_sr, pt_srn, pt_sr0, pt_sr1, if_true, if_false, ite_true, ite_false, not_true_eq_false, not_false_eq_true, if_pos, if_neg]
        exact hz e (by omega))
    exact ⟨κx', κm', e1, e2, e3, Fr.tr (κ1 := s_i κx (25 + 14 * r) q (-2)) (Fr.si rfl) e4, Fr.tr (κ1 := s_i κm 99 (16 * r + q) (-2)) (Fr.si (by omega)) e5⟩
theorem rr_begin1 {F : Nat} {r : Nat} (hr : r < 3) : ∀ m d, d + m = 4 → ∀ fx fm, m < fx → m < fm → ∀ (κx κm : kp_K), (∀ e, e < d → κx.1 (14 + 14 * r) e = 0 ∧ κx.1 (15 + 14 * r) e = 0 ∧ κx.1 (16 + 14 * r) e = -1 ∧ κm.1 92 (4 * r + e) = 0 ∧ κm.1 96 (4 * r + e) = 0 ∧ κm.1 97 (4 * r + e) = -1) →
    ∃ κx' κm', bX5_begin_22 F r fx κx (nI d) = bX5_begin_63 F r F κx' 0 ∧ bX6_begins_16 F fm κm (nI r) (nI d) = bX6_begins_56 F F κm' (nI r) 0 ∧ (∀ e, e < 4 → κx'.1 (14 + 14 * r) e = 0 ∧ κx'.1 (15 + 14 * r) e = 0 ∧ κx'.1 (16 + 14 * r) e = -1 ∧ κm'.1 92 (4 * r + e) = 0 ∧ κm'.1 96 (4 * r + e) = 0 ∧ κm'.1 97 (4 * r + e) = -1) ∧ Fr (fun j _ => 14 + 14 * r ≤ j ∧ j ≤ 17 + 14 * r) κx κx' ∧ Fr (fun j i => (j = 92 ∨ j = 96 ∨ j = 97) ∧ 4 * r ≤ i ∧ i < 4 * r + 4) κm κm' := by
  intro m
  induction m with
  | zero =>
    intro d hd fx fm hfx hfm κx κm hz
    obtain ⟨fx, rfl⟩ : ∃ f', fx = f' + 1 := ⟨fx - 1, by omega⟩
    obtain ⟨fm, rfl⟩ : ∃ f', fm = f' + 1 := ⟨fm - 1, by omega⟩
    rw [bX5_begin_22, bX6_begins_16]
    simp (disch := omega) only [pt_lt_, pt_clsome, pt_ck, pt_ckL, pt_cl, pt_clL, pt_cz0, pt_cz1, pt_czi, pt_add, pt_addL, pt_Ladd, pt_mul, pt_mulL, pt_Lmul, pt_sub, pt_subL, pt_Lsub, pt_rem, pt_le, pt_leL, pt_Lle, pt_lt, pt_ltL, pt_Llt, pt_eq, pt_eqL, pt_Leq, pt_m1, pt_lt0, pt_ge0, pt_m1lt0, pt_m1ge0, pt_10, pt_01, pt_00, pt_11, pt_m11, pt_0m1, pt_1m1, pt_ib, pt_ib1, pt_hs, pt_so, pt_ofNat, pt_si, pt_sin, pt_si1, pt_si2, pt_sl, pt_sln, pt_sl0, pt_sl2, pt_sr, pt_srn, pt_sr0, pt_sr1, if_true, if_false, ite_true, ite_false, not_true_eq_false, not_false_eq_true, if_pos, if_neg]
    exact ⟨κx, κm, rfl, rfl, fun e he => hz e (by omega), Fr.rf, Fr.rf⟩
  | succ m ih =>
    intro d hd fx fm hfx hfm κx κm hz
    obtain ⟨fx, rfl⟩ : ∃ f', fx = f' + 1 := ⟨fx - 1, by omega⟩
    obtain ⟨fm, rfl⟩ : ∃ f', fm = f' + 1 := ⟨fm - 1, by omega⟩
    rw [bX5_begin_22, bX6_begins_16]
    simp (disch := omega) only [pt_lt_, pt_clsome, pt_ck, pt_ckL, pt_cl, pt_clL, pt_cz0, pt_cz1, pt_czi, pt_add, pt_addL, pt_Ladd, pt_mul, pt_mulL, pt_Lmul, pt_sub, pt_subL, pt_Lsub, pt_rem, pt_le, pt_leL, pt_Lle, pt_lt, pt_ltL, pt_Llt, pt_eq, pt_eqL, pt_Leq, pt_m1, pt_lt0, pt_ge0, pt_m1lt0, pt_m1ge0, pt_10, pt_01, pt_00, pt_11, pt_m11, pt_0m1, pt_1m1, pt_ib, pt_ib1, pt_hs, pt_so, pt_ofNat, pt_si, pt_sin, pt_si1, pt_si2, pt_sl, pt_sln, pt_sl0, pt_sl2, pt_sr, pt_srn, pt_sr0, pt_sr1, if_true, if_false, ite_true, ite_false, not_true_eq_false, not_false_eq_true, if_pos, if_neg]
    obtain ⟨κx', κm', e1, e2, e3, e4, e5⟩ := ih (d + 1) (by omega) fx fm (by omega) (by omega) (s_i (s_i (s_i (s_i κx (14 + 14 * r) d 0) (15 + 14 * r) d 0) (16 + 14 * r) d (-1)) (17 + 14 * r) d 0) (s_i (s_i (s_i κm 92 (4 * r + d) 0) 96 (4 * r + d) 0) 97 (4 * r + d) (-1)) (fun e he => by
      by_cases hq2 : e = d
      · subst hq2
        simp (disch := omega) only [pt_lt_, pt_clsome, pt_ck, pt_ckL, pt_cl, pt_clL, pt_cz0, pt_cz1, pt_czi, pt_add, pt_addL, pt_Ladd, pt_mul, pt_mulL, pt_Lmul, pt_sub, pt_subL, pt_Lsub, pt_rem, pt_le, pt_leL, pt_Lle, pt_lt, pt_ltL, pt_Llt, pt_eq, pt_eqL, pt_Leq, pt_m1, pt_lt0, pt_ge0, pt_m1lt0, pt_m1ge0, pt_10, pt_01, pt_00, pt_11, pt_m11, pt_0m1, pt_1m1, pt_ib, pt_ib1, pt_hs, pt_so, pt_ofNat, pt_si, pt_sin, pt_si1, pt_si2, pt_sl, pt_sln, pt_sl0, pt_sl2, pt_sr, pt_srn, pt_sr0, pt_sr1, if_true, if_false, ite_true, ite_false, not_true_eq_false, not_false_eq_true, if_pos, if_neg]
        exact ⟨trivial, trivial, trivial, trivial, trivial, trivial⟩
      · simp (disch := omega) only [pt_lt_, pt_clsome, pt_ck, pt_ckL, pt_cl, pt_clL, pt_cz0, pt_cz1, pt_czi, pt_add, pt_addL, pt_Ladd, pt_mul, pt_mulL, pt_Lmul, pt_sub, pt_subL, pt_Lsub, pt_rem, pt_le, pt_leL, pt_Lle, pt_lt, pt_ltL, pt_Llt, pt_eq, pt_eqL, pt_Leq, pt_m1, pt_lt0, pt_ge0, pt_m1lt0, pt_m1ge0, pt_10, pt_01, pt_00, pt_11, pt_m11, pt_0m1, pt_1m1, pt_ib, pt_ib1, pt_hs, pt_so, pt_ofNat, pt_si, pt_sin, pt_si1, pt_si2, pt_sl, pt_sln, pt_sl0, pt_sl2, pt_sr, pt_srn, pt_sr0, pt_sr1, if_true, if_false, ite_true, ite_false, not_true_eq_false, not_false_eq_true, if_pos, if_neg]
        exact hz e (by omega))
    refine ⟨κx', κm', e1, e2, e3, Fr.tr ?_ e4, Fr.tr ?_ e5⟩
    · exact ⟨fun j9 i9 q9 => by dsimp only at q9; exact ⟨by first | rfl | (simp (disch := omega) only [pt_sin, pt_si1, pt_si2, pt_sln, pt_sl0, pt_sl2, pt_scn, pt_sc1]), by first | rfl | (simp (disch := omega) only [pt_sin, pt_si1, pt_si2, pt_sln, pt_sl0, pt_sl2, pt_scn, pt_sc1])⟩, rfl⟩
    · exact ⟨fun j9 i9 q9 => by dsimp only at q9; exact ⟨by first | rfl | (simp (disch := omega) only [pt_sin, pt_si1, pt_si2, pt_sln, pt_sl0, pt_sl2, pt_scn, pt_sc1]), by first | rfl | (simp (disch := omega) only [pt_sin, pt_si1, pt_si2, pt_sln, pt_sl0, pt_sl2, pt_scn, pt_sc1])⟩, rfl⟩
theorem rr_begin {F : Nat} {hu : hd_T} {r : Nat} (hF : 80 ≤ F) (hr : r < 3) (ch : Nat) (κx κm : kp_K) :
    ∃ κx' κm', pX5_begin F r κx ch = some κx' ∧ pX6_begins F κm (nI r) = some κm' ∧ RR hu r 0 (fun _ => 0) 0 0 κx' κm' ∧ κx'.1 (13 + 14 * r) 13 = 0 ∧ κx'.2.2 = (s_r κx (13 + 14 * r) 0 (some ch)).2.2 ∧ (∀ j i, ¬ PX r j i → κx'.1 j i = κx.1 j i ∧ κx'.2.1 j i = κx.2.1 j i) ∧ Fr (PM r) κm κm' := by
  obtain ⟨x1, m1, a1, a2, a3, a4, a5⟩ := rr_begin1 (F := F) hr 4 0 (by omega) F F (by omega) (by omega) (s_i (s_i (s_i (s_r κx (13 + 14 * r) 0 (some ch)) (13 + 14 * r) 1 0) (13 + 14 * r) 16 0) (13 + 14 * r) 13 0) (s_i (s_i κm 91 r 0) 100 r 0) (fun e he => by omega)
  obtain ⟨x2, m2, b1, b2, b3, b4, b5⟩ := rr_begin2 (F := F) hr 16 0 (by omega) F F (by omega) (by omega) x1 m1 (fun e he => by omega)
  have a1' : bX5_begin_22 F r F (s_i (s_i (s_i (s_r κx (13 + 14 * r) 0 (some ch)) (13 + 14 * r) 1 0) (13 + 14 * r) 16 0) (13 + 14 * r) 13 0) 0 = bX5_begin_63 F r F x1 0 := a1
  have b1' : bX5_begin_63 F r F x1 0 = some x2 := b1
  have a2' : bX6_begins_16 F F (s_i (s_i κm 91 r 0) 100 r 0) (nI r) 0 = bX6_begins_56 F F m1 (nI r) 0 := a2
  have b2' : bX6_begins_56 F F m1 (nI r) 0 = some m2 := b2
  have fx : ∀ j i, ¬ ((14 + 14 * r ≤ j ∧ j ≤ 17 + 14 * r) ∨ j = 25 + 14 * r) → x2.1 j i = (s_i (s_i (s_i (s_r κx (13 + 14 * r) 0 (some ch)) (13 + 14 * r) 1 0) (13 + 14 * r) 16 0) (13 + 14 * r) 13 0).1 j i ∧ x2.2.1 j i = κx.2.1 j i := fun j i q => ⟨(b4.1 j i (by omega)).1.trans (a4.1 j i (by omega)).1, (b4.1 j i (by omega)).2.trans (a4.1 j i (by omega)).2⟩
  have fm : ∀ j i, ¬ (((j = 92 ∨ j = 96 ∨ j = 97) ∧ 4 * r ≤ i ∧ i < 4 * r + 4) ∨ (j = 99 ∧ 16 * r ≤ i ∧ i < 16 * r + 16)) → m2.1 j i = (s_i (s_i κm 91 r 0) 100 r 0).1 j i := fun j i q => (b5.1 j i (by omega)).1.trans (a5.1 j i (by omega)).1
  refine ⟨x2, m2, ?_, ?_, ⟨⟨?_, ?_, by omega⟩, ⟨?_, ?_⟩, fun z hz => ?_, fun y hz => ?_, fun z i hz hi => absurd hi (Nat.not_lt_zero i), fun i hi => ?_, fun i hi => by omega, Nat.le_refl 0⟩, ?_, ?_, fun j i q => ?_, ?_⟩
  · unfold pX5_begin
    simp (disch := omega) only [pt_lt_, pt_clsome, pt_ck, pt_ckL, pt_cl, pt_clL, pt_cz0, pt_cz1, pt_czi, pt_add, pt_addL, pt_Ladd, pt_mul, pt_mulL, pt_Lmul, pt_sub, pt_subL, pt_Lsub, pt_rem, pt_le, pt_leL, pt_Lle, pt_lt, pt_ltL, pt_Llt, pt_eq, pt_eqL, pt_Leq, pt_m1, pt_lt0, pt_ge0, pt_m1lt0, pt_m1ge0, pt_10, pt_01, pt_00, pt_11, pt_m11, pt_0m1, pt_1m1, pt_ib, pt_ib1, pt_hs, pt_so, pt_ofNat, pt_si, pt_sin, pt_si1, pt_si2, pt_sl, pt_sln, pt_sl0, pt_sl2, pt_sr, pt_srn, pt_sr0, pt_sr1, if_true, if_false, ite_true, ite_false, not_true_eq_false, not_false_eq_true, if_pos, if_neg]
    rw [a1']
    exact b1'
  · unfold pX6_begins
    simp (disch := omega) only [pt_lt_, pt_clsome, pt_ck, pt_ckL, pt_cl, pt_clL, pt_cz0, pt_cz1, pt_czi, pt_add, pt_addL, pt_Ladd, pt_mul, pt_mulL, pt_Lmul, pt_sub, pt_subL, pt_Lsub, pt_rem, pt_le, pt_leL, pt_Lle, pt_lt, pt_ltL, pt_Llt, pt_eq, pt_eqL, pt_Leq, pt_m1, pt_lt0, pt_ge0, pt_m1lt0, pt_m1ge0, pt_10, pt_01, pt_00, pt_11, pt_m11, pt_0m1, pt_1m1, pt_ib, pt_ib1, pt_hs, pt_so, pt_ofNat, pt_si, pt_sin, pt_si1, pt_si2, pt_sl, pt_sln, pt_sl0, pt_sl2, pt_sr, pt_srn, pt_sr0, pt_sr1, if_true, if_false, ite_true, ite_false, not_true_eq_false, not_false_eq_true, if_pos, if_neg]
    rw [a2']
    exact b2'
  · rw [(fx _ _ (by omega)).1]; simp (disch := omega) only [pt_lt_, pt_clsome, pt_ck, pt_ckL, pt_cl, pt_clL, pt_cz0, pt_cz1, pt_czi, pt_add, pt_addL, pt_Ladd, pt_mul, pt_mulL, pt_Lmul, pt_sub, pt_subL, pt_Lsub, pt_rem, pt_le, pt_leL, pt_Lle, pt_lt, pt_ltL, pt_Llt, pt_eq, pt_eqL, pt_Leq, pt_m1, pt_lt0, pt_ge0, pt_m1lt0, pt_m1ge0, pt_10, pt_01, pt_00, pt_11, pt_m11, pt_0m1, pt_1m1, pt_ib, pt_ib1, pt_hs, pt_so, pt_ofNat, pt_si, pt_sin, pt_si1, pt_si2, pt_sl, pt_sln, pt_sl0, pt_sl2, pt_sr, pt_srn, pt_sr0, pt_sr1, if_true, if_false, ite_true, ite_false, not_true_eq_false, not_false_eq_true, if_pos, if_neg]
  · rw [fm _ _ (by omega)]; simp (disch := omega) only [pt_lt_, pt_clsome, pt_ck, pt_ckL, pt_cl, pt_clL, pt_cz0, pt_cz1, pt_czi, pt_add, pt_addL, pt_Ladd, pt_mul, pt_mulL, pt_Lmul, pt_sub, pt_subL, pt_Lsub, pt_rem, pt_le, pt_leL, pt_Lle, pt_lt, pt_ltL, pt_Llt, pt_eq, pt_eqL, pt_Leq, pt_m1, pt_lt0, pt_ge0, pt_m1lt0, pt_m1ge0, pt_10, pt_01, pt_00, pt_11, pt_m11, pt_0m1, pt_1m1, pt_ib, pt_ib1, pt_hs, pt_so, pt_ofNat, pt_si, pt_sin, pt_si1, pt_si2, pt_sl, pt_sln, pt_sl0, pt_sl2, pt_sr, pt_srn, pt_sr0, pt_sr1, if_true, if_false, ite_true, ite_false, not_true_eq_false, not_false_eq_true, if_pos, if_neg]
  · rw [(fx _ _ (by omega)).1]; simp (disch := omega) only [pt_lt_, pt_clsome, pt_ck, pt_ckL, pt_cl, pt_clL, pt_cz0, pt_cz1, pt_czi, pt_add, pt_addL, pt_Ladd, pt_mul, pt_mulL, pt_Lmul, pt_sub, pt_subL, pt_Lsub, pt_rem, pt_le, pt_leL, pt_Lle, pt_lt, pt_ltL, pt_Llt, pt_eq, pt_eqL, pt_Leq, pt_m1, pt_lt0, pt_ge0, pt_m1lt0, pt_m1ge0, pt_10, pt_01, pt_00, pt_11, pt_m11, pt_0m1, pt_1m1, pt_ib, pt_ib1, pt_hs, pt_so, pt_ofNat, pt_si, pt_sin, pt_si1, pt_si2, pt_sl, pt_sln, pt_sl0, pt_sl2, pt_sr, pt_srn, pt_sr0, pt_sr1, if_true, if_false, ite_true, ite_false, not_true_eq_false, not_false_eq_true, if_pos, if_neg]
  · rw [fm _ _ (by omega)]; simp (disch := omega) only [pt_lt_, pt_clsome, pt_ck, pt_ckL, pt_cl, pt_clL, pt_cz0, pt_cz1, pt_czi, pt_add, pt_addL, pt_Ladd, pt_mul, pt_mulL, pt_Lmul, pt_sub, pt_subL, pt_Lsub, pt_rem, pt_le, pt_leL, pt_Lle, pt_lt, pt_ltL, pt_Llt, pt_eq, pt_eqL, pt_Leq, pt_m1, pt_lt0, pt_ge0, pt_m1lt0, pt_m1ge0, pt_10, pt_01, pt_00, pt_11, pt_m11, pt_0m1, pt_1m1, pt_ib, pt_ib1, pt_hs, pt_so, pt_ofNat, pt_si, pt_sin, pt_si1, pt_si2, pt_sl, pt_sln, pt_sl0, pt_sl2, pt_sr, pt_srn, pt_sr0, pt_sr1, if_true, if_false, ite_true, ite_false, not_true_eq_false, not_false_eq_true, if_pos, if_neg]
  · obtain ⟨z1, z2, z3, z4, z5, z6⟩ := a3 z hz
    rw [(b4.1 _ _ (by omega)).1, (b5.1 92 _ (by omega)).1, z1, z4]
    exact ⟨rfl, rfl, Nat.zero_le 7⟩
  · obtain ⟨z1, z2, z3, z4, z5, z6⟩ := a3 y hz
    rw [(b4.1 _ _ (by omega)).1, (b4.1 _ _ (by omega)).1, (b5.1 96 _ (by omega)).1, (b5.1 97 _ (by omega)).1, z2, z3, z5, z6]
    exact ⟨rfl, rfl, Or.inl rfl⟩
  · rw [(b3 i hi).1, (b3 i hi).2]
  · rw [(fx _ _ (by omega)).1]; simp (disch := omega) only [pt_lt_, pt_clsome, pt_ck, pt_ckL, pt_cl, pt_clL, pt_cz0, pt_cz1, pt_czi, pt_add, pt_addL, pt_Ladd, pt_mul, pt_mulL, pt_Lmul, pt_sub, pt_subL, pt_Lsub, pt_rem, pt_le, pt_leL, pt_Lle, pt_lt, pt_ltL, pt_Llt, pt_eq, pt_eqL, pt_Leq, pt_m1, pt_lt0, pt_ge0, pt_m1lt0, pt_m1ge0, pt_10, pt_01, pt_00, pt_11, pt_m11, pt_0m1, pt_1m1, pt_ib, pt_ib1, pt_hs, pt_so, pt_ofNat, pt_si, pt_sin, pt_si1, pt_si2, pt_sl, pt_sln, pt_sl0, pt_sl2, pt_sr, pt_srn, pt_sr0, pt_sr1, if_true, if_false, ite_true, ite_false, not_true_eq_false, not_false_eq_true, if_pos, if_neg]
  · rw [b4.2, a4.2]; rfl
  · obtain ⟨z1, z2⟩ := fx j i (by unfold PX at q; omega)
    rw [z1, z2]
    refine ⟨?_, rfl⟩
    unfold PX at q
    simp (disch := omega) only [pt_lt_, pt_clsome, pt_ck, pt_ckL, pt_cl, pt_clL, pt_cz0, pt_cz1, pt_czi, pt_add, pt_addL, pt_Ladd, pt_mul, pt_mulL, pt_Lmul, pt_sub, pt_subL, pt_Lsub, pt_rem, pt_le, pt_leL, pt_Lle, pt_lt, pt_ltL, pt_Llt, pt_eq, pt_eqL, pt_Leq, pt_m1, pt_lt0, pt_ge0, pt_m1lt0, pt_m1ge0, pt_10, pt_01, pt_00, pt_11, pt_m11, pt_0m1, pt_1m1, pt_ib, pt_ib1, pt_hs, pt_so, pt_ofNat, pt_si, pt_sin, pt_si1, pt_si2, pt_sl, pt_sln, pt_sl0, pt_sl2, pt_sr, pt_srn, pt_sr0, pt_sr1, if_true, if_false, ite_true, ite_false, not_true_eq_false, not_false_eq_true, if_pos, if_neg]
  · refine Fr.tr (κ1 := m1) (Fr.tr (κ1 := s_i (s_i κm 91 r 0) 100 r 0) ?_ (a5.mono (fun j i q => by unfold PM; omega))) (b5.mono (fun j i q => by unfold PM; omega))
    exact (Fr.si (by unfold PM; omega)).tr (Fr.si (by unfold PM; omega))
/-- the reference's plain change -/
theorem pm_plain {κ : kp_K} : pX6_plain κ = some (s_i (s_i (s_i κ 66 37 (-1)) 66 38 (-1)) 66 39 0) := by
  unfold pX6_plain
  simp (disch := omega) only [pt_lt_, pt_clsome, pt_ck, pt_ckL, pt_cl, pt_clL, pt_cz0, pt_cz1, pt_czi, pt_add, pt_addL, pt_Ladd, pt_mul, pt_mulL, pt_Lmul, pt_sub, pt_subL, pt_Lsub, pt_rem, pt_le, pt_leL, pt_Lle, pt_lt, pt_ltL, pt_Llt, pt_eq, pt_eqL, pt_Leq, pt_m1, pt_lt0, pt_ge0, pt_m1lt0, pt_m1ge0, pt_10, pt_01, pt_00, pt_11, pt_m11, pt_0m1, pt_1m1, pt_ib, pt_ib1, pt_hs, pt_so, pt_ofNat, pt_si, pt_sin, pt_si1, pt_si2, pt_sl, pt_sln, pt_sl0, pt_sl2, pt_sr, pt_srn, pt_sr0, pt_sr1, if_true, if_false, ite_true, ite_false, not_true_eq_false, not_false_eq_true, if_pos, if_neg]
theorem ch_plain {hu : hd_T} {κx κm : kp_K} (hM : MT hu κm) (hc : IC hu κx) (h7 : κm.1 66 37 = -1) (h9 : κm.1 66 39 = 0) : CH hu 11 κx κm := by
  obtain ⟨c1, c2, c3, c4, c5, c6, c7⟩ := hc
  refine ⟨Or.inl rfl, ?_, ?_, ?_, ?_, fun d hd => ?_, fun c hc => ?_, 0, by omega, h9, ?_⟩
  · rw [c1, h7]; decide
  · rw [c2, h7]; decide
  · rw [c3, h7]; decide
  · rw [c4, h7]; decide
  · rw [c5, h7]
    exact ⟨fun q => by have := q.symm; rw [pt_m1 (by omega)] at this; exact this.elim, fun q => absurd q.1 (by decide)⟩
  · rw [c6, h7]
    exact ⟨fun q => by have := q.symm; rw [pt_m1 (by omega)] at this; exact this.elim, fun q => absurd q.1 (by decide)⟩
  · rw [c7]
    exact hM.2.2.2.2.2.2.2.2.2.1
theorem pm_daysIt {F N : Nat} (hN : N ≤ 61) : ∀ n k, k + n = N → ∀ f, n < f → ∀ κ, bX6_days_36 F f κ (nI N) (nI k) = p_cl (itP F 0 n κ) fun κ' => some (κ'.1 91 0, κ') := by
  intro n
  induction n with
  | zero =>
    intro k hk f hf κ
    obtain ⟨f, rfl⟩ : ∃ f', f = f' + 1 := ⟨f - 1, by omega⟩
    rw [bX6_days_36]
    unfold itP
    simp (disch := omega) only [pt_lt_, pt_clsome, pt_ck, pt_ckL, pt_cl, pt_clL, pt_cz0, pt_cz1, pt_czi, pt_add, pt_addL, pt_Ladd, pt_mul, pt_mulL, pt_Lmul, pt_sub, pt_subL, pt_Lsub, pt_rem, pt_le, pt_leL, pt_Lle, pt_lt, pt_ltL, pt_Llt, pt_eq, pt_eqL, pt_Leq, pt_m1, pt_lt0, pt_ge0, pt_m1lt0, pt_m1ge0, pt_10, pt_01, pt_00, pt_11, pt_m11, pt_0m1, pt_1m1, pt_ib, pt_ib1, pt_hs, pt_so, pt_ofNat, pt_si, pt_sin, pt_si1, pt_si2, pt_sl, pt_sln, pt_sl0, pt_sl2, pt_sr, pt_srn, pt_sr0, pt_sr1, if_true, if_false, ite_true, ite_false, not_true_eq_false, not_false_eq_true, if_pos, if_neg]
  | succ n ih =>
    intro k hk f hf κ
    obtain ⟨f, rfl⟩ : ∃ f', f = f' + 1 := ⟨f - 1, by omega⟩
    rw [bX6_days_36]
    unfold itP
    simp (disch := omega) only [pt_lt_, pt_clsome, pt_ck, pt_ckL, pt_cl, pt_clL, pt_cz0, pt_cz1, pt_czi, pt_add, pt_addL, pt_Ladd, pt_mul, pt_mulL, pt_Lmul, pt_sub, pt_subL, pt_Lsub, pt_rem, pt_le, pt_leL, pt_Lle, pt_lt, pt_ltL, pt_Llt, pt_eq, pt_eqL, pt_Leq, pt_m1, pt_lt0, pt_ge0, pt_m1lt0, pt_m1ge0, pt_10, pt_01, pt_00, pt_11, pt_m11, pt_0m1, pt_1m1, pt_ib, pt_ib1, pt_hs, pt_so, pt_ofNat, pt_si, pt_sin, pt_si1, pt_si2, pt_sl, pt_sln, pt_sl0, pt_sl2, pt_sr, pt_srn, pt_sr0, pt_sr1, if_true, if_false, ite_true, ite_false, not_true_eq_false, not_false_eq_true, if_pos, if_neg]
    have e : pX6_passes F κ 0 = pX6_passes F κ (nI 0) := rfl
    rw [e]
    cases pX6_passes F κ (nI 0) with
    | none => rfl
    | some κ1 => exact ih (k + 1) (by omega) f (by omega) κ1
/-- the truth goes on -/
theorem inv_truth {hu : hd_T} {hb dy : Nat} {mn : Nat → Nat} {w : Nat} {κx κm κx' κm' : kp_K} (I : INV hu hb κx κm) (R : RR hu 0 dy mn w (Bd hu dy) κx' κm') (N : NF 0 κx' κm') (gx : ∀ j i, j < 66 → ¬ (SX j i ∨ PX 0 j i) → κx'.1 j i = κx.1 j i) (gr : κx'.2.2 = κx.2.2) (gm : ∀ j i, 66 ≤ j → ¬ (SM j i ∨ PM 0 j i) → κm'.1 j i = κm.1 j i) : INV hu hb κx' κm' := by
  obtain ⟨h1, h2, h3, ⟨t, t1, t2, t3, t4⟩, ⟨f1, f2⟩, ⟨-, -, r3⟩, ⟨c1, c2, c3, c4, c5, c6, c7⟩, ⟨i1, i2⟩, hH⟩ := I
  refine ⟨h1, h2.same (fun j i a b => gm j i (by omega) (by unfold SM PM; omega)), by rw [gr]; exact h3, ⟨t, ?_, ?_, t3, fun i hi => ?_⟩, ⟨?_, ?_⟩, ⟨⟨dy, mn, w, R⟩, N, by rw [gr]; exact r3⟩, ⟨?_, ?_, ?_, ?_, ?_, ?_, ?_⟩, ⟨?_, ?_⟩, hH.same (fun j i q => gx j i (by omega) (by unfold SX PX; omega)) (fun j i q => gm j i (by omega) (by unfold SM PM; omega))⟩
  · rw [gx 0 1 (by omega) (by unfold SX PX; omega)]; exact t1
  · rw [gm 66 2 (by omega) (by unfold SM PM; omega)]; exact t2
  · rw [gx 1 i (by omega) (by unfold SX PX; omega), gm 67 i (by omega) (by unfold SM PM; omega)]; exact t4 i hi
  · rw [gx 0 2 (by omega) (by unfold SX PX; omega), gm 66 33 (by omega) (by unfold SM PM; omega)]; exact f1
  · rw [gx 0 3 (by omega) (by unfold SX PX; omega), gm 66 34 (by omega) (by unfold SM PM; omega)]; exact f2
  · rw [gx 11 1 (by omega) (by unfold SX PX; omega)]; exact c1
  · rw [gx 11 2 (by omega) (by unfold SX PX; omega)]; exact c2
  · rw [gx 11 3 (by omega) (by unfold SX PX; omega)]; exact c3
  · rw [gx 11 4 (by omega) (by unfold SX PX; omega)]; exact c4
  · rw [gx 11 5 (by omega) (by unfold SX PX; omega)]; exact c5
  · rw [gx 11 6 (by omega) (by unfold SX PX; omega)]; exact c6
  · rw [gr]; exact c7
  · rw [gx 0 27 (by omega) (by unfold SX PX; omega), gm 66 57 (by omega) (by unfold SM PM; omega)]; exact i1
  · rw [gm 66 57 (by omega) (by unfold SM PM; omega), gr]
    rcases i2 with i2 | ⟨i2, i3, dy2, mn2, w2, R2⟩
    · exact Or.inl i2
    · have hb2 := Bd_le h1 R2.1.2.2
      exact Or.inr ⟨i2, i3, dy2, mn2, w2, R2.same2 (by omega) (fun j i a b _ _ _ => gx j i (by omega) (by unfold SX PX; omega)) (fun j i q => gm j i (by omega) (by unfold SM PM; omega))⟩
theorem ls_days {F : Nat} {hu : hd_T} {hb : Nat} {κx κm : kp_K} (hF : 80 ≤ F) (I : INV hu hb κx κm) (v : Int32) : iLS hu hb κx κm (pX1_days F hb hu κx v) (pX6_days F κm v) := by
  obtain ⟨hT, hM, hs, -, -, ⟨⟨dy, mn, w, R⟩, N, hc⟩, hIC, -⟩ := id I
  have no : iLS hu hb κx κm (some ((-1 : Int32), κx)) (some ((-1 : Int32), s_i κm 66 0 0)) := ⟨_, _, _, rfl, rfl, I.th, fun _ _ _ => ⟨rfl, rfl⟩, MF0⟩
  have d1 := R.1.1
  have d2 := R.1.2.1
  have d3 := R.1.2.2
  simp only [Nat.mul_zero, Nat.add_zero] at d1
  unfold pX1_days pX6_days
  simp (disch := omega) only [pt_lt_, pt_clsome, pt_ck, pt_ckL, pt_cl, pt_clL, pt_cz0, pt_cz1, pt_czi, pt_add, pt_addL, pt_Ladd, pt_mul, pt_mulL, pt_Lmul, pt_sub, pt_subL, pt_Lsub, pt_rem, pt_le, pt_leL, pt_Lle, pt_lt, pt_ltL, pt_Llt, pt_eq, pt_eqL, pt_Leq, pt_m1, pt_lt0, pt_ge0, pt_m1lt0, pt_m1ge0, pt_10, pt_01, pt_00, pt_11, pt_m11, pt_0m1, pt_1m1, pt_ib, pt_ib1, pt_hs, pt_so, pt_ofNat, pt_si, pt_sin, pt_si1, pt_si2, pt_sl, pt_sln, pt_sl0, pt_sl2, pt_sr, pt_srn, pt_sr0, pt_sr1, if_true, if_false, ite_true, ite_false, not_true_eq_false, not_false_eq_true, px_isIn, d1, d2]
  simp only [ite_not]
  by_cases h : 0 ≤ v ∧ v ≤ 61
  · rw [if_pos h, if_neg (Int32.not_lt.mpr h.1), if_neg (Int32.not_lt.mpr h.2)]
    obtain ⟨n, hn, rfl⟩ := nI_of2 (M := 61) (n := 61) (by decide) (Int32.not_lt.mpr h.1) h.2
    simp (disch := omega) only [pt_lt_, pt_clsome, pt_ck, pt_ckL, pt_cl, pt_clL, pt_cz0, pt_cz1, pt_czi, pt_add, pt_addL, pt_Ladd, pt_mul, pt_mulL, pt_Lmul, pt_sub, pt_subL, pt_Lsub, pt_rem, pt_le, pt_leL, pt_Lle, pt_lt, pt_ltL, pt_Llt, pt_eq, pt_eqL, pt_Leq, pt_m1, pt_lt0, pt_ge0, pt_m1lt0, pt_m1ge0, pt_10, pt_01, pt_00, pt_11, pt_m11, pt_0m1, pt_1m1, pt_ib, pt_ib1, pt_hs, pt_so, pt_ofNat, pt_si, pt_sin, pt_si1, pt_si2, pt_sl, pt_sln, pt_sl0, pt_sl2, pt_sr, pt_srn, pt_sr0, pt_sr1, if_true, if_false, ite_true, ite_false, not_true_eq_false, not_false_eq_true]
    by_cases h2 : dy + n ≤ 61
    · rw [if_pos h2, if_pos h2, pm_plain]
      simp (disch := omega) only [pt_lt_, pt_clsome, pt_ck, pt_ckL, pt_cl, pt_clL, pt_cz0, pt_cz1, pt_czi, pt_add, pt_addL, pt_Ladd, pt_mul, pt_mulL, pt_Lmul, pt_sub, pt_subL, pt_Lsub, pt_rem, pt_le, pt_leL, pt_Lle, pt_lt, pt_ltL, pt_Llt, pt_eq, pt_eqL, pt_Leq, pt_m1, pt_lt0, pt_ge0, pt_m1lt0, pt_m1ge0, pt_10, pt_01, pt_00, pt_11, pt_m11, pt_0m1, pt_1m1, pt_ib, pt_ib1, pt_hs, pt_so, pt_ofNat, pt_si, pt_sin, pt_si1, pt_si2, pt_sl, pt_sln, pt_sl0, pt_sl2, pt_sr, pt_srn, pt_sr0, pt_sr1, if_true, if_false, ite_true, ite_false, not_true_eq_false, not_false_eq_true, if_pos, if_neg]
      have I1 : INV hu hb κx (s_i (s_i (s_i (s_i κm 66 0 0) 66 37 (-1)) 66 38 (-1)) 66 39 0) := I.same (fun _ _ _ _ => rfl) (fun _ _ _ => rfl) (fun j i a b => by unfold SM at b; simp (disch := omega) only [pt_lt_, pt_clsome, pt_ck, pt_ckL, pt_cl, pt_clL, pt_cz0, pt_cz1, pt_czi, pt_add, pt_addL, pt_Ladd, pt_mul, pt_mulL, pt_Lmul, pt_sub, pt_subL, pt_Lsub, pt_rem, pt_le, pt_leL, pt_Lle, pt_lt, pt_ltL, pt_Llt, pt_eq, pt_eqL, pt_Leq, pt_m1, pt_lt0, pt_ge0, pt_m1lt0, pt_m1ge0, pt_10, pt_01, pt_00, pt_11, pt_m11, pt_0m1, pt_1m1, pt_ib, pt_ib1, pt_hs, pt_so, pt_ofNat, pt_si, pt_sin, pt_si1, pt_si2, pt_sl, pt_sln, pt_sl0, pt_sl2, pt_sr, pt_srn, pt_sr0, pt_sr1, if_true, if_false, ite_true, ite_false, not_true_eq_false, not_false_eq_true, if_pos, if_neg])
      have R1 : RR hu 0 dy mn w (Bd hu dy) κx (s_i (s_i (s_i (s_i κm 66 0 0) 66 37 (-1)) 66 38 (-1)) 66 39 0) := R.same (fun _ _ _ _ _ _ _ => rfl) (fun j i a b c => by simp (disch := omega) only [pt_lt_, pt_clsome, pt_ck, pt_ckL, pt_cl, pt_clL, pt_cz0, pt_cz1, pt_czi, pt_add, pt_addL, pt_Ladd, pt_mul, pt_mulL, pt_Lmul, pt_sub, pt_subL, pt_Lsub, pt_rem, pt_le, pt_leL, pt_Lle, pt_lt, pt_ltL, pt_Llt, pt_eq, pt_eqL, pt_Leq, pt_m1, pt_lt0, pt_ge0, pt_m1lt0, pt_m1ge0, pt_10, pt_01, pt_00, pt_11, pt_m11, pt_0m1, pt_1m1, pt_ib, pt_ib1, pt_hs, pt_so, pt_ofNat, pt_si, pt_sin, pt_si1, pt_si2, pt_sl, pt_sln, pt_sl0, pt_sl2, pt_sr, pt_srn, pt_sr0, pt_sr1, if_true, if_false, ite_true, ite_false, not_true_eq_false, not_false_eq_true, if_pos, if_neg])
      have C1 : CTX hu hb 0 11 κx (s_i (s_i (s_i (s_i κm 66 0 0) 66 37 (-1)) 66 38 (-1)) 66 39 0) := ⟨hT, I1.2.1, hs, hc, ch_plain I1.2.1 hIC (by simp (disch := omega) only [pt_lt_, pt_clsome, pt_ck, pt_ckL, pt_cl, pt_clL, pt_cz0, pt_cz1, pt_czi, pt_add, pt_addL, pt_Ladd, pt_mul, pt_mulL, pt_Lmul, pt_sub, pt_subL, pt_Lsub, pt_rem, pt_le, pt_leL, pt_Lle, pt_lt, pt_ltL, pt_Llt, pt_eq, pt_eqL, pt_Leq, pt_m1, pt_lt0, pt_ge0, pt_m1lt0, pt_m1ge0, pt_10, pt_01, pt_00, pt_11, pt_m11, pt_0m1, pt_1m1, pt_ib, pt_ib1, pt_hs, pt_so, pt_ofNat, pt_si, pt_sin, pt_si1, pt_si2, pt_sl, pt_sln, pt_sl0, pt_sl2, pt_sr, pt_srn, pt_sr0, pt_sr1, if_true, if_false, ite_true, ite_false, not_true_eq_false, not_false_eq_true, if_pos, if_neg]) (by simp (disch := omega) only [pt_lt_, pt_clsome, pt_ck, pt_ckL, pt_cl, pt_clL, pt_cz0, pt_cz1, pt_czi, pt_add, pt_addL, pt_Ladd, pt_mul, pt_mulL, pt_Lmul, pt_sub, pt_subL, pt_Lsub, pt_rem, pt_le, pt_leL, pt_Lle, pt_lt, pt_ltL, pt_Llt, pt_eq, pt_eqL, pt_Leq, pt_m1, pt_lt0, pt_ge0, pt_m1lt0, pt_m1ge0, pt_10, pt_01, pt_00, pt_11, pt_m11, pt_0m1, pt_1m1, pt_ib, pt_ib1, pt_hs, pt_so, pt_ofNat, pt_si, pt_sin, pt_si1, pt_si2, pt_sl, pt_sln, pt_sl0, pt_sl2, pt_sr, pt_srn, pt_sr0, pt_sr1, if_true, if_false, ite_true, ite_false, not_true_eq_false, not_false_eq_true, if_pos, if_neg])⟩
      obtain ⟨κx', κm', mn', w', e1, e2, e3, e4, e5, e6⟩ := rr_to (F := F) (r := 0) hF (by omega) h2 n dy rfl F (by omega) mn w κx _ C1 R1 ⟨N.1, by simp (disch := omega) only [pt_lt_, pt_clsome, pt_ck, pt_ckL, pt_cl, pt_clL, pt_cz0, pt_cz1, pt_czi, pt_add, pt_addL, pt_Ladd, pt_mul, pt_mulL, pt_Lmul, pt_sub, pt_subL, pt_Lsub, pt_rem, pt_le, pt_leL, pt_Lle, pt_lt, pt_ltL, pt_Llt, pt_eq, pt_eqL, pt_Leq, pt_m1, pt_lt0, pt_ge0, pt_m1lt0, pt_m1ge0, pt_10, pt_01, pt_00, pt_11, pt_m11, pt_0m1, pt_1m1, pt_ib, pt_ib1, pt_hs, pt_so, pt_ofNat, pt_si, pt_sin, pt_si1, pt_si2, pt_sl, pt_sln, pt_sl0, pt_sl2, pt_sr, pt_srn, pt_sr0, pt_sr1, if_true, if_false, ite_true, ite_false, not_true_eq_false, not_false_eq_true, if_pos, if_neg]; exact N.2⟩
      have e1' : pX5_to F hb hu 0 κx (nI (dy + n)) = some κx' := e1
      have e7 := pm_daysIt (F := F) hn n 0 (by omega) F (by omega) (s_i (s_i (s_i (s_i κm 66 0 0) 66 37 (-1)) 66 38 (-1)) 66 39 0)
      have e7' : bX6_days_36 F F (s_i (s_i (s_i (s_i κm 66 0 0) 66 37 (-1)) 66 38 (-1)) 66 39 0) (nI n) 0 = p_cl (itP F 0 n (s_i (s_i (s_i (s_i κm 66 0 0) 66 37 (-1)) 66 38 (-1)) 66 39 0)) fun κ' => some (κ'.1 91 0, κ') := e7
      rw [e1', e7', e2]
      have f1 := e3.1.1
      have f2 := e3.1.2.1
      simp only [Nat.mul_zero, Nat.add_zero] at f1
      simp (disch := omega) only [pt_lt_, pt_clsome, pt_ck, pt_ckL, pt_cl, pt_clL, pt_cz0, pt_cz1, pt_czi, pt_add, pt_addL, pt_Ladd, pt_mul, pt_mulL, pt_Lmul, pt_sub, pt_subL, pt_Lsub, pt_rem, pt_le, pt_leL, pt_Lle, pt_lt, pt_ltL, pt_Llt, pt_eq, pt_eqL, pt_Leq, pt_m1, pt_lt0, pt_ge0, pt_m1lt0, pt_m1ge0, pt_10, pt_01, pt_00, pt_11, pt_m11, pt_0m1, pt_1m1, pt_ib, pt_ib1, pt_hs, pt_so, pt_ofNat, pt_si, pt_sin, pt_si1, pt_si2, pt_sl, pt_sln, pt_sl0, pt_sl2, pt_sr, pt_srn, pt_sr0, pt_sr1, if_true, if_false, ite_true, ite_false, not_true_eq_false, not_false_eq_true, if_pos, if_neg, f1, f2]
      refine ⟨_, κx', κm', rfl, rfl, inv_truth I1 e3 e4 (fun j i a b => (e5.1 j i (fun z => b (Or.inr z))).1) e5.2 (fun j i a b => (e6.1 j i (fun z => b (Or.inr z))).1), XF.of e5 (fun j i q => by unfold PX at q; omega), ?_⟩
      refine ⟨fun j i hj => ?_, e6.2⟩
      obtain ⟨z1, z2⟩ := e6.1 j i (by unfold PM; omega)
      rw [z1, z2]
      exact ⟨by simp (disch := omega) only [pt_lt_, pt_clsome, pt_ck, pt_ckL, pt_cl, pt_clL, pt_cz0, pt_cz1, pt_czi, pt_add, pt_addL, pt_Ladd, pt_mul, pt_mulL, pt_Lmul, pt_sub, pt_subL, pt_Lsub, pt_rem, pt_le, pt_leL, pt_Lle, pt_lt, pt_ltL, pt_Llt, pt_eq, pt_eqL, pt_Leq, pt_m1, pt_lt0, pt_ge0, pt_m1lt0, pt_m1ge0, pt_10, pt_01, pt_00, pt_11, pt_m11, pt_0m1, pt_1m1, pt_ib, pt_ib1, pt_hs, pt_so, pt_ofNat, pt_si, pt_sin, pt_si1, pt_si2, pt_sl, pt_sln, pt_sl0, pt_sl2, pt_sr, pt_srn, pt_sr0, pt_sr1, if_true, if_false, ite_true, ite_false, not_true_eq_false, not_false_eq_true, if_pos, if_neg], rfl⟩
    · rw [if_neg h2, if_neg h2]; exact no
  · rw [if_neg h]
    by_cases h1 : v < 0
    · rw [if_pos h1]; exact no
    · rw [if_neg h1, if_pos (Int32.not_le.mp (fun q => h ⟨Int32.not_lt.mp h1, q⟩))]; exact no
