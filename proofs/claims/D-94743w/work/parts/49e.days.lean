/-! PURE LAYER: a day; days -/
set_option maxRecDepth 100000
def before (hu : hd_T) (dy : Nat) (c : Nat) : Bool := decide ((hu.1 20 c).toNatClampNeg < dy)
/-- how many may have come by a day -/
def Bd (hu : hd_T) (dy : Nat) : Nat := 4 * dy + cD (before hu dy) (hu.2.1 2)
theorem Bd_le {hu : hd_T} (hT : TW hu) {dy : Nat} (h : dy ≤ 61) : Bd hu dy ≤ 260 := by
  have := cD_le (p := before hu dy) (hu.2.1 2)
  have := hT.1.2.2.1
  unfold Bd
  omega
theorem Bd_succ {hu : hd_T} (hT : TW hu) (dy : Nat) (hdy : dy ≤ 61) : Bd hu (dy + 1) = Bd hu dy + cD (onDay hu dy) (hu.2.1 2) + 4 := by
  have e := cD_add (p := before hu dy) (q := onDay hu dy) (s := before hu (dy + 1)) (hu.2.1 2) (fun i hi => by
    obtain ⟨y, d, f, z, w1, w2, w3, w4, w5, w6, -⟩ := hT.2.2.2.1 i hi
    unfold before onDay
    rw [w6, pt_cl (by omega)]
    simp only [decide_eq_true_eq, pt_eq (show y < 2147483648 by omega) (show dy < 2147483648 by omega)]
    by_cases a : y < dy
    · simp [a, show y < dy + 1 by omega, show ¬ y = dy by omega]
    · by_cases b : y = dy
      · simp [b]
      · simp [a, b, show ¬ y < dy + 1 by omega])
  unfold Bd
  omega
theorem Bd_zero {hu : hd_T} : Bd hu 0 = 0 := by
  have : ∀ n, cD (before hu 0) n = 0 := by
    intro n
    induction n with
    | zero => rfl
    | succ n ih => unfold cD; rw [ih]; simp [before]
  unfold Bd
  rw [this]
/-- no noon is on -/
def NF (r : Nat) (κx κm : kp_K) : Prop := κx.1 (13 + 14 * r) 13 = 0 ∧ κm.1 66 59 = 0
theorem rr_day {F : Nat} {hu : hd_T} {hb r ch dy : Nat} {mn : Nat → Nat} {w : Nat} {κx κm : kp_K} (hF : 80 ≤ F) (hr : r < 3) (hdy : dy ≤ 60) (C : CTX hu hb r ch κx κm) (h : RR hu r dy mn w (Bd hu dy) κx κm) (hn : NF r κx κm) :
    ∃ k9 k13 k17 k21 k25 κm' mn' w', pX5_dawn F hb hu r κx = some k9 ∧ pX5_morning F hb hu r k9 = some k13 ∧ pX5_noon F hb hu r k13 = some k17 ∧ pX5_three F hb hu r k17 = some k21 ∧ pX5_four F hb hu r k21 = some k25 ∧ k25.1 (13 + 14 * r) 1 = nI dy ∧ pX6_passes F κm (nI r) = some κm' ∧ RR hu r (dy + 1) mn' w' (Bd hu (dy + 1)) (s_i k25 (13 + 14 * r) 1 (nI (dy + 1))) κm' ∧ NF r (s_i k25 (13 + 14 * r) 1 (nI (dy + 1))) κm' ∧ Fr (PX r) κx (s_i k25 (13 + 14 * r) 1 (nI (dy + 1))) ∧ Fr (PM r) κm κm' := by
  have hB := Bd_le C.1 (by omega : dy ≤ 61)
  have hB2 := Bd_succ C.1 dy (by omega)
  have hn4 := C.1.1.1
  have t2 := C.1.1.2.2.1
  have t3 := C.1.1.2.2.2.1
  have hcl := cD_le (p := onDay hu dy) (hu.2.1 2)
  obtain ⟨k9, m1, mn1, w1, a1, a2, a3, a4, a5, a6⟩ := rr_dawn (F := F) (hb := hb) hF hr (by omega) C.1.1.2.1 hn4 (hu.2.1 0) 0 (by omega) F F (by omega) (by omega) mn w κx κm C.2.2.1 (C.2.1.1 0 (by omega)) h (fun e he => by omega)
  have C1 := C.fr (a5.mono (fun j i q => q.px)) (a6.mono (fun j i q => q.pm))
  obtain ⟨k13, m2, mn2, w2, b1, b2, b3, b4, b5, b6⟩ := rr_morning (F := F) hF hr (by omega : Bd hu dy ≤ 400) (hu.2.1 2) 0 (by omega) F F (by omega) (by omega) mn1 w1 k9 m1 C1 (by rw [(a5.1 _ _ (by unfold PXc; omega)).1]; exact hn.1) (by rw [(a6.1 _ _ (by unfold PMc; omega)).1]; exact hn.2) a3 a4
  have C2 := C1.fr (b5.mono (fun j i q => q.px)) (b6.mono (fun j i q => q.pm))
  obtain ⟨k17, m3, mn3, w3, c1, c2, c3, c4, c5, c6, c7⟩ := rr_noon hF hr (by omega) C2 b3 b4
  have C3 := C2.fr c6 c7
  obtain ⟨k21, m4, mn4, w4, d1, d2, d3, d4, d5⟩ := rr_three (F := F) hF hr (by omega) (hu.2.1 0) 0 (by omega) F F (by omega) (by omega) mn3 w3 k17 m3 C3 c3
  have C4 := C3.fr (d4.mono (fun j i q => q.px)) (d5.mono (fun j i q => q.pm))
  obtain ⟨kq, m5, e1, e2, e3, e4, e5⟩ := rr_four (F := F) hF hr (hu.2.1 3) 0 (by omega) F F (by omega) (by omega) mn4 w4 k21 m4 C4 d3
  have e4' : Fr (PX r) k21 kq := e4.mono (fun j i q => by unfold PXq at q; unfold PX; omega)
  have e5' : Fr (PM r) m4 m5 := e5.mono (fun j i q => by unfold PMq at q; unfold PM; omega)
  have C5 := C4.fr e4' e5'
  obtain ⟨k25, m6, f1, f2, f3, f4, f5⟩ := rr_falls (F := F) hF hr (hu.2.1 0) 0 (by omega) F F (by omega) (by omega) mn4 w4 kq m5 C5 e3
  have f4' : Fr (PX r) kq k25 := f4.mono (fun j i q => by unfold PXq at q; unfold PX; omega)
  have f5' : Fr (PM r) m5 m6 := f5.mono (fun j i q => by unfold PMq at q; unfold PM; omega)
  have gx : Fr (PX r) κx k25 := (a5.mono (fun j i q => q.px)).tr ((b5.mono (fun j i q => q.px)).tr (c6.tr ((d4.mono (fun j i q => q.px)).tr (e4'.tr f4'))))
  have gm : Fr (PM r) κm m6 := (a6.mono (fun j i q => q.pm)).tr ((b6.mono (fun j i q => q.pm)).tr (c7.tr ((d5.mono (fun j i q => q.pm)).tr (e5'.tr f5'))))
  refine ⟨k9, k13, k17, k21, k25, s_i m6 91 r (nI (dy + 1)), mn4, w4, a1, b1, c1, d1, e1.trans f1, f3.1.1, ?_, ?_, ?_, gx.tr (Fr.si (by unfold PX; omega)), gm.tr (Fr.si (by unfold PM; omega))⟩
  · unfold pX6_passes
    simp (disch := omega) only [pt_lt_, pt_clsome, pt_ck, pt_ckL, pt_cl, pt_clL, pt_cz0, pt_cz1, pt_czi, pt_add, pt_addL, pt_Ladd, pt_mul, pt_mulL, pt_Lmul, pt_sub, pt_subL, pt_Lsub, pt_rem, pt_le, pt_leL, pt_Lle, pt_lt, pt_ltL, pt_Llt, pt_eq, pt_eqL, pt_Leq, pt_m1, pt_lt0, pt_ge0, pt_m1lt0, pt_m1ge0, pt_10, pt_01, pt_00, pt_11, pt_m11, pt_0m1, pt_1m1, pt_ib, pt_ib1, pt_hs, pt_so, pt_ofNat, pt_si, pt_sin, pt_si1, pt_si2, pt_sl, pt_sln, pt_sl0, pt_sl2, pt_sr, pt_srn, pt_sr0, pt_sr1, if_true, if_false, ite_true, ite_false, not_true_eq_false, not_false_eq_true, if_pos, if_neg, h.1.2.1]
    have a2' : bX6_passes_9 F F κm (nI r) (nI dy) 0 = bX6_passes_108 F F m1 (nI r) (nI dy) 0 := a2
    have b2' : bX6_passes_108 F F m1 (nI r) (nI dy) 0 = (p_cl (pX6_noon F m2 (nI r)) fun k => bX6_passes_172 F F k (nI r) (nI dy) 0) := b2
    rw [a2', b2', c2]
    have d2' : bX6_passes_172 F F m3 (nI r) (nI dy) 0 = bX6_passes_256 F F m4 (nI r) (nI dy) 0 := d2
    have e2' : bX6_passes_256 F F m4 (nI r) (nI dy) 0 = bX6_passes_290 F F m5 (nI r) (nI dy) 0 := e2
    have f2' : bX6_passes_290 F F m5 (nI r) (nI dy) 0 = some (s_i m6 91 r (nI (dy + 1))) := f2
    simp (disch := omega) only [pt_lt_, pt_clsome, pt_ck, pt_ckL, pt_cl, pt_clL, pt_cz0, pt_cz1, pt_czi, pt_add, pt_addL, pt_Ladd, pt_mul, pt_mulL, pt_Lmul, pt_sub, pt_subL, pt_Lsub, pt_rem, pt_le, pt_leL, pt_Lle, pt_lt, pt_ltL, pt_Llt, pt_eq, pt_eqL, pt_Leq, pt_m1, pt_lt0, pt_ge0, pt_m1lt0, pt_m1ge0, pt_10, pt_01, pt_00, pt_11, pt_m11, pt_0m1, pt_1m1, pt_ib, pt_ib1, pt_hs, pt_so, pt_ofNat, pt_si, pt_sin, pt_si1, pt_si2, pt_sl, pt_sln, pt_sl0, pt_sl2, pt_sr, pt_srn, pt_sr0, pt_sr1, if_true, if_false, ite_true, ite_false, not_true_eq_false, not_false_eq_true, if_pos, if_neg]
    rw [d2', e2', f2']
  · obtain ⟨⟨r1, r2, r3⟩, ⟨r4, r5⟩, r6, r7, r8, r9, ra, rb⟩ := f3
    refine ⟨⟨?_, ?_, by omega⟩, ⟨?_, ?_⟩, fun z hz => ?_, fun y hz => ?_, fun z i hz hi => ?_, fun i hi => ?_, fun i hi => ?_, by omega⟩
    · simp (disch := omega) only [pt_lt_, pt_clsome, pt_ck, pt_ckL, pt_cl, pt_clL, pt_cz0, pt_cz1, pt_czi, pt_add, pt_addL, pt_Ladd, pt_mul, pt_mulL, pt_Lmul, pt_sub, pt_subL, pt_Lsub, pt_rem, pt_le, pt_leL, pt_Lle, pt_lt, pt_ltL, pt_Llt, pt_eq, pt_eqL, pt_Leq, pt_m1, pt_lt0, pt_ge0, pt_m1lt0, pt_m1ge0, pt_10, pt_01, pt_00, pt_11, pt_m11, pt_0m1, pt_1m1, pt_ib, pt_ib1, pt_hs, pt_so, pt_ofNat, pt_si, pt_sin, pt_si1, pt_si2, pt_sl, pt_sln, pt_sl0, pt_sl2, pt_sr, pt_srn, pt_sr0, pt_sr1, if_true, if_false, ite_true, ite_false, not_true_eq_false, not_false_eq_true, if_pos, if_neg]
    · simp (disch := omega) only [pt_lt_, pt_clsome, pt_ck, pt_ckL, pt_cl, pt_clL, pt_cz0, pt_cz1, pt_czi, pt_add, pt_addL, pt_Ladd, pt_mul, pt_mulL, pt_Lmul, pt_sub, pt_subL, pt_Lsub, pt_rem, pt_le, pt_leL, pt_Lle, pt_lt, pt_ltL, pt_Llt, pt_eq, pt_eqL, pt_Leq, pt_m1, pt_lt0, pt_ge0, pt_m1lt0, pt_m1ge0, pt_10, pt_01, pt_00, pt_11, pt_m11, pt_0m1, pt_1m1, pt_ib, pt_ib1, pt_hs, pt_so, pt_ofNat, pt_si, pt_sin, pt_si1, pt_si2, pt_sl, pt_sln, pt_sl0, pt_sl2, pt_sr, pt_srn, pt_sr0, pt_sr1, if_true, if_false, ite_true, ite_false, not_true_eq_false, not_false_eq_true, if_pos, if_neg]
    · simp (disch := omega) only [pt_lt_, pt_clsome, pt_ck, pt_ckL, pt_cl, pt_clL, pt_cz0, pt_cz1, pt_czi, pt_add, pt_addL, pt_Ladd, pt_mul, pt_mulL, pt_Lmul, pt_sub, pt_subL, pt_Lsub, pt_rem, pt_le, pt_leL, pt_Lle, pt_lt, pt_ltL, pt_Llt, pt_eq, pt_eqL, pt_Leq, pt_m1, pt_lt0, pt_ge0, pt_m1lt0, pt_m1ge0, pt_10, pt_01, pt_00, pt_11, pt_m11, pt_0m1, pt_1m1, pt_ib, pt_ib1, pt_hs, pt_so, pt_ofNat, pt_si, pt_sin, pt_si1, pt_si2, pt_sl, pt_sln, pt_sl0, pt_sl2, pt_sr, pt_srn, pt_sr0, pt_sr1, if_true, if_false, ite_true, ite_false, not_true_eq_false, not_false_eq_true, if_pos, if_neg]; exact r4
    · simp (disch := omega) only [pt_lt_, pt_clsome, pt_ck, pt_ckL, pt_cl, pt_clL, pt_cz0, pt_cz1, pt_czi, pt_add, pt_addL, pt_Ladd, pt_mul, pt_mulL, pt_Lmul, pt_sub, pt_subL, pt_Lsub, pt_rem, pt_le, pt_leL, pt_Lle, pt_lt, pt_ltL, pt_Llt, pt_eq, pt_eqL, pt_Leq, pt_m1, pt_lt0, pt_ge0, pt_m1lt0, pt_m1ge0, pt_10, pt_01, pt_00, pt_11, pt_m11, pt_0m1, pt_1m1, pt_ib, pt_ib1, pt_hs, pt_so, pt_ofNat, pt_si, pt_sin, pt_si1, pt_si2, pt_sl, pt_sln, pt_sl0, pt_sl2, pt_sr, pt_srn, pt_sr0, pt_sr1, if_true, if_false, ite_true, ite_false, not_true_eq_false, not_false_eq_true, if_pos, if_neg]; exact r5
    · simp (disch := omega) only [pt_lt_, pt_clsome, pt_ck, pt_ckL, pt_cl, pt_clL, pt_cz0, pt_cz1, pt_czi, pt_add, pt_addL, pt_Ladd, pt_mul, pt_mulL, pt_Lmul, pt_sub, pt_subL, pt_Lsub, pt_rem, pt_le, pt_leL, pt_Lle, pt_lt, pt_ltL, pt_Llt, pt_eq, pt_eqL, pt_Leq, pt_m1, pt_lt0, pt_ge0, pt_m1lt0, pt_m1ge0, pt_10, pt_01, pt_00, pt_11, pt_m11, pt_0m1, pt_1m1, pt_ib, pt_ib1, pt_hs, pt_so, pt_ofNat, pt_si, pt_sin, pt_si1, pt_si2, pt_sl, pt_sln, pt_sl0, pt_sl2, pt_sr, pt_srn, pt_sr0, pt_sr1, if_true, if_false, ite_true, ite_false, not_true_eq_false, not_false_eq_true, if_pos, if_neg]; exact r6 z hz
    · simp (disch := omega) only [pt_lt_, pt_clsome, pt_ck, pt_ckL, pt_cl, pt_clL, pt_cz0, pt_cz1, pt_czi, pt_add, pt_addL, pt_Ladd, pt_mul, pt_mulL, pt_Lmul, pt_sub, pt_subL, pt_Lsub, pt_rem, pt_le, pt_leL, pt_Lle, pt_lt, pt_ltL, pt_Llt, pt_eq, pt_eqL, pt_Leq, pt_m1, pt_lt0, pt_ge0, pt_m1lt0, pt_m1ge0, pt_10, pt_01, pt_00, pt_11, pt_m11, pt_0m1, pt_1m1, pt_ib, pt_ib1, pt_hs, pt_so, pt_ofNat, pt_si, pt_sin, pt_si1, pt_si2, pt_sl, pt_sln, pt_sl0, pt_sl2, pt_sr, pt_srn, pt_sr0, pt_sr1, if_true, if_false, ite_true, ite_false, not_true_eq_false, not_false_eq_true, if_pos, if_neg]; exact r7 y hz
    · simp (disch := omega) only [pt_lt_, pt_clsome, pt_ck, pt_ckL, pt_cl, pt_clL, pt_cz0, pt_cz1, pt_czi, pt_add, pt_addL, pt_Ladd, pt_mul, pt_mulL, pt_Lmul, pt_sub, pt_subL, pt_Lsub, pt_rem, pt_le, pt_leL, pt_Lle, pt_lt, pt_ltL, pt_Llt, pt_eq, pt_eqL, pt_Leq, pt_m1, pt_lt0, pt_ge0, pt_m1lt0, pt_m1ge0, pt_10, pt_01, pt_00, pt_11, pt_m11, pt_0m1, pt_1m1, pt_ib, pt_ib1, pt_hs, pt_so, pt_ofNat, pt_si, pt_sin, pt_si1, pt_si2, pt_sl, pt_sln, pt_sl0, pt_sl2, pt_sr, pt_srn, pt_sr0, pt_sr1, if_true, if_false, ite_true, ite_false, not_true_eq_false, not_false_eq_true, if_pos, if_neg]; exact r8 z i hz hi
    · simp (disch := omega) only [pt_lt_, pt_clsome, pt_ck, pt_ckL, pt_cl, pt_clL, pt_cz0, pt_cz1, pt_czi, pt_add, pt_addL, pt_Ladd, pt_mul, pt_mulL, pt_Lmul, pt_sub, pt_subL, pt_Lsub, pt_rem, pt_le, pt_leL, pt_Lle, pt_lt, pt_ltL, pt_Llt, pt_eq, pt_eqL, pt_Leq, pt_m1, pt_lt0, pt_ge0, pt_m1lt0, pt_m1ge0, pt_10, pt_01, pt_00, pt_11, pt_m11, pt_0m1, pt_1m1, pt_ib, pt_ib1, pt_hs, pt_so, pt_ofNat, pt_si, pt_sin, pt_si1, pt_si2, pt_sl, pt_sln, pt_sl0, pt_sl2, pt_sr, pt_srn, pt_sr0, pt_sr1, if_true, if_false, ite_true, ite_false, not_true_eq_false, not_false_eq_true, if_pos, if_neg]; exact r9 i hi
    · simp (disch := omega) only [pt_lt_, pt_clsome, pt_ck, pt_ckL, pt_cl, pt_clL, pt_cz0, pt_cz1, pt_czi, pt_add, pt_addL, pt_Ladd, pt_mul, pt_mulL, pt_Lmul, pt_sub, pt_subL, pt_Lsub, pt_rem, pt_le, pt_leL, pt_Lle, pt_lt, pt_ltL, pt_Llt, pt_eq, pt_eqL, pt_Leq, pt_m1, pt_lt0, pt_ge0, pt_m1lt0, pt_m1ge0, pt_10, pt_01, pt_00, pt_11, pt_m11, pt_0m1, pt_1m1, pt_ib, pt_ib1, pt_hs, pt_so, pt_ofNat, pt_si, pt_sin, pt_si1, pt_si2, pt_sl, pt_sln, pt_sl0, pt_sl2, pt_sr, pt_srn, pt_sr0, pt_sr1, if_true, if_false, ite_true, ite_false, not_true_eq_false, not_false_eq_true, if_pos, if_neg]; exact ra i hi
  · have n1 : k25.1 (13 + 14 * r) 13 = 0 := by
      rw [(f4.1 _ _ (by unfold PXq; omega)).1, (e4.1 _ _ (by unfold PXq; omega)).1, (d4.1 _ _ (by unfold PXc; omega)).1]
      exact c4
    have n2 : m6.1 66 59 = 0 := by
      rw [(f5.1 _ _ (by unfold PMq; omega)).1, (e5.1 _ _ (by unfold PMq; omega)).1, (d5.1 _ _ (by unfold PMc; omega)).1]
      exact c5
    exact ⟨by simp (disch := omega) only [pt_lt_, pt_clsome, pt_ck, pt_ckL, pt_cl, pt_clL, pt_cz0, pt_cz1, pt_czi, pt_add, pt_addL, pt_Ladd, pt_mul, pt_mulL, pt_Lmul, pt_sub, pt_subL, pt_Lsub, pt_rem, pt_le, pt_leL, pt_Lle, pt_lt, pt_ltL, pt_Llt, pt_eq, pt_eqL, pt_Leq, pt_m1, pt_lt0, pt_ge0, pt_m1lt0, pt_m1ge0, pt_10, pt_01, pt_00, pt_11, pt_m11, pt_0m1, pt_1m1, pt_ib, pt_ib1, pt_hs, pt_so, pt_ofNat, pt_si, pt_sin, pt_si1, pt_si2, pt_sl, pt_sln, pt_sl0, pt_sl2, pt_sr, pt_srn, pt_sr0, pt_sr1, if_true, if_false, ite_true, ite_false, not_true_eq_false, not_false_eq_true, if_pos, if_neg]; exact n1, by simp (disch := omega) only [pt_lt_, pt_clsome, pt_ck, pt_ckL, pt_cl, pt_clL, pt_cz0, pt_cz1, pt_czi, pt_add, pt_addL, pt_Ladd, pt_mul, pt_mulL, pt_Lmul, pt_sub, pt_subL, pt_Lsub, pt_rem, pt_le, pt_leL, pt_Lle, pt_lt, pt_ltL, pt_Llt, pt_eq, pt_eqL, pt_Leq, pt_m1, pt_lt0, pt_ge0, pt_m1lt0, pt_m1ge0, pt_10, pt_01, pt_00, pt_11, pt_m11, pt_0m1, pt_1m1, pt_ib, pt_ib1, pt_hs, pt_so, pt_ofNat, pt_si, pt_sin, pt_si1, pt_si2, pt_sl, pt_sln, pt_sl0, pt_sl2, pt_sr, pt_srn, pt_sr0, pt_sr1, if_true, if_false, ite_true, ite_false, not_true_eq_false, not_false_eq_true, if_pos, if_neg]; exact n2⟩
/-- days of the reference -/
def itP (F r : Nat) : Nat → kp_K → Option kp_K
  | 0, κ => some κ
  | n + 1, κ => p_cl (pX6_passes F κ (nI r)) fun k => itP F r n k
theorem rr_to {F : Nat} {hu : hd_T} {hb r ch : Nat} {e : Nat} (hF : 80 ≤ F) (hr : r < 3) (he : e ≤ 61) : ∀ n dy, dy + n = e → ∀ f, n < f → ∀ (mn : Nat → Nat) (w : Nat) (κx κm : kp_K), CTX hu hb r ch κx κm → RR hu r dy mn w (Bd hu dy) κx κm → NF r κx κm →
    ∃ κx' κm' mn' w', bX5_to_0 F hb hu r f κx (nI e) = some κx' ∧ itP F r n κm = some κm' ∧ RR hu r e mn' w' (Bd hu e) κx' κm' ∧ NF r κx' κm' ∧ Fr (PX r) κx κx' ∧ Fr (PM r) κm κm' := by
  intro n
  induction n with
  | zero =>
    intro dy hdy f hf mn w κx κm C h hn
    obtain ⟨f, rfl⟩ : ∃ f', f = f' + 1 := ⟨f - 1, by omega⟩
    rw [bX5_to_0]
    simp (disch := omega) only [pt_lt_, pt_clsome, pt_ck, pt_ckL, pt_cl, pt_clL, pt_cz0, pt_cz1, pt_czi, pt_add, pt_addL, pt_Ladd, pt_mul, pt_mulL, pt_Lmul, pt_sub, pt_subL, pt_Lsub, pt_rem, pt_le, pt_leL, pt_Lle, pt_lt, pt_ltL, pt_Llt, pt_eq, pt_eqL, pt_Leq, pt_m1, pt_lt0, pt_ge0, pt_m1lt0, pt_m1ge0, pt_10, pt_01, pt_00, pt_11, pt_m11, pt_0m1, pt_1m1, pt_ib, pt_ib1, pt_hs, pt_so, pt_ofNat, pt_si, pt_sin, pt_si1, pt_si2, pt_sl, pt_sln, pt_sl0, pt_sl2, pt_sr, pt_srn, pt_sr0, pt_sr1, if_true, if_false, ite_true, ite_false, not_true_eq_false, not_false_eq_true, if_pos, if_neg, h.1.1]
    rw [show e = dy from by omega]
    exact ⟨κx, κm, mn, w, rfl, rfl, h, hn, Fr.rf, Fr.rf⟩
  | succ n ih =>
    intro dy hdy f hf mn w κx κm C h hn
    obtain ⟨f, rfl⟩ : ∃ f', f = f' + 1 := ⟨f - 1, by omega⟩
    obtain ⟨k9, k13, k17, k21, k25, m1, mn1, w1, a1, a2, a3, a4, a5, a6, a7, a8, a9, aa, ab⟩ := rr_day hF hr (by omega) C h hn
    obtain ⟨κx', κm', mn', w', b1, b2, b3, b4, b5, b6⟩ := ih (dy + 1) (by omega) f (by omega) mn1 w1 _ m1 (C.fr aa ab) a8 a9
    rw [bX5_to_0]
    simp (disch := omega) only [pt_lt_, pt_clsome, pt_ck, pt_ckL, pt_cl, pt_clL, pt_cz0, pt_cz1, pt_czi, pt_add, pt_addL, pt_Ladd, pt_mul, pt_mulL, pt_Lmul, pt_sub, pt_subL, pt_Lsub, pt_rem, pt_le, pt_leL, pt_Lle, pt_lt, pt_ltL, pt_Llt, pt_eq, pt_eqL, pt_Leq, pt_m1, pt_lt0, pt_ge0, pt_m1lt0, pt_m1ge0, pt_10, pt_01, pt_00, pt_11, pt_m11, pt_0m1, pt_1m1, pt_ib, pt_ib1, pt_hs, pt_so, pt_ofNat, pt_si, pt_sin, pt_si1, pt_si2, pt_sl, pt_sln, pt_sl0, pt_sl2, pt_sr, pt_srn, pt_sr0, pt_sr1, if_true, if_false, ite_true, ite_false, not_true_eq_false, not_false_eq_true, if_pos, if_neg, h.1.1, a1, a2, a3, a4, a5, a6]
    refine ⟨κx', κm', mn', w', b1, ?_, b3, b4, aa.tr b5, ab.tr b6⟩
    unfold itP
    rw [a7]
    exact b2
