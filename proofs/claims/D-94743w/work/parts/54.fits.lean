/-! PURE LAYER: what is tried; what fits -/
set_option maxRecDepth 100000
theorem ch_mk {hu : hd_T} {κx κm : kp_K} {s : Nat} (tw ta : Int32) (h37 : κm.1 66 37 = tw) (h38 : κm.1 66 38 = ta) (h39 : κm.1 66 39 = nI s) (hs : s < 12) (hsr : SR hu κm s (κx.2.2 12 0)) (e1 : κx.1 12 1 = if tw = 0 then 1 else 0) (e2 : κx.1 12 2 = if tw = 1 then 1 else 0) (e3 : κx.1 12 3 = if tw = 2 then 1 else 0) (e4 : κx.1 12 4 = if tw = 3 then 1 else 0) (e5 : κx.1 12 5 = if tw = 4 then ta else -1) (e6 : κx.1 12 6 = if tw = 5 then ta else -1) : CH hu 12 κx κm := by
  refine ⟨Or.inr rfl, ?_, ?_, ?_, ?_, fun d hd => ?_, fun c hc => ?_, s, hs, h39, hsr⟩
  · rw [e1, h37, pt_ib]
  · rw [e2, h37, pt_ib]
  · rw [e3, h37, pt_ib]
  · rw [e4, h37, pt_ib]
  · rw [e5, h37, h38]
    by_cases q : tw = 4
    · rw [if_pos q]; exact ⟨fun z => ⟨q, z⟩, fun z => z.2⟩
    · rw [if_neg q]
      exact ⟨fun z => by have := z.symm; rw [pt_m1 (by omega)] at this; exact this.elim, fun z => absurd z.1 q⟩
  · rw [e6, h37, h38]
    by_cases q : tw = 5
    · rw [if_pos q]; exact ⟨fun z => ⟨q, z⟩, fun z => z.2⟩
    · rw [if_neg q]
      exact ⟨fun z => by have := z.symm; rw [pt_m1 (by omega)] at this; exact this.elim, fun z => absurd z.1 q⟩
theorem CH.same {hu : hd_T} {κx κm κx' κm' : kp_K} (h : CH hu 12 κx κm) (gx : ∀ i, κx'.1 12 i = κx.1 12 i) (gr : κx'.2.2 12 0 = κx.2.2 12 0) (gm : ∀ i, 37 ≤ i → i ≤ 39 → κm'.1 66 i = κm.1 66 i) (gs : ∀ j i, 85 ≤ j → j ≤ 88 → κm'.1 j i = κm.1 j i) : CH hu 12 κx' κm' := by
  obtain ⟨c1, c2, c3, c4, c5, c6, c7, s, c8, c9, ca⟩ := h
  refine ⟨c1, ?_, ?_, ?_, ?_, ?_, ?_, s, c8, ?_, ?_⟩
  · rw [gx, gm 37 (by omega) (by omega)]; exact c2
  · rw [gx, gm 37 (by omega) (by omega)]; exact c3
  · rw [gx, gm 37 (by omega) (by omega)]; exact c4
  · rw [gx, gm 37 (by omega) (by omega)]; exact c5
  · rw [gx, gm 37 (by omega) (by omega), gm 38 (by omega) (by omega)]; exact c6
  · rw [gx, gm 37 (by omega) (by omega), gm 38 (by omega) (by omega)]; exact c7
  · rw [gm 39 (by omega) (by omega)]; exact c9
  · rw [gr]; exact ca.same gs
/-- a whole trial -/
theorem rr_trial {F : Nat} {hu : hd_T} {hb : Nat} {κx κm : kp_K} {e : Nat} (hF : 80 ≤ F) (he : e ≤ 61) (hT : TW hu) (hM : MT hu κm) (hs : κx.2.2 0 4 = some hb) (hc : CH hu 12 κx κm) (hn : κm.1 66 59 = 0) :
    ∃ k1 k2 m1 m2 mn w, pX5_begin F 1 κx 12 = some k1 ∧ pX5_to F hb hu 1 k1 (nI e) = some k2 ∧ pX6_begins F κm (nI 1) = some m1 ∧ itP F 1 e m1 = some m2 ∧ RR hu 1 e mn w (Bd hu e) k2 m2 ∧ (∀ j i, ¬ PX 1 j i → k1.1 j i = κx.1 j i) ∧ (∀ j i, ¬ PX 1 j i → k2.1 j i = κx.1 j i ∧ k2.2.1 j i = κx.2.1 j i) ∧ k2.2.2 = (s_r κx 27 0 (some 12)).2.2 ∧ Fr (PM 1) κm m1 ∧ Fr (PM 1) κm m2 ∧ m2.1 66 59 = 0 ∧ (∀ i κ', i ≤ e → itP F 1 i m1 = some κ' → Fr (PM 1) κm κ') := by
  obtain ⟨k1, m1, a1, a2, a3, a4, a5, a6, a7⟩ := rr_begin (F := F) (hu := hu) (r := 1) hF (by omega) 12 κx κm
  have a5' : k1.2.2 = (s_r κx 27 0 (some 12)).2.2 := a5
  have C1 : CTX hu hb 1 12 k1 m1 := by
    refine ⟨hT, hM.fr a7, ?_, ?_, hc.same (fun i => (a6 12 i (by unfold PX; omega)).1) ?_ (fun i b c => (a7.1 66 i (by unfold PM; omega)).1) (fun j i b c => (a7.1 j i (by unfold PM; omega)).1)⟩
    · rw [a5', pt_srn (by omega)]; exact hs
    · rw [a5']; exact pt_sr (by omega)
    · rw [a5', pt_srn (by omega)]
  have R1 : RR hu 1 0 (fun _ => 0) 0 (Bd hu 0) k1 m1 := by rw [Bd_zero]; exact a3
  have hn1 : m1.1 66 59 = 0 := by
    obtain ⟨x1, y1, b1, b2, b3, b4, b5⟩ := rr_begin1 (F := F) (r := 1) (by omega) 4 0 (by omega) F F (by omega) (by omega) κx (s_i (s_i κm 91 1 0) 100 1 0) (fun e he => by omega)
    obtain ⟨x2, y2, c1, c2, c3, c4, c5⟩ := rr_begin2 (F := F) (r := 1) (by omega) 16 0 (by omega) F F (by omega) (by omega) κx y1 (fun e he => by omega)
    have b2' : bX6_begins_16 F F (s_i (s_i κm 91 1 0) 100 1 0) (nI 1) 0 = bX6_begins_56 F F y1 (nI 1) 0 := b2
    have c2' : bX6_begins_56 F F y1 (nI 1) 0 = some y2 := c2
    have e9 : pX6_begins F κm (nI 1) = some y2 := by
      unfold pX6_begins
      simp (disch := omega) only [pt_lt_, pt_clsome, pt_ck, pt_ckL, pt_cl, pt_clL, pt_cz0, pt_cz1, pt_czi, pt_add, pt_addL, pt_Ladd, pt_mul, pt_mulL, pt_Lmul, pt_sub, pt_subL, pt_Lsub, pt_rem, pt_le, pt_leL, pt_Lle, pt_lt, pt_ltL, pt_Llt, pt_eq, pt_eqL, pt_Leq, pt_m1, pt_lt0, pt_ge0, pt_m1lt0, pt_m1ge0, pt_10, pt_01, pt_00, pt_11, pt_m11, pt_0m1, pt_1m1, pt_ib, pt_ib1, pt_hs, pt_so, pt_ofNat, pt_si, pt_sin, pt_si1, pt_si2, pt_sl, pt_sln, pt_sl0, pt_sl2, pt_sr, pt_srn, pt_sr0, pt_sr1, if_true, if_false, ite_true, ite_false, not_true_eq_false, not_false_eq_true, if_pos, if_neg]
      rw [b2']
      exact c2'
    have e8 : m1 = y2 := Option.some.inj (a2.symm.trans e9)
    rw [e8, (c5.1 66 59 (by omega)).1, (b5.1 66 59 (by omega)).1]
    simp (disch := omega) only [pt_lt_, pt_clsome, pt_ck, pt_ckL, pt_cl, pt_clL, pt_cz0, pt_cz1, pt_czi, pt_add, pt_addL, pt_Ladd, pt_mul, pt_mulL, pt_Lmul, pt_sub, pt_subL, pt_Lsub, pt_rem, pt_le, pt_leL, pt_Lle, pt_lt, pt_ltL, pt_Llt, pt_eq, pt_eqL, pt_Leq, pt_m1, pt_lt0, pt_ge0, pt_m1lt0, pt_m1ge0, pt_10, pt_01, pt_00, pt_11, pt_m11, pt_0m1, pt_1m1, pt_ib, pt_ib1, pt_hs, pt_so, pt_ofNat, pt_si, pt_sin, pt_si1, pt_si2, pt_sl, pt_sln, pt_sl0, pt_sl2, pt_sr, pt_srn, pt_sr0, pt_sr1, if_true, if_false, ite_true, ite_false, not_true_eq_false, not_false_eq_true, if_pos, if_neg]
    exact hn
  obtain ⟨k2, m2, mn, w, b1, b2, b3, b4, b5, b6⟩ := rr_to (F := F) (r := 1) hF (by omega) he e 0 (by omega) F (by omega) (fun _ => 0) 0 k1 m1 C1 R1 ⟨a4, hn1⟩
  refine ⟨k1, k2, m1, m2, mn, w, a1, b1, a2, b2, b3, fun j i q => (a6 j i q).1, fun j i q => ?_, b5.2.trans a5', a7, a7.tr b6, b4.2, fun i κ' hi hk => ?_⟩
  · obtain ⟨z1, z2⟩ := a6 j i q
    obtain ⟨y1, y2⟩ := b5.1 j i q
    exact ⟨y1.trans z1, y2.trans z2⟩
  · obtain ⟨k3, m3, mn3, w3, d1, d2, d3, d4, d5, d6⟩ := rr_to (F := F) (r := 1) (e := i) hF (by omega) (by omega) i 0 (by omega) F (by omega) (fun _ => 0) 0 k1 m1 C1 R1 ⟨a4, hn1⟩
    rw [d2] at hk
    cases hk
    exact a7.tr d6
theorem pm_triedIt {F N d : Nat} (hN : N ≤ 61) (hd : d < 4) : ∀ n k, k + n = N → ∀ f, n < f → ∀ κ : kp_K, (∀ κ', (∃ i, i ≤ n ∧ itP F 1 i κ = some κ') → κ'.1 91 0 = nI N) → bX6_tried_102 F f κ (nI d) (nI k) = p_cl (itP F 1 n κ) fun κ' => some (κ'.1 96 (4 + d), κ') := by
  intro n
  induction n with
  | zero =>
    intro k hk f hf κ h
    obtain ⟨f, rfl⟩ : ∃ f', f = f' + 1 := ⟨f - 1, by omega⟩
    have h0 := h κ ⟨0, by omega, rfl⟩
    rw [bX6_tried_102]
    unfold itP
    simp (disch := omega) only [pt_lt_, pt_clsome, pt_ck, pt_ckL, pt_cl, pt_clL, pt_cz0, pt_cz1, pt_czi, pt_add, pt_addL, pt_Ladd, pt_mul, pt_mulL, pt_Lmul, pt_sub, pt_subL, pt_Lsub, pt_rem, pt_le, pt_leL, pt_Lle, pt_lt, pt_ltL, pt_Llt, pt_eq, pt_eqL, pt_Leq, pt_m1, pt_lt0, pt_ge0, pt_m1lt0, pt_m1ge0, pt_10, pt_01, pt_00, pt_11, pt_m11, pt_0m1, pt_1m1, pt_ib, pt_ib1, pt_hs, pt_so, pt_ofNat, pt_si, pt_sin, pt_si1, pt_si2, pt_sl, pt_sln, pt_sl0, pt_sl2, pt_sr, pt_srn, pt_sr0, pt_sr1, if_true, if_false, ite_true, ite_false, not_true_eq_false, not_false_eq_true, if_pos, if_neg, h0]
  | succ n ih =>
    intro k hk f hf κ h
    obtain ⟨f, rfl⟩ : ∃ f', f = f' + 1 := ⟨f - 1, by omega⟩
    have h0 := h κ ⟨0, by omega, rfl⟩
    rw [bX6_tried_102]
    unfold itP
    simp (disch := omega) only [pt_lt_, pt_clsome, pt_ck, pt_ckL, pt_cl, pt_clL, pt_cz0, pt_cz1, pt_czi, pt_add, pt_addL, pt_Ladd, pt_mul, pt_mulL, pt_Lmul, pt_sub, pt_subL, pt_Lsub, pt_rem, pt_le, pt_leL, pt_Lle, pt_lt, pt_ltL, pt_Llt, pt_eq, pt_eqL, pt_Leq, pt_m1, pt_lt0, pt_ge0, pt_m1lt0, pt_m1ge0, pt_10, pt_01, pt_00, pt_11, pt_m11, pt_0m1, pt_1m1, pt_ib, pt_ib1, pt_hs, pt_so, pt_ofNat, pt_si, pt_sin, pt_si1, pt_si2, pt_sl, pt_sln, pt_sl0, pt_sl2, pt_sr, pt_srn, pt_sr0, pt_sr1, if_true, if_false, ite_true, ite_false, not_true_eq_false, not_false_eq_true, if_pos, if_neg, h0]
    have e : pX6_passes F κ 1 = pX6_passes F κ (nI 1) := rfl
    rw [e]
    cases hp : pX6_passes F κ (nI 1) with
    | none => rfl
    | some κ1 =>
      refine ih (k + 1) (by omega) f (by omega) κ1 (fun κ' hi => ?_)
      obtain ⟨i, i1, i2⟩ := hi
      refine h κ' ⟨i + 1, by omega, ?_⟩
      unfold itP
      rw [hp]
      exact i2
def clr (κ : kp_K) (o : Option Nat) : kp_K := s_i (s_i (s_i (s_i (s_i (s_i (s_r κ 12 0 o) 12 1 0) 12 2 0) 12 3 0) 12 4 0) 12 5 (-1)) 12 6 (-1)
theorem px_clear {κ : kp_K} {o : Option Nat} : pX4_clear 12 κ o = some (clr κ o) := by
  unfold pX4_clear clr
  simp (disch := omega) only [pt_lt_, pt_clsome, pt_ck, pt_ckL, pt_cl, pt_clL, pt_cz0, pt_cz1, pt_czi, pt_add, pt_addL, pt_Ladd, pt_mul, pt_mulL, pt_Lmul, pt_sub, pt_subL, pt_Lsub, pt_rem, pt_le, pt_leL, pt_Lle, pt_lt, pt_ltL, pt_Llt, pt_eq, pt_eqL, pt_Leq, pt_m1, pt_lt0, pt_ge0, pt_m1lt0, pt_m1ge0, pt_10, pt_01, pt_00, pt_11, pt_m11, pt_0m1, pt_1m1, pt_ib, pt_ib1, pt_hs, pt_so, pt_ofNat, pt_si, pt_sin, pt_si1, pt_si2, pt_sl, pt_sln, pt_sl0, pt_sl2, pt_sr, pt_srn, pt_sr0, pt_sr1, if_true, if_false, ite_true, ite_false, not_true_eq_false, not_false_eq_true, if_pos, if_neg]
theorem clr_fr {κ : kp_K} {o : Option Nat} {j i : Nat} (h : ¬ j = 12) : (clr κ o).1 j i = κ.1 j i ∧ (clr κ o).2.1 j i = κ.2.1 j i := by
  unfold clr
  exact ⟨by simp (disch := omega) only [pt_lt_, pt_clsome, pt_ck, pt_ckL, pt_cl, pt_clL, pt_cz0, pt_cz1, pt_czi, pt_add, pt_addL, pt_Ladd, pt_mul, pt_mulL, pt_Lmul, pt_sub, pt_subL, pt_Lsub, pt_rem, pt_le, pt_leL, pt_Lle, pt_lt, pt_ltL, pt_Llt, pt_eq, pt_eqL, pt_Leq, pt_m1, pt_lt0, pt_ge0, pt_m1lt0, pt_m1ge0, pt_10, pt_01, pt_00, pt_11, pt_m11, pt_0m1, pt_1m1, pt_ib, pt_ib1, pt_hs, pt_so, pt_ofNat, pt_si, pt_sin, pt_si1, pt_si2, pt_sl, pt_sln, pt_sl0, pt_sl2, pt_sr, pt_srn, pt_sr0, pt_sr1, if_true, if_false, ite_true, ite_false, not_true_eq_false, not_false_eq_true, if_pos, if_neg], rfl⟩
theorem clr_r {κ : kp_K} {o : Option Nat} : (clr κ o).2.2 = (s_r κ 12 0 o).2.2 := rfl
def lyP (hu : hd_T) (v1 v2 : Int32) : Prop := ((v1 = 0 ∨ v1 = 1 ∨ v1 = 2 ∨ v1 = 3) ∧ v2 = 0) ∨ (v1 = 4 ∧ 0 ≤ v2 ∧ v2 < nI (hu.2.1 0)) ∨ (v1 = 5 ∧ 0 ≤ v2 ∧ v2 < nI (hu.2.1 2))
theorem px_lays {hb : Nat} {hu : hd_T} {κ : kp_K} (hT : TW hu) (hs : κ.2.2 0 4 = some hb) (v1 v2 : Int32) : ∃ (b : Bool) (k11 : kp_K), pX1_lays hb hu κ v1 v2 = some (if b then 1 else 0, k11) ∧ (b = true ↔ lyP hu v1 v2) ∧ (∀ j i, ¬ j = 12 → k11.1 j i = κ.1 j i ∧ k11.2.1 j i = κ.2.1 j i) ∧ k11.2.2 = (s_r κ 12 0 (hu.2.2.1 6)).2.2 ∧
    (b = true → k11.1 12 1 = (if v1 = 0 then 1 else 0) ∧ k11.1 12 2 = (if v1 = 1 then 1 else 0) ∧ k11.1 12 3 = (if v1 = 2 then 1 else 0) ∧ k11.1 12 4 = (if v1 = 3 then 1 else 0) ∧ k11.1 12 5 = (if v1 = 4 then v2 else -1) ∧ k11.1 12 6 = (if v1 = 5 then v2 else -1)) := by
  obtain ⟨t0, t1, t2, t3, t4, t5⟩ := hT.1
  have hs2 : (clr κ (hu.2.2.1 6)).2.2 0 4 = some hb := by rw [clr_r, pt_srn (by omega)]; exact hs
  have fr : ∀ (f : Nat) (x : Int32) j i, ¬ j = 12 → (s_i (clr κ (hu.2.2.1 6)) 12 f x).1 j i = κ.1 j i ∧ (s_i (clr κ (hu.2.2.1 6)) 12 f x).2.1 j i = κ.2.1 j i := fun f x j i h => ⟨(pt_sin (fun q => h q.1)).trans (clr_fr h).1, (clr_fr h).2⟩
  have c1 : (clr κ (hu.2.2.1 6)).1 12 1 = 0 := by unfold clr; simp (disch := omega) only [pt_lt_, pt_clsome, pt_ck, pt_ckL, pt_cl, pt_clL, pt_cz0, pt_cz1, pt_czi, pt_add, pt_addL, pt_Ladd, pt_mul, pt_mulL, pt_Lmul, pt_sub, pt_subL, pt_Lsub, pt_rem, pt_le, pt_leL, pt_Lle, pt_lt, pt_ltL, pt_Llt, pt_eq, pt_eqL, pt_Leq, pt_m1, pt_lt0, pt_ge0, pt_m1lt0, pt_m1ge0, pt_10, pt_01, pt_00, pt_11, pt_m11, pt_0m1, pt_1m1, pt_ib, pt_ib1, pt_hs, pt_so, pt_ofNat, pt_si, pt_sin, pt_si1, pt_si2, pt_sl, pt_sln, pt_sl0, pt_sl2, pt_sr, pt_srn, pt_sr0, pt_sr1, if_true, if_false, ite_true, ite_false, not_true_eq_false, not_false_eq_true, if_pos, if_neg]
  have c2 : (clr κ (hu.2.2.1 6)).1 12 2 = 0 := by unfold clr; simp (disch := omega) only [pt_lt_, pt_clsome, pt_ck, pt_ckL, pt_cl, pt_clL, pt_cz0, pt_cz1, pt_czi, pt_add, pt_addL, pt_Ladd, pt_mul, pt_mulL, pt_Lmul, pt_sub, pt_subL, pt_Lsub, pt_rem, pt_le, pt_leL, pt_Lle, pt_lt, pt_ltL, pt_Llt, pt_eq, pt_eqL, pt_Leq, pt_m1, pt_lt0, pt_ge0, pt_m1lt0, pt_m1ge0, pt_10, pt_01, pt_00, pt_11, pt_m11, pt_0m1, pt_1m1, pt_ib, pt_ib1, pt_hs, pt_so, pt_ofNat, pt_si, pt_sin, pt_si1, pt_si2, pt_sl, pt_sln, pt_sl0, pt_sl2, pt_sr, pt_srn, pt_sr0, pt_sr1, if_true, if_false, ite_true, ite_false, not_true_eq_false, not_false_eq_true, if_pos, if_neg]
  have c3 : (clr κ (hu.2.2.1 6)).1 12 3 = 0 := by unfold clr; simp (disch := omega) only [pt_lt_, pt_clsome, pt_ck, pt_ckL, pt_cl, pt_clL, pt_cz0, pt_cz1, pt_czi, pt_add, pt_addL, pt_Ladd, pt_mul, pt_mulL, pt_Lmul, pt_sub, pt_subL, pt_Lsub, pt_rem, pt_le, pt_leL, pt_Lle, pt_lt, pt_ltL, pt_Llt, pt_eq, pt_eqL, pt_Leq, pt_m1, pt_lt0, pt_ge0, pt_m1lt0, pt_m1ge0, pt_10, pt_01, pt_00, pt_11, pt_m11, pt_0m1, pt_1m1, pt_ib, pt_ib1, pt_hs, pt_so, pt_ofNat, pt_si, pt_sin, pt_si1, pt_si2, pt_sl, pt_sln, pt_sl0, pt_sl2, pt_sr, pt_srn, pt_sr0, pt_sr1, if_true, if_false, ite_true, ite_false, not_true_eq_false, not_false_eq_true, if_pos, if_neg]
  have c4 : (clr κ (hu.2.2.1 6)).1 12 4 = 0 := by unfold clr; simp (disch := omega) only [pt_lt_, pt_clsome, pt_ck, pt_ckL, pt_cl, pt_clL, pt_cz0, pt_cz1, pt_czi, pt_add, pt_addL, pt_Ladd, pt_mul, pt_mulL, pt_Lmul, pt_sub, pt_subL, pt_Lsub, pt_rem, pt_le, pt_leL, pt_Lle, pt_lt, pt_ltL, pt_Llt, pt_eq, pt_eqL, pt_Leq, pt_m1, pt_lt0, pt_ge0, pt_m1lt0, pt_m1ge0, pt_10, pt_01, pt_00, pt_11, pt_m11, pt_0m1, pt_1m1, pt_ib, pt_ib1, pt_hs, pt_so, pt_ofNat, pt_si, pt_sin, pt_si1, pt_si2, pt_sl, pt_sln, pt_sl0, pt_sl2, pt_sr, pt_srn, pt_sr0, pt_sr1, if_true, if_false, ite_true, ite_false, not_true_eq_false, not_false_eq_true, if_pos, if_neg]
  have c5 : (clr κ (hu.2.2.1 6)).1 12 5 = -1 := by unfold clr; simp (disch := omega) only [pt_lt_, pt_clsome, pt_ck, pt_ckL, pt_cl, pt_clL, pt_cz0, pt_cz1, pt_czi, pt_add, pt_addL, pt_Ladd, pt_mul, pt_mulL, pt_Lmul, pt_sub, pt_subL, pt_Lsub, pt_rem, pt_le, pt_leL, pt_Lle, pt_lt, pt_ltL, pt_Llt, pt_eq, pt_eqL, pt_Leq, pt_m1, pt_lt0, pt_ge0, pt_m1lt0, pt_m1ge0, pt_10, pt_01, pt_00, pt_11, pt_m11, pt_0m1, pt_1m1, pt_ib, pt_ib1, pt_hs, pt_so, pt_ofNat, pt_si, pt_sin, pt_si1, pt_si2, pt_sl, pt_sln, pt_sl0, pt_sl2, pt_sr, pt_srn, pt_sr0, pt_sr1, if_true, if_false, ite_true, ite_false, not_true_eq_false, not_false_eq_true, if_pos, if_neg]
  have c6 : (clr κ (hu.2.2.1 6)).1 12 6 = -1 := by unfold clr; simp (disch := omega) only [pt_lt_, pt_clsome, pt_ck, pt_ckL, pt_cl, pt_clL, pt_cz0, pt_cz1, pt_czi, pt_add, pt_addL, pt_Ladd, pt_mul, pt_mulL, pt_Lmul, pt_sub, pt_subL, pt_Lsub, pt_rem, pt_le, pt_leL, pt_Lle, pt_lt, pt_ltL, pt_Llt, pt_eq, pt_eqL, pt_Leq, pt_m1, pt_lt0, pt_ge0, pt_m1lt0, pt_m1ge0, pt_10, pt_01, pt_00, pt_11, pt_m11, pt_0m1, pt_1m1, pt_ib, pt_ib1, pt_hs, pt_so, pt_ofNat, pt_si, pt_sin, pt_si1, pt_si2, pt_sl, pt_sln, pt_sl0, pt_sl2, pt_sr, pt_srn, pt_sr0, pt_sr1, if_true, if_false, ite_true, ite_false, not_true_eq_false, not_false_eq_true, if_pos, if_neg]
  unfold pX1_lays
  rw [px_clear, hs, pt_hs]
  simp only [pt_clsome, pt_lt_]
  by_cases h0 : v1 = 0
  · subst h0
    simp only [if_true]
    refine ⟨decide (v2 = 0), s_i (clr κ (hu.2.2.1 6)) 12 1 1, ?_, ?_, fr _ _, rfl, fun _ => ?_⟩
    · by_cases q : v2 = 0 <;> simp [q]
    · unfold lyP
      simp
    · simp (disch := omega) only [pt_lt_, pt_clsome, pt_ck, pt_ckL, pt_cl, pt_clL, pt_cz0, pt_cz1, pt_czi, pt_add, pt_addL, pt_Ladd, pt_mul, pt_mulL, pt_Lmul, pt_sub, pt_subL, pt_Lsub, pt_rem, pt_le, pt_leL, pt_Lle, pt_lt, pt_ltL, pt_Llt, pt_eq, pt_eqL, pt_Leq, pt_m1, pt_lt0, pt_ge0, pt_m1lt0, pt_m1ge0, pt_10, pt_01, pt_00, pt_11, pt_m11, pt_0m1, pt_1m1, pt_ib, pt_ib1, pt_hs, pt_so, pt_ofNat, pt_si, pt_sin, pt_si1, pt_si2, pt_sl, pt_sln, pt_sl0, pt_sl2, pt_sr, pt_srn, pt_sr0, pt_sr1, if_true, if_false, ite_true, ite_false, not_true_eq_false, not_false_eq_true, if_pos, if_neg, c1, c2, c3, c4, c5, c6]
      simp
  rw [if_neg h0]
  by_cases h1 : v1 = 1
  · subst h1
    simp only [if_true]
    refine ⟨decide (v2 = 0), s_i (clr κ (hu.2.2.1 6)) 12 2 1, ?_, ?_, fr _ _, rfl, fun _ => ?_⟩
    · by_cases q : v2 = 0 <;> simp [q]
    · unfold lyP
      simp
    · simp (disch := omega) only [pt_lt_, pt_clsome, pt_ck, pt_ckL, pt_cl, pt_clL, pt_cz0, pt_cz1, pt_czi, pt_add, pt_addL, pt_Ladd, pt_mul, pt_mulL, pt_Lmul, pt_sub, pt_subL, pt_Lsub, pt_rem, pt_le, pt_leL, pt_Lle, pt_lt, pt_ltL, pt_Llt, pt_eq, pt_eqL, pt_Leq, pt_m1, pt_lt0, pt_ge0, pt_m1lt0, pt_m1ge0, pt_10, pt_01, pt_00, pt_11, pt_m11, pt_0m1, pt_1m1, pt_ib, pt_ib1, pt_hs, pt_so, pt_ofNat, pt_si, pt_sin, pt_si1, pt_si2, pt_sl, pt_sln, pt_sl0, pt_sl2, pt_sr, pt_srn, pt_sr0, pt_sr1, if_true, if_false, ite_true, ite_false, not_true_eq_false, not_false_eq_true, if_pos, if_neg, c1, c2, c3, c4, c5, c6]
      simp
  rw [if_neg h1]
  by_cases h2 : v1 = 2
  · subst h2
    simp only [if_true]
    refine ⟨decide (v2 = 0), s_i (clr κ (hu.2.2.1 6)) 12 3 1, ?_, ?_, fr _ _, rfl, fun _ => ?_⟩
    · by_cases q : v2 = 0 <;> simp [q]
    · unfold lyP
      simp
    · simp (disch := omega) only [pt_lt_, pt_clsome, pt_ck, pt_ckL, pt_cl, pt_clL, pt_cz0, pt_cz1, pt_czi, pt_add, pt_addL, pt_Ladd, pt_mul, pt_mulL, pt_Lmul, pt_sub, pt_subL, pt_Lsub, pt_rem, pt_le, pt_leL, pt_Lle, pt_lt, pt_ltL, pt_Llt, pt_eq, pt_eqL, pt_Leq, pt_m1, pt_lt0, pt_ge0, pt_m1lt0, pt_m1ge0, pt_10, pt_01, pt_00, pt_11, pt_m11, pt_0m1, pt_1m1, pt_ib, pt_ib1, pt_hs, pt_so, pt_ofNat, pt_si, pt_sin, pt_si1, pt_si2, pt_sl, pt_sln, pt_sl0, pt_sl2, pt_sr, pt_srn, pt_sr0, pt_sr1, if_true, if_false, ite_true, ite_false, not_true_eq_false, not_false_eq_true, if_pos, if_neg, c1, c2, c3, c4, c5, c6]
      simp
  rw [if_neg h2]
  by_cases h3 : v1 = 3
  · subst h3
    simp only [if_true]
    refine ⟨decide (v2 = 0), s_i (clr κ (hu.2.2.1 6)) 12 4 1, ?_, ?_, fr _ _, rfl, fun _ => ?_⟩
    · by_cases q : v2 = 0 <;> simp [q]
    · unfold lyP
      simp
    · simp (disch := omega) only [pt_lt_, pt_clsome, pt_ck, pt_ckL, pt_cl, pt_clL, pt_cz0, pt_cz1, pt_czi, pt_add, pt_addL, pt_Ladd, pt_mul, pt_mulL, pt_Lmul, pt_sub, pt_subL, pt_Lsub, pt_rem, pt_le, pt_leL, pt_Lle, pt_lt, pt_ltL, pt_Llt, pt_eq, pt_eqL, pt_Leq, pt_m1, pt_lt0, pt_ge0, pt_m1lt0, pt_m1ge0, pt_10, pt_01, pt_00, pt_11, pt_m11, pt_0m1, pt_1m1, pt_ib, pt_ib1, pt_hs, pt_so, pt_ofNat, pt_si, pt_sin, pt_si1, pt_si2, pt_sl, pt_sln, pt_sl0, pt_sl2, pt_sr, pt_srn, pt_sr0, pt_sr1, if_true, if_false, ite_true, ite_false, not_true_eq_false, not_false_eq_true, if_pos, if_neg, c1, c2, c3, c4, c5, c6]
      simp
  rw [if_neg h3]
  by_cases h4 : v1 = 4
  · subst h4
    simp only [if_true]
    have hs3 : (s_i (clr κ (hu.2.2.1 6)) 12 5 v2).2.2 0 4 = some hb := hs2
    rw [px_isDesk hs3 t0]
    refine ⟨decide (0 ≤ v2 ∧ v2 < nI (hu.2.1 0)), s_i (clr κ (hu.2.2.1 6)) 12 5 v2, ?_, ?_, fr _ _, rfl, fun _ => ?_⟩
    · simp (disch := omega) only [pt_lt_, pt_clsome, pt_ck, pt_ckL, pt_cl, pt_clL, pt_cz0, pt_cz1, pt_czi, pt_add, pt_addL, pt_Ladd, pt_mul, pt_mulL, pt_Lmul, pt_sub, pt_subL, pt_Lsub, pt_rem, pt_le, pt_leL, pt_Lle, pt_lt, pt_ltL, pt_Llt, pt_eq, pt_eqL, pt_Leq, pt_m1, pt_lt0, pt_ge0, pt_m1lt0, pt_m1ge0, pt_10, pt_01, pt_00, pt_11, pt_m11, pt_0m1, pt_1m1, pt_ib, pt_ib1, pt_hs, pt_so, pt_ofNat, pt_si, pt_sin, pt_si1, pt_si2, pt_sl, pt_sln, pt_sl0, pt_sl2, pt_sr, pt_srn, pt_sr0, pt_sr1, if_true, if_false, ite_true, ite_false, not_true_eq_false, not_false_eq_true, if_pos, if_neg]
      by_cases q : 0 ≤ v2 ∧ v2 < nI (hu.2.1 0) <;> simp [q]
    · unfold lyP
      simp
    · simp (disch := omega) only [pt_lt_, pt_clsome, pt_ck, pt_ckL, pt_cl, pt_clL, pt_cz0, pt_cz1, pt_czi, pt_add, pt_addL, pt_Ladd, pt_mul, pt_mulL, pt_Lmul, pt_sub, pt_subL, pt_Lsub, pt_rem, pt_le, pt_leL, pt_Lle, pt_lt, pt_ltL, pt_Llt, pt_eq, pt_eqL, pt_Leq, pt_m1, pt_lt0, pt_ge0, pt_m1lt0, pt_m1ge0, pt_10, pt_01, pt_00, pt_11, pt_m11, pt_0m1, pt_1m1, pt_ib, pt_ib1, pt_hs, pt_so, pt_ofNat, pt_si, pt_sin, pt_si1, pt_si2, pt_sl, pt_sln, pt_sl0, pt_sl2, pt_sr, pt_srn, pt_sr0, pt_sr1, if_true, if_false, ite_true, ite_false, not_true_eq_false, not_false_eq_true, if_pos, if_neg, c1, c2, c3, c4, c5, c6]
      simp
  rw [if_neg h4]
  by_cases h5 : v1 = 5
  · subst h5
    simp only [if_true]
    have hs3 : (s_i (clr κ (hu.2.2.1 6)) 12 6 v2).2.2 0 4 = some hb := hs2
    rw [hs3, pt_hs, pt_ofNat, isIn_below v2 (by omega : hu.2.1 2 < 1073741824)]
    refine ⟨decide (0 ≤ v2 ∧ v2 < nI (hu.2.1 2)), s_i (clr κ (hu.2.2.1 6)) 12 6 v2, ?_, ?_, fr _ _, rfl, fun _ => ?_⟩
    · simp (disch := omega) only [pt_lt_, pt_clsome, pt_ck, pt_ckL, pt_cl, pt_clL, pt_cz0, pt_cz1, pt_czi, pt_add, pt_addL, pt_Ladd, pt_mul, pt_mulL, pt_Lmul, pt_sub, pt_subL, pt_Lsub, pt_rem, pt_le, pt_leL, pt_Lle, pt_lt, pt_ltL, pt_Llt, pt_eq, pt_eqL, pt_Leq, pt_m1, pt_lt0, pt_ge0, pt_m1lt0, pt_m1ge0, pt_10, pt_01, pt_00, pt_11, pt_m11, pt_0m1, pt_1m1, pt_ib, pt_ib1, pt_hs, pt_so, pt_ofNat, pt_si, pt_sin, pt_si1, pt_si2, pt_sl, pt_sln, pt_sl0, pt_sl2, pt_sr, pt_srn, pt_sr0, pt_sr1, if_true, if_false, ite_true, ite_false, not_true_eq_false, not_false_eq_true, if_pos, if_neg]
      by_cases q : 0 ≤ v2 ∧ v2 < nI (hu.2.1 2) <;> simp [q]
    · unfold lyP
      simp
    · simp (disch := omega) only [pt_lt_, pt_clsome, pt_ck, pt_ckL, pt_cl, pt_clL, pt_cz0, pt_cz1, pt_czi, pt_add, pt_addL, pt_Ladd, pt_mul, pt_mulL, pt_Lmul, pt_sub, pt_subL, pt_Lsub, pt_rem, pt_le, pt_leL, pt_Lle, pt_lt, pt_ltL, pt_Llt, pt_eq, pt_eqL, pt_Leq, pt_m1, pt_lt0, pt_ge0, pt_m1lt0, pt_m1ge0, pt_10, pt_01, pt_00, pt_11, pt_m11, pt_0m1, pt_1m1, pt_ib, pt_ib1, pt_hs, pt_so, pt_ofNat, pt_si, pt_sin, pt_si1, pt_si2, pt_sl, pt_sln, pt_sl0, pt_sl2, pt_sr, pt_srn, pt_sr0, pt_sr1, if_true, if_false, ite_true, ite_false, not_true_eq_false, not_false_eq_true, if_pos, if_neg, c1, c2, c3, c4, c5, c6]
      simp
  rw [if_neg h5]
  refine ⟨false, clr κ (hu.2.2.1 6), rfl, ?_, fun j i h => clr_fr h, rfl, fun h => by cases h⟩
  unfold lyP
  simp [h0, h1, h2, h3, h4, h5]
theorem pm_triedL {F : Nat} {hu : hd_T} {κ : kp_K} (hT : TW hu) (hM : MT hu κ) (v1 v2 v3 : Int32) (b : Bool) (hb : b = true ↔ lyP hu v1 v2) : (if v1 < 0 then bX6_tried_26 F κ v1 v2 v3 else if 3 < v1 then bX6_tried_26 F κ v1 v2 v3 else if v2 = 0 then bX6_tried_63 F κ v1 v2 v3 1 else bX6_tried_63 F κ v1 v2 v3 0) = bX6_tried_63 F κ v1 v2 v3 (if b then 1 else 0) := by
  have out : ¬ (v1 = 0 ∨ v1 = 1 ∨ v1 = 2 ∨ v1 = 3) → bX6_tried_26 F κ v1 v2 v3 = bX6_tried_63 F κ v1 v2 v3 (if b then 1 else 0) := by
    intro hn
    unfold bX6_tried_26 bX6_tried_62
    by_cases h4 : v1 = 4
    · subst h4
      rw [if_pos rfl, pm_isDesk hM]
      simp only [pt_clsome]
      congr 1
      have : (b = true) = (0 ≤ v2 ∧ v2 < nI (hu.2.1 0)) := propext (hb.trans (by unfold lyP; simp))
      simp only [this]
    · rw [if_neg h4]
      by_cases h5 : v1 = 5
      · subst h5
        rw [if_pos rfl]
        have e : (b = true) = (0 ≤ v2 ∧ v2 < nI (hu.2.1 2)) := propext (hb.trans (by unfold lyP; simp))
        simp only [e]
        simp (disch := omega) only [pt_lt_, pt_clsome, pt_ck, pt_ckL, pt_cl, pt_clL, pt_cz0, pt_cz1, pt_czi, pt_add, pt_addL, pt_Ladd, pt_mul, pt_mulL, pt_Lmul, pt_sub, pt_subL, pt_Lsub, pt_rem, pt_le, pt_leL, pt_Lle, pt_lt, pt_ltL, pt_Llt, pt_eq, pt_eqL, pt_Leq, pt_m1, pt_lt0, pt_ge0, pt_m1lt0, pt_m1ge0, pt_10, pt_01, pt_00, pt_11, pt_m11, pt_0m1, pt_1m1, pt_ib, pt_ib1, pt_hs, pt_so, pt_ofNat, pt_si, pt_sin, pt_si1, pt_si2, pt_sl, pt_sln, pt_sl0, pt_sl2, pt_sr, pt_srn, pt_sr0, pt_sr1, if_true, if_false, ite_true, ite_false, not_true_eq_false, not_false_eq_true, hM.1 2 (by omega)]
        by_cases q1 : v2 < 0
        · rw [if_pos q1, if_neg (fun z => Int32.not_le.mpr q1 z.1)]
        · rw [if_neg q1]
          by_cases q2 : nI (hu.2.1 2) ≤ v2
          · rw [if_pos q2, if_neg (fun z => Int32.not_lt.mpr q2 z.2)]
          · rw [if_neg q2, if_pos ⟨Int32.not_lt.mp q1, Int32.not_le.mp q2⟩]
      · rw [if_neg h5]
        have : b = false := by
          cases b
          · rfl
          · have := hb.mp rfl
            unfold lyP at this
            rcases this with h | h | h
            · exact absurd h.1 hn
            · exact absurd h.1 h4
            · exact absurd h.1 h5
        rw [this]
        rfl
  by_cases q1 : v1 < 0
  · rw [if_pos q1]
    refine out (fun h => ?_)
    rcases h with h | h | h | h <;> rw [h] at q1 <;> exact absurd q1 (by decide)
  · rw [if_neg q1]
    by_cases q2 : 3 < v1
    · rw [if_pos q2]
      refine out (fun h => ?_)
      rcases h with h | h | h | h <;> rw [h] at q2 <;> exact absurd q2 (by decide)
    · rw [if_neg q2]
      obtain ⟨j, hj, rfl⟩ := nI_of2 (M := 3) (n := 3) (by decide) q1 (Int32.not_lt.mp q2)
      have h03 : nI j = 0 ∨ nI j = 1 ∨ nI j = 2 ∨ nI j = 3 := by
        rcases (show j = 0 ∨ j = 1 ∨ j = 2 ∨ j = 3 by omega) with rfl | rfl | rfl | rfl
        · exact Or.inl rfl
        · exact Or.inr (Or.inl rfl)
        · exact Or.inr (Or.inr (Or.inl rfl))
        · exact Or.inr (Or.inr (Or.inr rfl))
      have n4 : ¬ nI j = 4 := by simp (disch := omega) only [pt_lt_, pt_clsome, pt_ck, pt_ckL, pt_cl, pt_clL, pt_cz0, pt_cz1, pt_czi, pt_add, pt_addL, pt_Ladd, pt_mul, pt_mulL, pt_Lmul, pt_sub, pt_subL, pt_Lsub, pt_rem, pt_le, pt_leL, pt_Lle, pt_lt, pt_ltL, pt_Llt, pt_eq, pt_eqL, pt_Leq, pt_m1, pt_lt0, pt_ge0, pt_m1lt0, pt_m1ge0, pt_10, pt_01, pt_00, pt_11, pt_m11, pt_0m1, pt_1m1, pt_ib, pt_ib1, pt_hs, pt_so, pt_ofNat, pt_si, pt_sin, pt_si1, pt_si2, pt_sl, pt_sln, pt_sl0, pt_sl2, pt_sr, pt_srn, pt_sr0, pt_sr1, if_true, if_false, ite_true, ite_false, not_true_eq_false, not_false_eq_true, if_pos, if_neg]; omega
      have n5 : ¬ nI j = 5 := by simp (disch := omega) only [pt_lt_, pt_clsome, pt_ck, pt_ckL, pt_cl, pt_clL, pt_cz0, pt_cz1, pt_czi, pt_add, pt_addL, pt_Ladd, pt_mul, pt_mulL, pt_Lmul, pt_sub, pt_subL, pt_Lsub, pt_rem, pt_le, pt_leL, pt_Lle, pt_lt, pt_ltL, pt_Llt, pt_eq, pt_eqL, pt_Leq, pt_m1, pt_lt0, pt_ge0, pt_m1lt0, pt_m1ge0, pt_10, pt_01, pt_00, pt_11, pt_m11, pt_0m1, pt_1m1, pt_ib, pt_ib1, pt_hs, pt_so, pt_ofNat, pt_si, pt_sin, pt_si1, pt_si2, pt_sl, pt_sln, pt_sl0, pt_sl2, pt_sr, pt_srn, pt_sr0, pt_sr1, if_true, if_false, ite_true, ite_false, not_true_eq_false, not_false_eq_true, if_pos, if_neg]; omega
      have e : (b = true) = (v2 = 0) := propext (hb.trans (by unfold lyP; simp [h03, n4, n5]))
      simp only [e]
      by_cases q3 : v2 = 0
      · rw [if_pos q3, if_pos q3]
      · rw [if_neg q3, if_neg q3]
theorem ls_tried {F : Nat} {hu : hd_T} {hb : Nat} {κx κm : kp_K} (hF : 80 ≤ F) (I : INV hu hb κx κm) (v1 v2 v3 : Int32) : iLS hu hb κx κm (pX1_tried F hb hu κx v1 v2 v3) (pX6_tried F κm v1 v2 v3) := by
  obtain ⟨hT, hM, hs, -, -, ⟨⟨dy, mn, w, R⟩, N, hc⟩, hIC, -⟩ := id I
  have hM0 := (I.th (v := 0)).2.1
  have t0 := hT.1.1
  have no : iLS hu hb κx κm (some ((-1 : Int32), κx)) (some ((-1 : Int32), s_i κm 66 0 0)) := ⟨_, _, _, rfl, rfl, I.th, fun _ _ _ => ⟨rfl, rfl⟩, MF0⟩
  have d1 := R.1.1
  have d2 := R.1.2.1
  have d3 := R.1.2.2
  simp only [Nat.mul_zero, Nat.add_zero] at d1
  obtain ⟨b, k11, e1, e2, e3, e4, e5⟩ := px_lays hT hs v1 v2
  unfold pX1_tried pX6_tried
  rw [px_isDesk hs t0, e1]
  simp only [pt_clsome, pt_lt_]
  rw [pm_triedL hT hM0 v1 v2 v3 b e2]
  unfold bX6_tried_63
  rw [pm_isDesk hM0]
  simp only [pt_clsome, pt_lt_, pt_ib, ite_not]
  have I11 : INV hu hb k11 (s_i κm 66 0 0) := I.same (fun j i a b => (e3 j i (fun q => b (by unfold SX; omega))).1) (fun j i q => by rw [e4, pt_srn (by omega)]) (fun j i a b => pt_sin (fun q => b (by unfold SM; omega)))
  have no11 : iLS hu hb κx κm (some ((-1 : Int32), k11)) (some ((-1 : Int32), s_i κm 66 0 0)) := ⟨_, _, _, rfl, rfl, I11, fun j i hj => e3 j i (by omega), MF0⟩
  by_cases hd : 0 ≤ v3 ∧ v3 < nI (hu.2.1 0)
  · rw [if_pos hd, if_pos hd]
    cases b with
    | false => simp only [Bool.false_eq_true, if_false]; exact no11
    | true =>
      simp only [if_true]
      obtain ⟨d, hd2, rfl⟩ := below hd (by omega)
      rw [pm_plain]
      simp (disch := omega) only [pt_lt_, pt_clsome, pt_ck, pt_ckL, pt_cl, pt_clL, pt_cz0, pt_cz1, pt_czi, pt_add, pt_addL, pt_Ladd, pt_mul, pt_mulL, pt_Lmul, pt_sub, pt_subL, pt_Lsub, pt_rem, pt_le, pt_leL, pt_Lle, pt_lt, pt_ltL, pt_Llt, pt_eq, pt_eqL, pt_Leq, pt_m1, pt_lt0, pt_ge0, pt_m1lt0, pt_m1ge0, pt_10, pt_01, pt_00, pt_11, pt_m11, pt_0m1, pt_1m1, pt_ib, pt_ib1, pt_hs, pt_so, pt_ofNat, pt_si, pt_sin, pt_si1, pt_si2, pt_sl, pt_sln, pt_sl0, pt_sl2, pt_sr, pt_srn, pt_sr0, pt_sr1, if_true, if_false, ite_true, ite_false, not_true_eq_false, not_false_eq_true, if_pos, if_neg]
      generalize hκ9 : s_i (s_i (s_i (s_i (s_i (s_i κm 66 0 0) 66 37 (-1)) 66 38 (-1)) 66 39 0) 66 37 v1) 66 38 v2 = κ9
      have g9 : ∀ j i, ¬ (j = 66 ∧ (i = 0 ∨ (37 ≤ i ∧ i ≤ 39))) → κ9.1 j i = κm.1 j i := fun j i q => by rw [← hκ9]; simp (disch := omega) only [pt_lt_, pt_clsome, pt_ck, pt_ckL, pt_cl, pt_clL, pt_cz0, pt_cz1, pt_czi, pt_add, pt_addL, pt_Ladd, pt_mul, pt_mulL, pt_Lmul, pt_sub, pt_subL, pt_Lsub, pt_rem, pt_le, pt_leL, pt_Lle, pt_lt, pt_ltL, pt_Llt, pt_eq, pt_eqL, pt_Leq, pt_m1, pt_lt0, pt_ge0, pt_m1lt0, pt_m1ge0, pt_10, pt_01, pt_00, pt_11, pt_m11, pt_0m1, pt_1m1, pt_ib, pt_ib1, pt_hs, pt_so, pt_ofNat, pt_si, pt_sin, pt_si1, pt_si2, pt_sl, pt_sln, pt_sl0, pt_sl2, pt_sr, pt_srn, pt_sr0, pt_sr1, if_true, if_false, ite_true, ite_false, not_true_eq_false, not_false_eq_true, if_pos, if_neg]
      have g9l : κ9.2 = κm.2 := by rw [← hκ9]; rfl
      have hM9 : MT hu κ9 := hM.same (fun j i a b => g9 j i (by omega))
      obtain ⟨z1, z2, z3, z4, z5, z6⟩ := e5 rfl
      have hs11 : k11.2.2 0 4 = some hb := by rw [e4, pt_srn (by omega)]; exact hs
      have hc9 : CH hu 12 k11 κ9 := by
        refine ch_mk (s := 0) v1 v2 (by rw [← hκ9]; simp (disch := omega) only [pt_lt_, pt_clsome, pt_ck, pt_ckL, pt_cl, pt_clL, pt_cz0, pt_cz1, pt_czi, pt_add, pt_addL, pt_Ladd, pt_mul, pt_mulL, pt_Lmul, pt_sub, pt_subL, pt_Lsub, pt_rem, pt_le, pt_leL, pt_Lle, pt_lt, pt_ltL, pt_Llt, pt_eq, pt_eqL, pt_Leq, pt_m1, pt_lt0, pt_ge0, pt_m1lt0, pt_m1ge0, pt_10, pt_01, pt_00, pt_11, pt_m11, pt_0m1, pt_1m1, pt_ib, pt_ib1, pt_hs, pt_so, pt_ofNat, pt_si, pt_sin, pt_si1, pt_si2, pt_sl, pt_sln, pt_sl0, pt_sl2, pt_sr, pt_srn, pt_sr0, pt_sr1, if_true, if_false, ite_true, ite_false, not_true_eq_false, not_false_eq_true, if_pos, if_neg]) (by rw [← hκ9]; simp (disch := omega) only [pt_lt_, pt_clsome, pt_ck, pt_ckL, pt_cl, pt_clL, pt_cz0, pt_cz1, pt_czi, pt_add, pt_addL, pt_Ladd, pt_mul, pt_mulL, pt_Lmul, pt_sub, pt_subL, pt_Lsub, pt_rem, pt_le, pt_leL, pt_Lle, pt_lt, pt_ltL, pt_Llt, pt_eq, pt_eqL, pt_Leq, pt_m1, pt_lt0, pt_ge0, pt_m1lt0, pt_m1ge0, pt_10, pt_01, pt_00, pt_11, pt_m11, pt_0m1, pt_1m1, pt_ib, pt_ib1, pt_hs, pt_so, pt_ofNat, pt_si, pt_sin, pt_si1, pt_si2, pt_sl, pt_sln, pt_sl0, pt_sl2, pt_sr, pt_srn, pt_sr0, pt_sr1, if_true, if_false, ite_true, ite_false, not_true_eq_false, not_false_eq_true, if_pos, if_neg]) (by rw [← hκ9]; simp (disch := omega) only [pt_lt_, pt_clsome, pt_ck, pt_ckL, pt_cl, pt_clL, pt_cz0, pt_cz1, pt_czi, pt_add, pt_addL, pt_Ladd, pt_mul, pt_mulL, pt_Lmul, pt_sub, pt_subL, pt_Lsub, pt_rem, pt_le, pt_leL, pt_Lle, pt_lt, pt_ltL, pt_Llt, pt_eq, pt_eqL, pt_Leq, pt_m1, pt_lt0, pt_ge0, pt_m1lt0, pt_m1ge0, pt_10, pt_01, pt_00, pt_11, pt_m11, pt_0m1, pt_1m1, pt_ib, pt_ib1, pt_hs, pt_so, pt_ofNat, pt_si, pt_sin, pt_si1, pt_si2, pt_sl, pt_sln, pt_sl0, pt_sl2, pt_sr, pt_srn, pt_sr0, pt_sr1, if_true, if_false, ite_true, ite_false, not_true_eq_false, not_false_eq_true, if_pos, if_neg]) (by omega) ?_ z1 z2 z3 z4 z5 z6
        rw [e4, pt_sr (by omega)]
        exact hM9.2.2.2.2.2.2.2.2.2.1
      obtain ⟨k1, k2, m1, m2, mn', w', a1, a2, a3, a4, a5, a6, a7, a8, a9, aa, ab, ac⟩ := rr_trial (F := F) hF d3 hT hM9 hs11 hc9 (by rw [g9 _ _ (by omega)]; exact N.2)
      have h13 : k1.1 13 1 = nI dy := by rw [a6 13 1 (by unfold PX; omega), (e3 13 1 (by omega)).1]; exact d1
      have a3' : pX6_begins F κ9 1 = some m1 := a3
      rw [a1]
      simp only [pt_clsome, h13]
      rw [a2, a3']
      simp only [pt_clsome]
      have e7 := pm_triedIt (F := F) (d := d) d3 (by omega) dy 0 (by omega) F (by omega) m1 (fun κ' hk => by
        obtain ⟨i, i1, i2⟩ := hk
        rw [((ac i κ' i1 i2).1 91 0 (by unfold PM; omega)).1, g9 _ _ (by omega)]
        exact d2)
      have e7' : bX6_tried_102 F F m1 (nI d) 0 = p_cl (itP F 1 dy m1) fun κ' => some (κ'.1 96 (4 + d), κ') := e7
      rw [e7', a4]
      have el := (a5.2.2.2.1 d (by omega)).1
      simp only [Nat.mul_one] at el
      simp (disch := omega) only [pt_lt_, pt_clsome, pt_ck, pt_ckL, pt_cl, pt_clL, pt_cz0, pt_cz1, pt_czi, pt_add, pt_addL, pt_Ladd, pt_mul, pt_mulL, pt_Lmul, pt_sub, pt_subL, pt_Lsub, pt_rem, pt_le, pt_leL, pt_Lle, pt_lt, pt_ltL, pt_Llt, pt_eq, pt_eqL, pt_Leq, pt_m1, pt_lt0, pt_ge0, pt_m1lt0, pt_m1ge0, pt_10, pt_01, pt_00, pt_11, pt_m11, pt_0m1, pt_1m1, pt_ib, pt_ib1, pt_hs, pt_so, pt_ofNat, pt_si, pt_sin, pt_si1, pt_si2, pt_sl, pt_sln, pt_sl0, pt_sl2, pt_sr, pt_srn, pt_sr0, pt_sr1, if_true, if_false, ite_true, ite_false, not_true_eq_false, not_false_eq_true, if_pos, if_neg]
      rw [show k2.1 29 d = m2.1 96 (4 + d) from el]
      refine ⟨_, k2, m2, rfl, rfl, ?_, fun j i hj => ?_, ?_⟩
      · refine I11.same (fun j i a b => (a7 j i (fun q => b (by unfold PX at q; unfold SX; omega))).1) (fun j i q => by rw [a8, pt_srn (by omega)]) (fun j i a b => ?_)
        unfold SM at b
        rw [pt_sin (by omega)]
        by_cases q : j = 66 ∧ i = 59
        · obtain ⟨rfl, rfl⟩ := q
          rw [ab, N.2]
        · rw [(aa.1 j i (fun z => b (by unfold PM at z; omega))).1, g9 j i (by omega)]
      · obtain ⟨y1, y2⟩ := a7 j i (by unfold PX; omega)
        obtain ⟨x1, x2⟩ := e3 j i (by omega)
        exact ⟨y1.trans x1, y2.trans x2⟩
      · refine ⟨fun j i hj => ?_, ?_⟩
        · obtain ⟨y1, y2⟩ := aa.1 j i (by unfold PM; omega)
          rw [y1, y2, g9 j i (by omega), g9l]
          exact ⟨rfl, rfl⟩
        · rw [aa.2, g9l]
  · rw [if_neg hd, if_neg hd]
    cases b with
    | false => simp only [Bool.false_eq_true, if_false]; exact no
    | true => simp only [if_true]; exact no
