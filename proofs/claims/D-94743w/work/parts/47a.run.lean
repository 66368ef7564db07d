/-! PURE LAYER: lines that come and go, on both sides -/
set_option maxRecDepth 100000
theorem RR.same {hu : hd_T} {r dy : Nat} {mn : Nat → Nat} {w B : Nat} {κx κm κx' κm' : kp_K} (h : RR hu r dy mn w B κx κm) (gx : ∀ j i, 13 + 14 * r ≤ j → j ≤ 26 + 14 * r → ¬ (j = 17 + 14 * r) → ¬ (21 + 14 * r ≤ j ∧ j ≤ 24 + 14 * r) → ¬ (j = 13 + 14 * r ∧ ¬ i = 1 ∧ ¬ i = 16) → κx'.1 j i = κx.1 j i) (gm : ∀ j i, 91 ≤ j → j ≤ 104 → ¬ j = 98 → κm'.1 j i = κm.1 j i) : RR hu r dy mn w B κx' κm' := by
  have x1 := gx (13 + 14 * r) 1 (by omega) (by omega) (by omega) (by omega) (by omega)
  have x2 := gx (13 + 14 * r) 16 (by omega) (by omega) (by omega) (by omega) (by omega)
  have x3 : κx'.1 (14 + 14 * r) = κx.1 (14 + 14 * r) := funext fun i => gx _ i (by omega) (by omega) (by omega) (by omega) (by omega)
  have x4 : κx'.1 (15 + 14 * r) = κx.1 (15 + 14 * r) := funext fun i => gx _ i (by omega) (by omega) (by omega) (by omega) (by omega)
  have x5 : κx'.1 (16 + 14 * r) = κx.1 (16 + 14 * r) := funext fun i => gx _ i (by omega) (by omega) (by omega) (by omega) (by omega)
  have x6 : κx'.1 (18 + 14 * r) = κx.1 (18 + 14 * r) := funext fun i => gx _ i (by omega) (by omega) (by omega) (by omega) (by omega)
  have x7 : κx'.1 (19 + 14 * r) = κx.1 (19 + 14 * r) := funext fun i => gx _ i (by omega) (by omega) (by omega) (by omega) (by omega)
  have x8 : κx'.1 (20 + 14 * r) = κx.1 (20 + 14 * r) := funext fun i => gx _ i (by omega) (by omega) (by omega) (by omega) (by omega)
  have x9 : κx'.1 (25 + 14 * r) = κx.1 (25 + 14 * r) := funext fun i => gx _ i (by omega) (by omega) (by omega) (by omega) (by omega)
  have xa : κx'.1 (26 + 14 * r) = κx.1 (26 + 14 * r) := funext fun i => gx _ i (by omega) (by omega) (by omega) (by omega) (by omega)
  have m1 : κm'.1 91 = κm.1 91 := funext fun i => gm _ i (by omega) (by omega) (by omega)
  have m2 : κm'.1 92 = κm.1 92 := funext fun i => gm _ i (by omega) (by omega) (by omega)
  have m3 : κm'.1 93 = κm.1 93 := funext fun i => gm _ i (by omega) (by omega) (by omega)
  have m4 : κm'.1 94 = κm.1 94 := funext fun i => gm _ i (by omega) (by omega) (by omega)
  have m5 : κm'.1 95 = κm.1 95 := funext fun i => gm _ i (by omega) (by omega) (by omega)
  have m6 : κm'.1 96 = κm.1 96 := funext fun i => gm _ i (by omega) (by omega) (by omega)
  have m7 : κm'.1 97 = κm.1 97 := funext fun i => gm _ i (by omega) (by omega) (by omega)
  have m8 : κm'.1 99 = κm.1 99 := funext fun i => gm _ i (by omega) (by omega) (by omega)
  have m9 : κm'.1 100 = κm.1 100 := funext fun i => gm _ i (by omega) (by omega) (by omega)
  have ma : κm'.1 101 = κm.1 101 := funext fun i => gm _ i (by omega) (by omega) (by omega)
  have mb : κm'.1 102 = κm.1 102 := funext fun i => gm _ i (by omega) (by omega) (by omega)
  have mc : κm'.1 103 = κm.1 103 := funext fun i => gm _ i (by omega) (by omega) (by omega)
  have md : κm'.1 104 = κm.1 104 := funext fun i => gm _ i (by omega) (by omega) (by omega)
  unfold RR at h ⊢
  rw [x1, x2, x3, x4, x5, x6, x7, x8, x9, xa, m1, m2, m3, m4, m5, m6, m7, m8, m9, ma, mb, mc, md]
  exact h
theorem RR.fr {hu : hd_T} {r dy : Nat} {mn : Nat → Nat} {w B : Nat} {κx κm κx' κm' : kp_K} (h : RR hu r dy mn w B κx κm) (gx : Fr (fun j _ => j = 9 ∨ j = 10) κx κx') (gm : Fr FL κm κm') : RR hu r dy mn w B κx' κm' :=
  h.same (fun j i a b _ _ _ => (gx.1 j i (by omega)).1) (fun j i a b _ => (gm.1 j i (by unfold FL; omega)).1)
theorem RR.mono {hu : hd_T} {r dy : Nat} {mn : Nat → Nat} {w B C : Nat} {κx κm : kp_K} (h : RR hu r dy mn w B κx κm) (hc : B ≤ C) : RR hu r dy mn w C κx κm :=
  ⟨h.1, h.2.1, h.2.2.1, h.2.2.2.1, h.2.2.2.2.1, h.2.2.2.2.2.1, h.2.2.2.2.2.2.1, Nat.le_trans h.2.2.2.2.2.2.2 hc⟩
/-- what is tried: the system's change at ch, the reference's three ints -/
def CH (hu : hd_T) (ch : Nat) (κx κm : kp_K) : Prop :=
  (ch = 11 ∨ ch = 12) ∧ (κx.1 ch 1 = 0 ↔ ¬ κm.1 66 37 = 0) ∧ (κx.1 ch 2 = 0 ↔ ¬ κm.1 66 37 = 1) ∧ (κx.1 ch 3 = 0 ↔ ¬ κm.1 66 37 = 2) ∧ (κx.1 ch 4 = 0 ↔ ¬ κm.1 66 37 = 3) ∧
  (∀ d : Nat, d < 4 → (κx.1 ch 5 = nI d ↔ κm.1 66 37 = 4 ∧ κm.1 66 38 = nI d)) ∧ (∀ c : Nat, c < 16 → (κx.1 ch 6 = nI c ↔ κm.1 66 37 = 5 ∧ κm.1 66 38 = nI c)) ∧
  ∃ s : Nat, s < 12 ∧ κm.1 66 39 = nI s ∧ SR hu κm s (κx.2.2 ch 0)
def CTX (hu : hd_T) (hb r ch : Nat) (κx κm : kp_K) : Prop := TW hu ∧ MT hu κm ∧ κx.2.2 0 4 = some hb ∧ κx.2.2 (13 + 14 * r) 0 = some ch ∧ CH hu ch κx κm
theorem CTX.fr {hu : hd_T} {hb r ch : Nat} {κx κm κx' κm' : kp_K} (h : CTX hu hb r ch κx κm) (gx : Fr (PX r) κx κx') (gm : Fr (PM r) κm κm') : CTX hu hb r ch κx' κm' := by
  obtain ⟨h1, h2, h3, h4, c1, c2, c3, c4, c5, c6, c7, s, c8, c9, ca⟩ := h
  have g1 : ∀ i, κx'.1 ch i = κx.1 ch i := fun i => (gx.1 ch i (by unfold PX; omega)).1
  have m1 : ∀ i, 37 ≤ i → i ≤ 39 → κm'.1 66 i = κm.1 66 i := fun i a b => (gm.1 66 i (by unfold PM; omega)).1
  refine ⟨h1, h2.fr gm, by rw [gx.2]; exact h3, by rw [gx.2]; exact h4, c1, ?_, ?_, ?_, ?_, ?_, ?_, s, c8, ?_, ?_⟩
  · rw [g1, m1 37 (by omega) (by omega)]; exact c2
  · rw [g1, m1 37 (by omega) (by omega)]; exact c3
  · rw [g1, m1 37 (by omega) (by omega)]; exact c4
  · rw [g1, m1 37 (by omega) (by omega)]; exact c5
  · rw [g1, m1 37 (by omega) (by omega), m1 38 (by omega) (by omega)]; exact c6
  · rw [g1, m1 37 (by omega) (by omega), m1 38 (by omega) (by omega)]; exact c7
  · rw [m1 39 (by omega) (by omega)]; exact c9
  · rw [gx.2]; exact ca.same (fun j i a b => (gm.1 j i (by unfold PM; omega)).1)
/-- what comes may write -/
def PXc (r : Nat) (j i : Nat) : Prop := j = 9 ∨ j = 10 ∨ (j = 13 + 14 * r ∧ i = 16) ∨ j = 14 + 14 * r ∨ (17 + 14 * r ≤ j ∧ j ≤ 20 + 14 * r) ∨ j = 26 + 14 * r
def PMc (r : Nat) (j i : Nat) : Prop := (j = 66 ∧ i = 42) ∨ j = 89 ∨ j = 90 ∨ (j = 100 ∧ i = r) ∨ ((j = 92 ∨ j = 98) ∧ 4 * r ≤ i ∧ i < 4 * r + 4) ∨ ((j = 93 ∨ j = 94 ∨ j = 95) ∧ 28 * r ≤ i ∧ i < 28 * r + 28) ∨ (101 ≤ j ∧ j ≤ 104 ∧ 640 * r ≤ i ∧ i < 640 * r + 640)
theorem PXc.px {r j i : Nat} (h : PXc r j i) : PX r j i := by unfold PXc at h; unfold PX; omega
theorem PMc.pm {r j i : Nat} (h : PMc r j i) : PM r j i := by unfold PMc at h; unfold PM; omega
theorem frx {r : Nat} {κ κ' : kp_K} (h : Fr (fun j _ => j = 9 ∨ j = 10) κ κ') : Fr (PXc r) κ κ' := h.mono (fun j i q => by unfold PXc; omega)
theorem frm {r : Nat} {κ κ' : kp_K} (h : Fr FL κ κ') : Fr (PMc r) κ κ' := h.mono (fun j i q => by unfold FL at q; unfold PMc; omega)
/-- held as it stands -/
def hNow (r : Nat) (mn : Nat → Nat) (κm : kp_K) (e : Nat) : Int32 := setF (fun j => κm.1 93 (28 * r + 7 * e + j)) 0 (mn e) 0
theorem RR.hx {hu : hd_T} {r dy : Nat} {mn : Nat → Nat} {w B : Nat} {κx κm : kp_K} (h : RR hu r dy mn w B κx κm) {nd : Nat} (hn : nd ≤ 4) (h0 : κx.1 (13 + 14 * r) 13 = 0) : HX nd r (hNow r mn κm) κx :=
  Or.inl ⟨h0, fun e he => ⟨mn e, (h.2.2.1 e (by omega)).2.2, (h.2.2.1 e (by omega)).1, setF_congr _ _ _ (h.fact (by omega))⟩⟩
theorem RR.hm {hu : hd_T} {r dy : Nat} {mn : Nat → Nat} {w B : Nat} {κx κm : kp_K} (h : RR hu r dy mn w B κx κm) {nd : Nat} (hn : nd ≤ 4) (h0 : κm.1 66 59 = 0) : HM nd r (hNow r mn κm) κm :=
  Or.inl ⟨h0, fun e he => ⟨mn e, (h.2.2.1 e (by omega)).2.2, (h.2.2.1 e (by omega)).2.1, rfl⟩⟩
/-! one that went -/
theorem rr_goes {hu : hd_T} {r dy : Nat} {mn : Nat → Nat} {w B : Nat} {κx κm : kp_K} (h : RR hu r dy mn w B κx κm) (hr : r < 3) (hB : B ≤ 600) {d f y : Nat} (hd : d < 4) (hf : f < 7) (hy : y < 4) :
    ∃ κx' κm', pX5_goes r κx (nI d) (nI f) (nI y) = some κx' ∧ pX6_notes κm (nI r) (nI d) (nI f) (nI y) = some κm' ∧ RR hu r dy mn (w + 1) (B + 1) κx' κm' ∧ Fr (fun j i => (j = 13 + 14 * r ∧ i = 16) ∨ j = 26 + 14 * r) κx κx' ∧ Fr (fun j i => (j = 100 ∧ i = r) ∨ (101 ≤ j ∧ j ≤ 104 ∧ 640 * r ≤ i ∧ i < 640 * r + 640)) κm κm' := by
  obtain ⟨⟨a1, a2, a3⟩, ⟨b1, b2⟩, c, d1, e, f1, g, hs⟩ := h
  unfold pX5_goes pX6_notes
  simp (disch := omega) only [pt_lt_, pt_clsome, pt_ck, pt_ckL, pt_cl, pt_clL, pt_cz0, pt_cz1, pt_czi, pt_add, pt_addL, pt_Ladd, pt_mul, pt_mulL, pt_Lmul, pt_sub, pt_subL, pt_Lsub, pt_rem, pt_le, pt_leL, pt_Lle, pt_lt, pt_ltL, pt_Llt, pt_eq, pt_eqL, pt_Leq, pt_m1, pt_lt0, pt_ge0, pt_m1lt0, pt_m1ge0, pt_10, pt_01, pt_00, pt_11, pt_m11, pt_0m1, pt_1m1, pt_ib, pt_ib1, pt_hs, pt_so, pt_ofNat, pt_si, pt_sin, pt_si1, pt_si2, pt_sl, pt_sln, pt_sl0, pt_sl2, pt_sr, pt_srn, pt_sr0, pt_sr1, if_true, if_false, ite_true, ite_false, not_true_eq_false, not_false_eq_true, if_pos, if_neg, a1, a2, b1, b2]
  refine ⟨_, _, rfl, rfl, ⟨⟨?_, ?_, a3⟩, ⟨?_, ?_⟩, fun z hz => ⟨?_, ?_, (c z hz).2.2⟩, fun z hz => ?_, fun z k hz hk => ?_, fun q hq => ?_, fun k hk => ?_, by omega⟩, ?_, ?_⟩
  · simp (disch := omega) only [pt_lt_, pt_clsome, pt_ck, pt_ckL, pt_cl, pt_clL, pt_cz0, pt_cz1, pt_czi, pt_add, pt_addL, pt_Ladd, pt_mul, pt_mulL, pt_Lmul, pt_sub, pt_subL, pt_Lsub, pt_rem, pt_le, pt_leL, pt_Lle, pt_lt, pt_ltL, pt_Llt, pt_eq, pt_eqL, pt_Leq, pt_m1, pt_lt0, pt_ge0, pt_m1lt0, pt_m1ge0, pt_10, pt_01, pt_00, pt_11, pt_m11, pt_0m1, pt_1m1, pt_ib, pt_ib1, pt_hs, pt_so, pt_ofNat, pt_si, pt_sin, pt_si1, pt_si2, pt_sl, pt_sln, pt_sl0, pt_sl2, pt_sr, pt_srn, pt_sr0, pt_sr1, if_true, if_false, ite_true, ite_false, not_true_eq_false, not_false_eq_true, if_pos, if_neg]; exact a1
  · simp (disch := omega) only [pt_lt_, pt_clsome, pt_ck, pt_ckL, pt_cl, pt_clL, pt_cz0, pt_cz1, pt_czi, pt_add, pt_addL, pt_Ladd, pt_mul, pt_mulL, pt_Lmul, pt_sub, pt_subL, pt_Lsub, pt_rem, pt_le, pt_leL, pt_Lle, pt_lt, pt_ltL, pt_Llt, pt_eq, pt_eqL, pt_Leq, pt_m1, pt_lt0, pt_ge0, pt_m1lt0, pt_m1ge0, pt_10, pt_01, pt_00, pt_11, pt_m11, pt_0m1, pt_1m1, pt_ib, pt_ib1, pt_hs, pt_so, pt_ofNat, pt_si, pt_sin, pt_si1, pt_si2, pt_sl, pt_sln, pt_sl0, pt_sl2, pt_sr, pt_srn, pt_sr0, pt_sr1, if_true, if_false, ite_true, ite_false, not_true_eq_false, not_false_eq_true, if_pos, if_neg]; exact a2
  · simp (disch := omega) only [pt_lt_, pt_clsome, pt_ck, pt_ckL, pt_cl, pt_clL, pt_cz0, pt_cz1, pt_czi, pt_add, pt_addL, pt_Ladd, pt_mul, pt_mulL, pt_Lmul, pt_sub, pt_subL, pt_Lsub, pt_rem, pt_le, pt_leL, pt_Lle, pt_lt, pt_ltL, pt_Llt, pt_eq, pt_eqL, pt_Leq, pt_m1, pt_lt0, pt_ge0, pt_m1lt0, pt_m1ge0, pt_10, pt_01, pt_00, pt_11, pt_m11, pt_0m1, pt_1m1, pt_ib, pt_ib1, pt_hs, pt_so, pt_ofNat, pt_si, pt_sin, pt_si1, pt_si2, pt_sl, pt_sln, pt_sl0, pt_sl2, pt_sr, pt_srn, pt_sr0, pt_sr1, if_true, if_false, ite_true, ite_false, not_true_eq_false, not_false_eq_true, if_pos, if_neg]
  · simp (disch := omega) only [pt_lt_, pt_clsome, pt_ck, pt_ckL, pt_cl, pt_clL, pt_cz0, pt_cz1, pt_czi, pt_add, pt_addL, pt_Ladd, pt_mul, pt_mulL, pt_Lmul, pt_sub, pt_subL, pt_Lsub, pt_rem, pt_le, pt_leL, pt_Lle, pt_lt, pt_ltL, pt_Llt, pt_eq, pt_eqL, pt_Leq, pt_m1, pt_lt0, pt_ge0, pt_m1lt0, pt_m1ge0, pt_10, pt_01, pt_00, pt_11, pt_m11, pt_0m1, pt_1m1, pt_ib, pt_ib1, pt_hs, pt_so, pt_ofNat, pt_si, pt_sin, pt_si1, pt_si2, pt_sl, pt_sln, pt_sl0, pt_sl2, pt_sr, pt_srn, pt_sr0, pt_sr1, if_true, if_false, ite_true, ite_false, not_true_eq_false, not_false_eq_true, if_pos, if_neg]
  · simp (disch := omega) only [pt_lt_, pt_clsome, pt_ck, pt_ckL, pt_cl, pt_clL, pt_cz0, pt_cz1, pt_czi, pt_add, pt_addL, pt_Ladd, pt_mul, pt_mulL, pt_Lmul, pt_sub, pt_subL, pt_Lsub, pt_rem, pt_le, pt_leL, pt_Lle, pt_lt, pt_ltL, pt_Llt, pt_eq, pt_eqL, pt_Leq, pt_m1, pt_lt0, pt_ge0, pt_m1lt0, pt_m1ge0, pt_10, pt_01, pt_00, pt_11, pt_m11, pt_0m1, pt_1m1, pt_ib, pt_ib1, pt_hs, pt_so, pt_ofNat, pt_si, pt_sin, pt_si1, pt_si2, pt_sl, pt_sln, pt_sl0, pt_sl2, pt_sr, pt_srn, pt_sr0, pt_sr1, if_true, if_false, ite_true, ite_false, not_true_eq_false, not_false_eq_true, if_pos, if_neg]; exact (c z hz).1
  · simp (disch := omega) only [pt_lt_, pt_clsome, pt_ck, pt_ckL, pt_cl, pt_clL, pt_cz0, pt_cz1, pt_czi, pt_add, pt_addL, pt_Ladd, pt_mul, pt_mulL, pt_Lmul, pt_sub, pt_subL, pt_Lsub, pt_rem, pt_le, pt_leL, pt_Lle, pt_lt, pt_ltL, pt_Llt, pt_eq, pt_eqL, pt_Leq, pt_m1, pt_lt0, pt_ge0, pt_m1lt0, pt_m1ge0, pt_10, pt_01, pt_00, pt_11, pt_m11, pt_0m1, pt_1m1, pt_ib, pt_ib1, pt_hs, pt_so, pt_ofNat, pt_si, pt_sin, pt_si1, pt_si2, pt_sl, pt_sln, pt_sl0, pt_sl2, pt_sr, pt_srn, pt_sr0, pt_sr1, if_true, if_false, ite_true, ite_false, not_true_eq_false, not_false_eq_true, if_pos, if_neg]; exact (c z hz).2.1
  · simp (disch := omega) only [pt_lt_, pt_clsome, pt_ck, pt_ckL, pt_cl, pt_clL, pt_cz0, pt_cz1, pt_czi, pt_add, pt_addL, pt_Ladd, pt_mul, pt_mulL, pt_Lmul, pt_sub, pt_subL, pt_Lsub, pt_rem, pt_le, pt_leL, pt_Lle, pt_lt, pt_ltL, pt_Llt, pt_eq, pt_eqL, pt_Leq, pt_m1, pt_lt0, pt_ge0, pt_m1lt0, pt_m1ge0, pt_10, pt_01, pt_00, pt_11, pt_m11, pt_0m1, pt_1m1, pt_ib, pt_ib1, pt_hs, pt_so, pt_ofNat, pt_si, pt_sin, pt_si1, pt_si2, pt_sl, pt_sln, pt_sl0, pt_sl2, pt_sr, pt_srn, pt_sr0, pt_sr1, if_true, if_false, ite_true, ite_false, not_true_eq_false, not_false_eq_true, if_pos, if_neg]; exact d1 z hz
  · simp (disch := omega) only [pt_lt_, pt_clsome, pt_ck, pt_ckL, pt_cl, pt_clL, pt_cz0, pt_cz1, pt_czi, pt_add, pt_addL, pt_Ladd, pt_mul, pt_mulL, pt_Lmul, pt_sub, pt_subL, pt_Lsub, pt_rem, pt_le, pt_leL, pt_Lle, pt_lt, pt_ltL, pt_Llt, pt_eq, pt_eqL, pt_Leq, pt_m1, pt_lt0, pt_ge0, pt_m1lt0, pt_m1ge0, pt_10, pt_01, pt_00, pt_11, pt_m11, pt_0m1, pt_1m1, pt_ib, pt_ib1, pt_hs, pt_so, pt_ofNat, pt_si, pt_sin, pt_si1, pt_si2, pt_sl, pt_sln, pt_sl0, pt_sl2, pt_sr, pt_srn, pt_sr0, pt_sr1, if_true, if_false, ite_true, ite_false, not_true_eq_false, not_false_eq_true, if_pos, if_neg]; exact e z k hz hk
  · simp (disch := omega) only [pt_lt_, pt_clsome, pt_ck, pt_ckL, pt_cl, pt_clL, pt_cz0, pt_cz1, pt_czi, pt_add, pt_addL, pt_Ladd, pt_mul, pt_mulL, pt_Lmul, pt_sub, pt_subL, pt_Lsub, pt_rem, pt_le, pt_leL, pt_Lle, pt_lt, pt_ltL, pt_Llt, pt_eq, pt_eqL, pt_Leq, pt_m1, pt_lt0, pt_ge0, pt_m1lt0, pt_m1ge0, pt_10, pt_01, pt_00, pt_11, pt_m11, pt_0m1, pt_1m1, pt_ib, pt_ib1, pt_hs, pt_so, pt_ofNat, pt_si, pt_sin, pt_si1, pt_si2, pt_sl, pt_sln, pt_sl0, pt_sl2, pt_sr, pt_srn, pt_sr0, pt_sr1, if_true, if_false, ite_true, ite_false, not_true_eq_false, not_false_eq_true, if_pos, if_neg]; exact f1 q hq
  · by_cases hkw : k = w
    · subst hkw
      simp (disch := omega) only [pt_lt_, pt_clsome, pt_ck, pt_ckL, pt_cl, pt_clL, pt_cz0, pt_cz1, pt_czi, pt_add, pt_addL, pt_Ladd, pt_mul, pt_mulL, pt_Lmul, pt_sub, pt_subL, pt_Lsub, pt_rem, pt_le, pt_leL, pt_Lle, pt_lt, pt_ltL, pt_Llt, pt_eq, pt_eqL, pt_Leq, pt_m1, pt_lt0, pt_ge0, pt_m1lt0, pt_m1ge0, pt_10, pt_01, pt_00, pt_11, pt_m11, pt_0m1, pt_1m1, pt_ib, pt_ib1, pt_hs, pt_so, pt_ofNat, pt_si, pt_sin, pt_si1, pt_si2, pt_sl, pt_sln, pt_sl0, pt_sl2, pt_sr, pt_srn, pt_sr0, pt_sr1, if_true, if_false, ite_true, ite_false, not_true_eq_false, not_false_eq_true, if_pos, if_neg]
      exact ⟨dy, d, f, y, a3, hd, hf, hy, rfl, rfl, rfl, rfl, rfl⟩
    · simp (disch := omega) only [pt_lt_, pt_clsome, pt_ck, pt_ckL, pt_cl, pt_clL, pt_cz0, pt_cz1, pt_czi, pt_add, pt_addL, pt_Ladd, pt_mul, pt_mulL, pt_Lmul, pt_sub, pt_subL, pt_Lsub, pt_rem, pt_le, pt_leL, pt_Lle, pt_lt, pt_ltL, pt_Llt, pt_eq, pt_eqL, pt_Leq, pt_m1, pt_lt0, pt_ge0, pt_m1lt0, pt_m1ge0, pt_10, pt_01, pt_00, pt_11, pt_m11, pt_0m1, pt_1m1, pt_ib, pt_ib1, pt_hs, pt_so, pt_ofNat, pt_si, pt_sin, pt_si1, pt_si2, pt_sl, pt_sln, pt_sl0, pt_sl2, pt_sr, pt_srn, pt_sr0, pt_sr1, if_true, if_false, ite_true, ite_false, not_true_eq_false, not_false_eq_true, if_pos, if_neg]
      exact g k (by omega)
  · exact ⟨fun j9 i9 q9 => by dsimp only at q9; exact ⟨by first | rfl | (simp (disch := omega) only [pt_sin, pt_si1, pt_si2, pt_sln, pt_sl0, pt_sl2, pt_scn, pt_sc1]), by first | rfl | (simp (disch := omega) only [pt_sin, pt_si1, pt_si2, pt_sln, pt_sl0, pt_sl2, pt_scn, pt_sc1])⟩, rfl⟩
  · exact ⟨fun j9 i9 q9 => by dsimp only at q9; exact ⟨by first | rfl | (simp (disch := omega) only [pt_sin, pt_si1, pt_si2, pt_sln, pt_sl0, pt_sl2, pt_scn, pt_sc1]), by first | rfl | (simp (disch := omega) only [pt_sin, pt_si1, pt_si2, pt_sln, pt_sl0, pt_sl2, pt_scn, pt_sc1])⟩, rfl⟩
/-! a line that goes -/
theorem px_strike {F r d n : Nat} {κ : kp_K} (hd : d < 4) (h7 : n ≤ 7) (h1 : 1 ≤ n) (hn : κ.1 (14 + 14 * r) d = nI n) : ∀ m v, v + m = 7 * d + n - 1 → 7 * d ≤ v → ∀ f, m < f → ∀ κ : kp_K, κ.1 (14 + 14 * r) d = nI n → ∃ κ', bX5_strike_7 F r f κ (nI d) (nI v) = some κ' ∧ κ'.1 (14 + 14 * r) d = nI (n - 1) ∧ (∀ c, 18 + 14 * r ≤ c → c ≤ 20 + 14 * r → ∀ j, v ≤ j → j < 7 * d + n - 1 → κ'.1 c j = κ.1 c (j + 1)) ∧ Fr (fun j i => (j = 14 + 14 * r ∧ i = d) ∨ (18 + 14 * r ≤ j ∧ j ≤ 20 + 14 * r ∧ v ≤ i ∧ i < 7 * d + n - 1)) κ κ' := by
  intro m
  induction m with
  | zero =>
    intro v hv hv7 f hf κ hn
    obtain ⟨f, rfl⟩ : ∃ f', f = f' + 1 := ⟨f - 1, by omega⟩
    rw [bX5_strike_7]
    simp (disch := omega) only [pt_lt_, pt_clsome, pt_ck, pt_ckL, pt_cl, pt_clL, pt_cz0, pt_cz1, pt_czi, pt_add, pt_addL, pt_Ladd, pt_mul, pt_mulL, pt_Lmul, pt_sub, pt_subL, pt_Lsub, pt_rem, pt_le, pt_leL, pt_Lle, pt_lt, pt_ltL, pt_Llt, pt_eq, pt_eqL, pt_Leq, pt_m1, pt_lt0, pt_ge0, pt_m1lt0, pt_m1ge0, pt_10, pt_01, pt_00, pt_11, pt_m11, pt_0m1, pt_1m1, pt_ib, pt_ib1, pt_hs, pt_so, pt_ofNat, pt_si, pt_sin, pt_si1, pt_si2, pt_sl, pt_sln, pt_sl0, pt_sl2, pt_sr, pt_srn, pt_sr0, pt_sr1, if_true, if_false, ite_true, ite_false, not_true_eq_false, not_false_eq_true, if_pos, if_neg, hn]
    refine ⟨_, rfl, by simp (disch := omega) only [pt_lt_, pt_clsome, pt_ck, pt_ckL, pt_cl, pt_clL, pt_cz0, pt_cz1, pt_czi, pt_add, pt_addL, pt_Ladd, pt_mul, pt_mulL, pt_Lmul, pt_sub, pt_subL, pt_Lsub, pt_rem, pt_le, pt_leL, pt_Lle, pt_lt, pt_ltL, pt_Llt, pt_eq, pt_eqL, pt_Leq, pt_m1, pt_lt0, pt_ge0, pt_m1lt0, pt_m1ge0, pt_10, pt_01, pt_00, pt_11, pt_m11, pt_0m1, pt_1m1, pt_ib, pt_ib1, pt_hs, pt_so, pt_ofNat, pt_si, pt_sin, pt_si1, pt_si2, pt_sl, pt_sln, pt_sl0, pt_sl2, pt_sr, pt_srn, pt_sr0, pt_sr1, if_true, if_false, ite_true, ite_false, not_true_eq_false, not_false_eq_true, if_pos, if_neg], fun c c1 c2 j j1 j2 => by omega, ?_⟩
    exact ⟨fun j9 i9 q9 => by dsimp only at q9; exact ⟨by first | rfl | (simp (disch := omega) only [pt_sin, pt_si1, pt_si2, pt_sln, pt_sl0, pt_sl2, pt_scn, pt_sc1]), by first | rfl | (simp (disch := omega) only [pt_sin, pt_si1, pt_si2, pt_sln, pt_sl0, pt_sl2, pt_scn, pt_sc1])⟩, rfl⟩
  | succ m ih =>
    intro v hv hv7 f hf κ hn
    obtain ⟨f, rfl⟩ : ∃ f', f = f' + 1 := ⟨f - 1, by omega⟩
    rw [bX5_strike_7]
    simp (disch := omega) only [pt_lt_, pt_clsome, pt_ck, pt_ckL, pt_cl, pt_clL, pt_cz0, pt_cz1, pt_czi, pt_add, pt_addL, pt_Ladd, pt_mul, pt_mulL, pt_Lmul, pt_sub, pt_subL, pt_Lsub, pt_rem, pt_le, pt_leL, pt_Lle, pt_lt, pt_ltL, pt_Llt, pt_eq, pt_eqL, pt_Leq, pt_m1, pt_lt0, pt_ge0, pt_m1lt0, pt_m1ge0, pt_10, pt_01, pt_00, pt_11, pt_m11, pt_0m1, pt_1m1, pt_ib, pt_ib1, pt_hs, pt_so, pt_ofNat, pt_si, pt_sin, pt_si1, pt_si2, pt_sl, pt_sln, pt_sl0, pt_sl2, pt_sr, pt_srn, pt_sr0, pt_sr1, if_true, if_false, ite_true, ite_false, not_true_eq_false, not_false_eq_true, if_pos, if_neg, hn]
    obtain ⟨κ', e1, e2, e3, e4⟩ := ih (v + 1) (by omega) (by omega) f (by omega) (s_i (s_i (s_i κ (18 + 14 * r) v (κ.1 (18 + 14 * r) (v + 1))) (19 + 14 * r) v (κ.1 (19 + 14 * r) (v + 1))) (20 + 14 * r) v (κ.1 (20 + 14 * r) (v + 1))) (by simp (disch := omega) only [pt_lt_, pt_clsome, pt_ck, pt_ckL, pt_cl, pt_clL, pt_cz0, pt_cz1, pt_czi, pt_add, pt_addL, pt_Ladd, pt_mul, pt_mulL, pt_Lmul, pt_sub, pt_subL, pt_Lsub, pt_rem, pt_le, pt_leL, pt_Lle, pt_lt, pt_ltL, pt_Llt, pt_eq, pt_eqL, pt_Leq, pt_m1, pt_lt0, pt_ge0, pt_m1lt0, pt_m1ge0, pt_10, pt_01, pt_00, pt_11, pt_m11, pt_0m1, pt_1m1, pt_ib, pt_ib1, pt_hs, pt_so, pt_ofNat, pt_si, pt_sin, pt_si1, pt_si2, pt_sl, pt_sln, pt_sl0, pt_sl2, pt_sr, pt_srn, pt_sr0, pt_sr1, if_true, if_false, ite_true, ite_false, not_true_eq_false, not_false_eq_true, if_pos, if_neg, hn])
    refine ⟨κ', e1, e2, fun c c1 c2 j j1 j2 => ?_, ?_⟩
    · by_cases hj : j = v
      · subst hj
        rw [(e4.1 c j (by omega)).1]
        rcases (show c = 18 + 14 * r ∨ c = 19 + 14 * r ∨ c = 20 + 14 * r by omega) with rfl | rfl | rfl
        · simp (disch := omega) only [pt_lt_, pt_clsome, pt_ck, pt_ckL, pt_cl, pt_clL, pt_cz0, pt_cz1, pt_czi, pt_add, pt_addL, pt_Ladd, pt_mul, pt_mulL, pt_Lmul, pt_sub, pt_subL, pt_Lsub, pt_rem, pt_le, pt_leL, pt_Lle, pt_lt, pt_ltL, pt_Llt, pt_eq, pt_eqL, pt_Leq, pt_m1, pt_lt0, pt_ge0, pt_m1lt0, pt_m1ge0, pt_10, pt_01, pt_00, pt_11, pt_m11, pt_0m1, pt_1m1, pt_ib, pt_ib1, pt_hs, pt_so, pt_ofNat, pt_si, pt_sin, pt_si1, pt_si2, pt_sl, pt_sln, pt_sl0, pt_sl2, pt_sr, pt_srn, pt_sr0, pt_sr1, if_true, if_false, ite_true, ite_false, not_true_eq_false, not_false_eq_true, if_pos, if_neg]
        · simp (disch := omega) only [pt_lt_, pt_clsome, pt_ck, pt_ckL, pt_cl, pt_clL, pt_cz0, pt_cz1, pt_czi, pt_add, pt_addL, pt_Ladd, pt_mul, pt_mulL, pt_Lmul, pt_sub, pt_subL, pt_Lsub, pt_rem, pt_le, pt_leL, pt_Lle, pt_lt, pt_ltL, pt_Llt, pt_eq, pt_eqL, pt_Leq, pt_m1, pt_lt0, pt_ge0, pt_m1lt0, pt_m1ge0, pt_10, pt_01, pt_00, pt_11, pt_m11, pt_0m1, pt_1m1, pt_ib, pt_ib1, pt_hs, pt_so, pt_ofNat, pt_si, pt_sin, pt_si1, pt_si2, pt_sl, pt_sln, pt_sl0, pt_sl2, pt_sr, pt_srn, pt_sr0, pt_sr1, if_true, if_false, ite_true, ite_false, not_true_eq_false, not_false_eq_true, if_pos, if_neg]
        · simp (disch := omega) only [pt_lt_, pt_clsome, pt_ck, pt_ckL, pt_cl, pt_clL, pt_cz0, pt_cz1, pt_czi, pt_add, pt_addL, pt_Ladd, pt_mul, pt_mulL, pt_Lmul, pt_sub, pt_subL, pt_Lsub, pt_rem, pt_le, pt_leL, pt_Lle, pt_lt, pt_ltL, pt_Llt, pt_eq, pt_eqL, pt_Leq, pt_m1, pt_lt0, pt_ge0, pt_m1lt0, pt_m1ge0, pt_10, pt_01, pt_00, pt_11, pt_m11, pt_0m1, pt_1m1, pt_ib, pt_ib1, pt_hs, pt_so, pt_ofNat, pt_si, pt_sin, pt_si1, pt_si2, pt_sl, pt_sln, pt_sl0, pt_sl2, pt_sr, pt_srn, pt_sr0, pt_sr1, if_true, if_false, ite_true, ite_false, not_true_eq_false, not_false_eq_true, if_pos, if_neg]
      · rw [e3 c c1 c2 j (by omega) j2]
        simp (disch := omega) only [pt_lt_, pt_clsome, pt_ck, pt_ckL, pt_cl, pt_clL, pt_cz0, pt_cz1, pt_czi, pt_add, pt_addL, pt_Ladd, pt_mul, pt_mulL, pt_Lmul, pt_sub, pt_subL, pt_Lsub, pt_rem, pt_le, pt_leL, pt_Lle, pt_lt, pt_ltL, pt_Llt, pt_eq, pt_eqL, pt_Leq, pt_m1, pt_lt0, pt_ge0, pt_m1lt0, pt_m1ge0, pt_10, pt_01, pt_00, pt_11, pt_m11, pt_0m1, pt_1m1, pt_ib, pt_ib1, pt_hs, pt_so, pt_ofNat, pt_si, pt_sin, pt_si1, pt_si2, pt_sl, pt_sln, pt_sl0, pt_sl2, pt_sr, pt_srn, pt_sr0, pt_sr1, if_true, if_false, ite_true, ite_false, not_true_eq_false, not_false_eq_true, if_pos, if_neg]
    · refine Fr.tr ?_ (e4.mono (fun j i q => by omega))
      exact ⟨fun j9 i9 q9 => by dsimp only at q9; exact ⟨by first | rfl | (simp (disch := omega) only [pt_sin, pt_si1, pt_si2, pt_sln, pt_sl0, pt_sl2, pt_scn, pt_sc1]), by first | rfl | (simp (disch := omega) only [pt_sin, pt_si1, pt_si2, pt_sln, pt_sl0, pt_sl2, pt_scn, pt_sc1])⟩, rfl⟩
