/-! PURE LAYER: what holds between two calls, on both sides -/
set_option maxRecDepth 100000
/-- a run's cells, place by place -/
theorem RR.same2 {hu : hd_T} {r dy : Nat} {mn : Nat → Nat} {w B : Nat} {κx κm κx' κm' : kp_K} (h : RR hu r dy mn w B κx κm) (hB : B ≤ 600) (gx : ∀ j i, 13 + 14 * r ≤ j → j ≤ 26 + 14 * r → ¬ (j = 17 + 14 * r) → ¬ (21 + 14 * r ≤ j ∧ j ≤ 24 + 14 * r) → ¬ (j = 13 + 14 * r ∧ ¬ i = 1 ∧ ¬ i = 16) → κx'.1 j i = κx.1 j i) (gm : ∀ j i, ((j = 91 ∨ j = 100) ∧ i = r) ∨ ((j = 92 ∨ j = 96 ∨ j = 97) ∧ 4 * r ≤ i ∧ i < 4 * r + 4) ∨ ((j = 93 ∨ j = 94 ∨ j = 95) ∧ 28 * r ≤ i ∧ i < 28 * r + 28) ∨ (j = 99 ∧ 16 * r ≤ i ∧ i < 16 * r + 16) ∨ (101 ≤ j ∧ j ≤ 104 ∧ 640 * r ≤ i ∧ i < 640 * r + 640) → κm'.1 j i = κm.1 j i) : RR hu r dy mn w B κx' κm' := by
  obtain ⟨⟨a1, a2, a3⟩, ⟨b1, b2⟩, c, d1, e, f1, g, hs⟩ := h
  refine ⟨⟨?_, ?_, a3⟩, ⟨?_, ?_⟩, fun z hz => ?_, fun y hz => ?_, fun z i hz hi => ?_, fun i hi => ?_, fun i hi => ?_, hs⟩
  · rw [gx _ _ (by omega) (by omega) (by omega) (by omega) (by omega)]; exact a1
  · rw [gm _ _ (by omega)]; exact a2
  · rw [gx _ _ (by omega) (by omega) (by omega) (by omega) (by omega)]; exact b1
  · rw [gm _ _ (by omega)]; exact b2
  · rw [gx _ _ (by omega) (by omega) (by omega) (by omega) (by omega), gm _ _ (by omega)]; exact c z hz
  · rw [gx _ _ (by omega) (by omega) (by omega) (by omega) (by omega), gx _ _ (by omega) (by omega) (by omega) (by omega) (by omega), gm _ _ (by omega), gm _ _ (by omega)]; exact d1 y hz
  · have h7 := (c z hz).2.2
    rw [gx _ _ (by omega) (by omega) (by omega) (by omega) (by omega), gx _ _ (by omega) (by omega) (by omega) (by omega) (by omega), gx _ _ (by omega) (by omega) (by omega) (by omega) (by omega), gm _ _ (by omega), gm _ _ (by omega), gm _ _ (by omega)]; exact e z i hz hi
  · rw [gx _ _ (by omega) (by omega) (by omega) (by omega) (by omega), gm _ _ (by omega)]; exact f1 i hi
  · rw [gx _ _ (by omega) (by omega) (by omega) (by omega) (by omega), gm _ _ (by omega), gm _ _ (by omega), gm _ _ (by omega), gm _ _ (by omega)]; exact g i hi
/-- a run that stands -/
def IR (hu : hd_T) (r : Nat) (κx κm : kp_K) : Prop := ∃ (dy : Nat) (mn : Nat → Nat) (w : Nat), RR hu r dy mn w (Bd hu dy) κx κm
/-- what was heard -/
def IH (hu : hd_T) (κx κm : kp_K) : Prop :=
  ∃ n : Nat, n ≤ 24 ∧ κx.1 0 25 = nI n ∧ κm.1 66 71 = nI n ∧ κx.1 0 26 = κm.1 66 72 ∧ (κm.1 66 72 = -1 ∨ ∃ s : Nat, s ≤ n ∧ κm.1 66 72 = nI s) ∧
  ∀ k, k < n → κx.1 63 k = κm.1 113 k ∧ κx.1 64 k = κm.1 114 k ∧ ((∃ q a : Nat, q < hu.2.1 3 ∧ a ≤ 2 ∧ κm.1 113 k = nI q ∧ κm.1 114 k = nI a) ∨ (κm.1 113 k = -1 ∧ ∃ j : Nat, j < k ∧ κm.1 114 k = nI j))
/-- the plain change -/
def IC (hu : hd_T) (κx : kp_K) : Prop := κx.1 11 1 = 0 ∧ κx.1 11 2 = 0 ∧ κx.1 11 3 = 0 ∧ κx.1 11 4 = 0 ∧ κx.1 11 5 = -1 ∧ κx.1 11 6 = -1 ∧ κx.2.2 11 0 = hu.2.2.1 6
/-- an image, where there is one -/
def II (hu : hd_T) (κx κm : kp_K) : Prop := κx.1 0 27 = κm.1 66 57 ∧ (κm.1 66 57 = 0 ∨ κm.1 66 57 = 1 ∧ κx.2.2 41 0 = some 11 ∧ IR hu 2 κx κm)
def INV (hu : hd_T) (hb : Nat) (κx κm : kp_K) : Prop :=
  TW hu ∧ MT hu κm ∧ κx.2.2 0 4 = some hb ∧ (∃ t, I_tape t κx κm) ∧ (κx.1 0 2 = κm.1 66 33 ∧ κx.1 0 3 = κm.1 66 34) ∧
  (IR hu 0 κx κm ∧ NF 0 κx κm ∧ κx.2.2 13 0 = some 11) ∧ IC hu κx ∧ II hu κx κm ∧ IH hu κx κm
/-- the system's places that nothing rests on between calls -/
def SX (j i : Nat) : Prop := j = 9 ∨ j = 10 ∨ j = 12 ∨ (j = 0 ∧ (i = 11 ∨ i = 18 ∨ i = 19)) ∨ (27 ≤ j ∧ j ≤ 40) ∨ (55 ≤ j ∧ j ≤ 62) ∨ j = 65
/-- the reference's -/
def SM (j i : Nat) : Prop :=
  (j = 66 ∧ (i = 0 ∨ (37 ≤ i ∧ i ≤ 39) ∨ i = 42 ∨ (62 ≤ i ∧ i ≤ 70))) ∨ j = 89 ∨ j = 90 ∨ ((j = 91 ∨ j = 100) ∧ i = 1) ∨ ((j = 92 ∨ j = 96 ∨ j = 97 ∨ j = 98) ∧ 4 ≤ i ∧ i < 8) ∨ j = 98 ∨
  ((j = 93 ∨ j = 94 ∨ j = 95) ∧ 28 ≤ i ∧ i < 56) ∨ (j = 99 ∧ 16 ≤ i ∧ i < 32) ∨ (101 ≤ j ∧ j ≤ 104 ∧ 640 ≤ i ∧ i < 1280) ∨ (105 ≤ j ∧ j ≤ 112) ∨ j = 115
theorem IR.same {hu : hd_T} (hT : TW hu) {r : Nat} (hr : r = 0 ∨ r = 2) {κx κm κx' κm' : kp_K} (h : IR hu r κx κm) (gx : ∀ j i, j < 66 → ¬ SX j i → κx'.1 j i = κx.1 j i) (gm : ∀ j i, 66 ≤ j → ¬ SM j i → κm'.1 j i = κm.1 j i) : IR hu r κx' κm' := by
  obtain ⟨dy, mn, w, h⟩ := h
  have hb := Bd_le hT h.1.2.2
  refine ⟨dy, mn, w, h.same2 (by omega) (fun j i a b _ _ _ => ?_) (fun j i q => ?_)⟩
  · rcases hr with rfl | rfl
    · exact gx j i (by omega) (by unfold SX; omega)
    · exact gx j i (by omega) (by unfold SX; omega)
  · rcases hr with rfl | rfl
    · exact gm j i (by omega) (by unfold SM; omega)
    · exact gm j i (by omega) (by unfold SM; omega)
theorem INV.same {hu : hd_T} {hb : Nat} {κx κm κx' κm' : kp_K} (h : INV hu hb κx κm) (gx : ∀ j i, j < 66 → ¬ SX j i → κx'.1 j i = κx.1 j i) (gr : ∀ j i, j = 0 ∨ j = 13 ∨ j = 41 ∨ j = 11 → κx'.2.2 j i = κx.2.2 j i) (gm : ∀ j i, 66 ≤ j → ¬ SM j i → κm'.1 j i = κm.1 j i) : INV hu hb κx' κm' := by
  obtain ⟨h1, h2, h3, ⟨t, t1, t2, t3, t4⟩, ⟨f1, f2⟩, ⟨r1, ⟨n1, n2⟩, r3⟩, ⟨c1, c2, c3, c4, c5, c6, c7⟩, ⟨i1, i2⟩, ⟨n, q1, q2, q3, q4, q5, q6⟩⟩ := h
  refine ⟨h1, h2.same (fun j i a b => gm j i (by omega) (by unfold SM; omega)), by rw [gr 0 4 (by omega)]; exact h3, ⟨t, ?_, ?_, t3, fun i hi => ?_⟩, ⟨?_, ?_⟩, ⟨r1.same h1 (Or.inl rfl) gx gm, ⟨?_, ?_⟩, by rw [gr 13 0 (by omega)]; exact r3⟩, ⟨?_, ?_, ?_, ?_, ?_, ?_, ?_⟩, ⟨?_, ?_⟩, ⟨n, q1, ?_, ?_, ?_, ?_, fun k hk => ?_⟩⟩
  · rw [gx 0 1 (by omega) (by unfold SX; omega)]; exact t1
  · rw [gm 66 2 (by omega) (by unfold SM; omega)]; exact t2
  · rw [gx 1 i (by omega) (by unfold SX; omega), gm 67 i (by omega) (by unfold SM; omega)]; exact t4 i hi
  · rw [gx 0 2 (by omega) (by unfold SX; omega), gm 66 33 (by omega) (by unfold SM; omega)]; exact f1
  · rw [gx 0 3 (by omega) (by unfold SX; omega), gm 66 34 (by omega) (by unfold SM; omega)]; exact f2
  · rw [gx _ 13 (by omega) (by unfold SX; omega)]; exact n1
  · rw [gm 66 59 (by omega) (by unfold SM; omega)]; exact n2
  · rw [gx 11 1 (by omega) (by unfold SX; omega)]; exact c1
  · rw [gx 11 2 (by omega) (by unfold SX; omega)]; exact c2
  · rw [gx 11 3 (by omega) (by unfold SX; omega)]; exact c3
  · rw [gx 11 4 (by omega) (by unfold SX; omega)]; exact c4
  · rw [gx 11 5 (by omega) (by unfold SX; omega)]; exact c5
  · rw [gx 11 6 (by omega) (by unfold SX; omega)]; exact c6
  · rw [gr 11 0 (by omega)]; exact c7
  · rw [gx 0 27 (by omega) (by unfold SX; omega), gm 66 57 (by omega) (by unfold SM; omega)]; exact i1
  · rw [gm 66 57 (by omega) (by unfold SM; omega), gr 41 0 (by omega)]
    rcases i2 with i2 | ⟨i2, i3, i4⟩
    · exact Or.inl i2
    · exact Or.inr ⟨i2, i3, i4.same h1 (Or.inr rfl) gx gm⟩
  · rw [gx 0 25 (by omega) (by unfold SX; omega)]; exact q2
  · rw [gm 66 71 (by omega) (by unfold SM; omega)]; exact q3
  · rw [gx 0 26 (by omega) (by unfold SX; omega), gm 66 72 (by omega) (by unfold SM; omega)]; exact q4
  · rw [gm 66 72 (by omega) (by unfold SM; omega)]; exact q5
  · rw [gx 63 k (by omega) (by unfold SX; omega), gx 64 k (by omega) (by unfold SX; omega), gm 113 k (by omega) (by unfold SM; omega), gm 114 k (by omega) (by unfold SM; omega)]; exact q6 k hk
/-- the frames of public methods: the system's keeps the reference's cells, and the other way round -/
def XF (κ κ' : kp_K) : Prop := ∀ j i, 66 ≤ j → κ'.1 j i = κ.1 j i ∧ κ'.2.1 j i = κ.2.1 j i
def MF (κ κ' : kp_K) : Prop := (∀ j i, j < 66 → κ'.1 j i = κ.1 j i ∧ κ'.2.1 j i = κ.2.1 j i) ∧ κ'.2.2 = κ.2.2
theorem XF.of {P : Nat → Nat → Prop} {κ κ' : kp_K} (h : Fr P κ κ') (g : ∀ j i, P j i → j < 66) : XF κ κ' := fun j i hj => h.1 j i (fun q => by have := g j i q; omega)
theorem MF.of {P : Nat → Nat → Prop} {κ κ' : kp_K} (h : Fr P κ κ') (g : ∀ j i, P j i → 66 ≤ j) : MF κ κ' := ⟨fun j i hj => h.1 j i (fun q => by have := g j i q; omega), h.2⟩
/-- lock step of a public method: an answer, and all holds again -/
def iLS {A : Type} (hu : hd_T) (hb : Nat) (κx κm : kp_K) (px pm : Option (A × kp_K)) : Prop := ∃ r κx' κm', px = some (r, κx') ∧ pm = some (r, κm') ∧ INV hu hb κx' κm' ∧ XF κx κx' ∧ MF κm κm'
/-- .. of one that only reads on the system's side -/
def iLR {A : Type} (hu : hd_T) (hb : Nat) (κx κm : kp_K) (px : Option A) (pm : Option (A × kp_K)) : Prop := ∃ r κm', px = some r ∧ pm = some (r, κm') ∧ INV hu hb κx κm' ∧ MF κm κm'
theorem MF0 {κ : kp_K} {v : Int32} : MF κ (s_i κ 66 0 v) := ⟨fun j i hj => ⟨pt_sin (by omega), rfl⟩, rfl⟩
theorem INV.th {hu : hd_T} {hb : Nat} {κx κm : kp_K} (h : INV hu hb κx κm) {v : Int32} : INV hu hb κx (s_i κm 66 0 v) := h.same (fun _ _ _ _ => rfl) (fun _ _ _ => rfl) (fun j i a b => pt_sin (fun q => b (by unfold SM; omega)))
/-- numbers below a count -/
theorem below {v : Int32} {n : Nat} (h : 0 ≤ v ∧ v < nI n) (hn : n < 1073741824) : ∃ j, j < n ∧ v = nI j := by
  obtain ⟨j, hj, e⟩ := nI_of (Int32.not_lt.mpr h.1)
  subst e
  rw [pt_lt (by omega) (by omega)] at h
  exact ⟨j, h.2, rfl⟩
theorem isIn_below (v : Int32) {n : Nat} (hn : n < 1073741824) : pX1_isIn v 0 (nI n - 1) = some (if 0 ≤ v ∧ v < nI n then 1 else 0) := by
  rw [px_isIn]
  have e : (v ≤ nI n - 1) = (v < nI n) := by
    have e1 : (nI n - 1).toInt = (n : Int) - 1 := pk_sub_toInt (b := 1) (by omega) (by omega)
    rw [Int32.le_iff_toInt_le, Int32.lt_iff_toInt_lt, e1, pt_toInt (by omega)]
    refine propext ⟨fun h => by omega, fun h => by omega⟩
  simp only [e]
theorem px_isDesk {hb : Nat} {hu : hd_T} {κ : kp_K} (hs : κ.2.2 0 4 = some hb) (h4 : hu.2.1 0 ≤ 4) (v : Int32) : pX1_isDesk hb hu κ v = some (if 0 ≤ v ∧ v < nI (hu.2.1 0) then 1 else 0) := by
  unfold pX1_isDesk pX1_desks
  simp (disch := omega) only [pt_lt_, pt_clsome, pt_ck, pt_ckL, pt_cl, pt_clL, pt_cz0, pt_cz1, pt_czi, pt_add, pt_addL, pt_Ladd, pt_mul, pt_mulL, pt_Lmul, pt_sub, pt_subL, pt_Lsub, pt_rem, pt_le, pt_leL, pt_Lle, pt_lt, pt_ltL, pt_Llt, pt_eq, pt_eqL, pt_Leq, pt_m1, pt_lt0, pt_ge0, pt_m1lt0, pt_m1ge0, pt_10, pt_01, pt_00, pt_11, pt_m11, pt_0m1, pt_1m1, pt_ib, pt_ib1, pt_hs, pt_so, pt_ofNat, pt_si, pt_sin, pt_si1, pt_si2, pt_sl, pt_sln, pt_sl0, pt_sl2, pt_sr, pt_srn, pt_sr0, pt_sr1, if_true, if_false, ite_true, ite_false, not_true_eq_false, not_false_eq_true, if_pos, if_neg, hs, isIn_below v (by omega : hu.2.1 0 < 1073741824)]
theorem px_isFact {hb : Nat} {hu : hd_T} {κ : kp_K} (hs : κ.2.2 0 4 = some hb) (h4 : hu.2.1 1 ≤ 7) (v : Int32) : pX1_isFact hb hu κ v = some (if 0 ≤ v ∧ v < nI (hu.2.1 1) then 1 else 0) := by
  unfold pX1_isFact
  simp (disch := omega) only [pt_lt_, pt_clsome, pt_ck, pt_ckL, pt_cl, pt_clL, pt_cz0, pt_cz1, pt_czi, pt_add, pt_addL, pt_Ladd, pt_mul, pt_mulL, pt_Lmul, pt_sub, pt_subL, pt_Lsub, pt_rem, pt_le, pt_leL, pt_Lle, pt_lt, pt_ltL, pt_Llt, pt_eq, pt_eqL, pt_Leq, pt_m1, pt_lt0, pt_ge0, pt_m1lt0, pt_m1ge0, pt_10, pt_01, pt_00, pt_11, pt_m11, pt_0m1, pt_1m1, pt_ib, pt_ib1, pt_hs, pt_so, pt_ofNat, pt_si, pt_sin, pt_si1, pt_si2, pt_sl, pt_sln, pt_sl0, pt_sl2, pt_sr, pt_srn, pt_sr0, pt_sr1, if_true, if_false, ite_true, ite_false, not_true_eq_false, not_false_eq_true, if_pos, if_neg, hs, isIn_below v (by omega : hu.2.1 1 < 1073741824)]
theorem pm_in3 {v a : Int32} : (if v < 0 then some (0 : Int32) else if a ≤ v then some 0 else some 1) = some (if 0 ≤ v ∧ v < a then 1 else 0) := by
  by_cases h1 : v < 0
  · rw [if_pos h1, if_neg (fun q => Int32.not_le.mpr h1 q.1)]
  · rw [if_neg h1]
    by_cases h2 : a ≤ v
    · rw [if_pos h2, if_neg (fun q => Int32.not_lt.mpr h2 q.2)]
    · rw [if_neg h2, if_pos ⟨Int32.not_lt.mp h1, Int32.not_le.mp h2⟩]
theorem pm_isDesk {hu : hd_T} {κ : kp_K} (hM : MT hu κ) (v : Int32) : pX6_isDesk κ v = some (if 0 ≤ v ∧ v < nI (hu.2.1 0) then 1 else 0) := by
  unfold pX6_isDesk
  simp (disch := omega) only [pt_lt_, pt_clsome, pt_ck, pt_ckL, pt_cl, pt_clL, pt_cz0, pt_cz1, pt_czi, pt_add, pt_addL, pt_Ladd, pt_mul, pt_mulL, pt_Lmul, pt_sub, pt_subL, pt_Lsub, pt_rem, pt_le, pt_leL, pt_Lle, pt_lt, pt_ltL, pt_Llt, pt_eq, pt_eqL, pt_Leq, pt_m1, pt_lt0, pt_ge0, pt_m1lt0, pt_m1ge0, pt_10, pt_01, pt_00, pt_11, pt_m11, pt_0m1, pt_1m1, pt_ib, pt_ib1, pt_hs, pt_so, pt_ofNat, pt_si, pt_sin, pt_si1, pt_si2, pt_sl, pt_sln, pt_sl0, pt_sl2, pt_sr, pt_srn, pt_sr0, pt_sr1, if_true, if_false, ite_true, ite_false, not_true_eq_false, not_false_eq_true, if_pos, if_neg, hM.1 0 (by omega)]
  exact pm_in3
theorem pm_isFact {hu : hd_T} {κ : kp_K} (hM : MT hu κ) (v : Int32) : pX6_isFact κ v = some (if 0 ≤ v ∧ v < nI (hu.2.1 1) then 1 else 0) := by
  unfold pX6_isFact
  simp (disch := omega) only [pt_lt_, pt_clsome, pt_ck, pt_ckL, pt_cl, pt_clL, pt_cz0, pt_cz1, pt_czi, pt_add, pt_addL, pt_Ladd, pt_mul, pt_mulL, pt_Lmul, pt_sub, pt_subL, pt_Lsub, pt_rem, pt_le, pt_leL, pt_Lle, pt_lt, pt_ltL, pt_Llt, pt_eq, pt_eqL, pt_Leq, pt_m1, pt_lt0, pt_ge0, pt_m1lt0, pt_m1ge0, pt_10, pt_01, pt_00, pt_11, pt_m11, pt_0m1, pt_1m1, pt_ib, pt_ib1, pt_hs, pt_so, pt_ofNat, pt_si, pt_sin, pt_si1, pt_si2, pt_sl, pt_sln, pt_sl0, pt_sl2, pt_sr, pt_srn, pt_sr0, pt_sr1, if_true, if_false, ite_true, ite_false, not_true_eq_false, not_false_eq_true, if_pos, if_neg, hM.1 1 (by omega)]
  exact pm_in3
theorem pm_isQuestion {hu : hd_T} {κ : kp_K} (hM : MT hu κ) (v : Int32) : pX6_isQuestion κ v = some (if 0 ≤ v ∧ v < nI (hu.2.1 3) then 1 else 0) := by
  unfold pX6_isQuestion
  simp (disch := omega) only [pt_lt_, pt_clsome, pt_ck, pt_ckL, pt_cl, pt_clL, pt_cz0, pt_cz1, pt_czi, pt_add, pt_addL, pt_Ladd, pt_mul, pt_mulL, pt_Lmul, pt_sub, pt_subL, pt_Lsub, pt_rem, pt_le, pt_leL, pt_Lle, pt_lt, pt_ltL, pt_Llt, pt_eq, pt_eqL, pt_Leq, pt_m1, pt_lt0, pt_ge0, pt_m1lt0, pt_m1ge0, pt_10, pt_01, pt_00, pt_11, pt_m11, pt_0m1, pt_1m1, pt_ib, pt_ib1, pt_hs, pt_so, pt_ofNat, pt_si, pt_sin, pt_si1, pt_si2, pt_sl, pt_sln, pt_sl0, pt_sl2, pt_sr, pt_srn, pt_sr0, pt_sr1, if_true, if_false, ite_true, ite_false, not_true_eq_false, not_false_eq_true, if_pos, if_neg, hM.1 3 (by omega)]
  exact pm_in3
