/-! PURE LAYER: which desks never hear of a fact -/
set_option maxRecDepth 100000
theorem oI_neg {o : Option Nat} (h : ∀ k, o = some k → k < 8) : (0 ≤ oI o) = (o.isSome = true) ∧ (oI o = -1) = (o.isSome = false) ∧ (oI o < 0) = (o.isSome = false) := by
  cases o with
  | none => unfold oI; simp
  | some k =>
    have := h k rfl
    have g : 0 ≤ k := Nat.zero_le k
    unfold oI
    simp (disch := omega) only [pt_lt_, pt_clsome, pt_ck, pt_ckL, pt_cl, pt_clL, pt_cz0, pt_cz1, pt_czi, pt_add, pt_addL, pt_Ladd, pt_mul, pt_mulL, pt_Lmul, pt_sub, pt_subL, pt_Lsub, pt_rem, pt_le, pt_leL, pt_Lle, pt_lt, pt_ltL, pt_Llt, pt_eq, pt_eqL, pt_Leq, pt_m1, pt_lt0, pt_ge0, pt_m1lt0, pt_m1ge0, pt_10, pt_01, pt_00, pt_11, pt_m11, pt_0m1, pt_1m1, pt_ib, pt_ib1, pt_hs, pt_so, pt_ofNat, pt_si, pt_sin, pt_si1, pt_si2, pt_sl, pt_sln, pt_sl0, pt_sl2, pt_sr, pt_srn, pt_sr0, pt_sr1, if_true, if_false, ite_true, ite_false, not_true_eq_false, not_false_eq_true, if_pos, if_neg, g]
    simp
theorem px_walk {F hb : Nat} {hu : hd_T} {κ : kp_K} {x v2 v3 : Int32} {L : Nat → Option Nat} {k14 : kp_K → Int32 → Int32 → Int32 → Option Int32} (hT : TW hu) (hs : κ.2.2 0 4 = some hb) (hL : ∀ d, d < 4 → (∀ k, L d = some k → k < 8) ∧ pX5_lineOf F 0 κ (nI d) x = some (oI (L d))) : ∀ m j, j + m = hu.2.1 0 → ∀ f, m + 1 < f → ∀ d, d < hu.2.1 0 → bX1_ignorant_28 F hb hu k14 f κ x v2 v3 (nI d) (nI j) = if (hit (asA hu) (fun e => (L e).isSome) (m + 1) d).isSome then k14 κ x (v2 ||| 0) (v3 + 1) else k14 κ x (v2 ||| ((1 : Int32) <<< (v3 &&& 31))) (v3 + 1) := by
  have t0 := hT.1.1
  intro m
  induction m with
  | zero =>
    intro j hj f hf d hd
    obtain ⟨f, rfl⟩ : ∃ f', f = f' + 1 := ⟨f - 1, by omega⟩
    obtain ⟨l1, l2⟩ := hL d (by omega)
    obtain ⟨o1, o2, o3⟩ := oI_neg l1
    have hle : hu.2.1 0 ≤ j := by omega
    have n1 : ¬ d < 0 := Nat.not_lt_zero d
    rw [bX1_ignorant_28]
    unfold pX1_desks bX1_ignorant_69
    simp (disch := omega) only [pt_lt_, pt_clsome, pt_ck, pt_ckL, pt_cl, pt_clL, pt_cz0, pt_cz1, pt_czi, pt_add, pt_addL, pt_Ladd, pt_mul, pt_mulL, pt_Lmul, pt_sub, pt_subL, pt_Lsub, pt_rem, pt_le, pt_leL, pt_Lle, pt_lt, pt_ltL, pt_Llt, pt_eq, pt_eqL, pt_Leq, pt_m1, pt_lt0, pt_ge0, pt_m1lt0, pt_m1ge0, pt_10, pt_01, pt_00, pt_11, pt_m11, pt_0m1, pt_1m1, pt_ib, pt_ib1, pt_hs, pt_so, pt_ofNat, pt_si, pt_sin, pt_si1, pt_si2, pt_sl, pt_sln, pt_sl0, pt_sl2, pt_sr, pt_srn, pt_sr0, pt_sr1, if_true, if_false, ite_true, ite_false, not_true_eq_false, not_false_eq_true, hs, hle, n1, l2, o1]
    by_cases hTd : (fun e => (L e).isSome) d = true
    · rw [hit_T hTd, if_pos hTd]
      rfl
    · have hT2 : ¬ (L d).isSome = true := hTd
      rw [if_neg hT2]
      cases ha : asA hu d with
      | none => rw [hit_F hTd ha]; rfl
      | some a => rw [hit_S hTd ha]; rfl
  | succ m ih =>
    intro j hj f hf d hd
    obtain ⟨f, rfl⟩ : ∃ f', f = f' + 1 := ⟨f - 1, by omega⟩
    obtain ⟨l1, l2⟩ := hL d (by omega)
    obtain ⟨o1, o2, o3⟩ := oI_neg l1
    have hle : ¬ hu.2.1 0 ≤ j := by omega
    have n1 : ¬ d < 0 := Nat.not_lt_zero d
    rw [bX1_ignorant_28]
    unfold pX1_desks pX1_asks bX1_ignorant_69
    simp (disch := omega) only [pt_lt_, pt_clsome, pt_ck, pt_ckL, pt_cl, pt_clL, pt_cz0, pt_cz1, pt_czi, pt_add, pt_addL, pt_Ladd, pt_mul, pt_mulL, pt_Lmul, pt_sub, pt_subL, pt_Lsub, pt_rem, pt_le, pt_leL, pt_Lle, pt_lt, pt_ltL, pt_Llt, pt_eq, pt_eqL, pt_Leq, pt_m1, pt_lt0, pt_ge0, pt_m1lt0, pt_m1ge0, pt_10, pt_01, pt_00, pt_11, pt_m11, pt_0m1, pt_1m1, pt_ib, pt_ib1, pt_hs, pt_so, pt_ofNat, pt_si, pt_sin, pt_si1, pt_si2, pt_sl, pt_sln, pt_sl0, pt_sl2, pt_sr, pt_srn, pt_sr0, pt_sr1, if_true, if_false, ite_true, ite_false, not_true_eq_false, not_false_eq_true, hs, hle, n1, l2, o1]
    by_cases hTd : (fun e => (L e).isSome) d = true
    · have hT2 : (L d).isSome = true := hTd
      rw [hit_T hTd, if_pos hT2, if_pos hT2]
      rfl
    · have hT2 : ¬ (L d).isSome = true := hTd
      rw [if_neg hT2]
      rcases asA_of hT hd with ⟨h1, h2⟩ | ⟨a, h1, h2, h3, h4⟩
      · rw [hit_F hTd h1, h2]
        obtain ⟨f, rfl⟩ : ∃ f', f = f' + 1 := ⟨f - 1, by omega⟩
        rw [bX1_ignorant_28]
        unfold pX1_desks bX1_ignorant_69
        simp (disch := omega) only [pt_lt_, pt_clsome, pt_ck, pt_ckL, pt_cl, pt_clL, pt_cz0, pt_cz1, pt_czi, pt_add, pt_addL, pt_Ladd, pt_mul, pt_mulL, pt_Lmul, pt_sub, pt_subL, pt_Lsub, pt_rem, pt_le, pt_leL, pt_Lle, pt_lt, pt_ltL, pt_Llt, pt_eq, pt_eqL, pt_Leq, pt_m1, pt_lt0, pt_ge0, pt_m1lt0, pt_m1ge0, pt_10, pt_01, pt_00, pt_11, pt_m11, pt_0m1, pt_1m1, pt_ib, pt_ib1, pt_hs, pt_so, pt_ofNat, pt_si, pt_sin, pt_si1, pt_si2, pt_sl, pt_sln, pt_sl0, pt_sl2, pt_sr, pt_srn, pt_sr0, pt_sr1, if_true, if_false, ite_true, ite_false, not_true_eq_false, not_false_eq_true, hs]
        rw [ite_self]
        rfl
      · rw [hit_S hTd h3, h4, ih (j + 1) (by omega) f (by omega) a h1]
        cases hit (asA hu) (fun e => (L e).isSome) (m + 1) a with
        | none => rfl
        | some k => rfl
theorem pm_walk {F : Nat} {hu : hd_T} {κ : kp_K} {x v2 v3 : Int32} {L : Nat → Option Nat} {k19 : kp_K → Int32 → Int32 → Int32 → Option (Int32 × kp_K)} (hT : TW hu) (hM : MT hu κ) (hL : ∀ d, d < 4 → (∀ k, L d = some k → k < 8) ∧ pX6_lineOf F κ 0 (nI d) x = some (oI (L d))) : ∀ m j, j + m = 4 → ∀ f, m < f → ∀ (b : Bool) d, d < hu.2.1 0 → bX6_ignorant_38 F k19 f κ x v2 v3 (if b then 1 else 0) (nI d) (nI j) = if (b || (hit (asA hu) (fun e => (L e).isSome) m d).isSome) then k19 κ x (v2 ||| 0) (v3 + 1) else k19 κ x (v2 ||| ((1 : Int32) <<< (v3 &&& 31))) (v3 + 1) := by
  have t0 := hT.1.1
  intro m
  induction m with
  | zero =>
    intro j hj f hf b d hd
    obtain ⟨f, rfl⟩ : ∃ f', f = f' + 1 := ⟨f - 1, by omega⟩
    have hle : 4 ≤ j := by omega
    rw [bX6_ignorant_38]
    unfold bX6_ignorant_87
    simp (disch := omega) only [pt_lt_, pt_clsome, pt_ck, pt_ckL, pt_cl, pt_clL, pt_cz0, pt_cz1, pt_czi, pt_add, pt_addL, pt_Ladd, pt_mul, pt_mulL, pt_Lmul, pt_sub, pt_subL, pt_Lsub, pt_rem, pt_le, pt_leL, pt_Lle, pt_lt, pt_ltL, pt_Llt, pt_eq, pt_eqL, pt_Leq, pt_m1, pt_lt0, pt_ge0, pt_m1lt0, pt_m1ge0, pt_10, pt_01, pt_00, pt_11, pt_m11, pt_0m1, pt_1m1, pt_ib, pt_ib1, pt_hs, pt_so, pt_ofNat, pt_si, pt_sin, pt_si1, pt_si2, pt_sl, pt_sln, pt_sl0, pt_sl2, pt_sr, pt_srn, pt_sr0, pt_sr1, if_true, if_false, ite_true, ite_false, not_true_eq_false, not_false_eq_true, if_pos, if_neg, hle]
    cases b <;> rfl
  | succ m ih =>
    intro j hj f hf b d hd
    obtain ⟨f, rfl⟩ : ∃ f', f = f' + 1 := ⟨f - 1, by omega⟩
    obtain ⟨l1, l2⟩ := hL d (by omega)
    obtain ⟨o1, o2, o3⟩ := oI_neg l1
    have hle : ¬ 4 ≤ j := by omega
    have e71 := (hM.2.2.2.1 d hd).2.2
    have end1 : ∀ b : Bool, bX6_ignorant_38 F k19 f κ x v2 v3 (if b then 1 else 0) (-1) (nI (j + 1)) = if b then k19 κ x (v2 ||| 0) (v3 + 1) else k19 κ x (v2 ||| ((1 : Int32) <<< (v3 &&& 31))) (v3 + 1) := by
      intro b
      obtain ⟨f, rfl⟩ : ∃ f', f = f' + 1 := ⟨f - 1, by omega⟩
      rw [bX6_ignorant_38]
      unfold bX6_ignorant_87
      simp (disch := omega) only [pt_lt_, pt_clsome, pt_ck, pt_ckL, pt_cl, pt_clL, pt_cz0, pt_cz1, pt_czi, pt_add, pt_addL, pt_Ladd, pt_mul, pt_mulL, pt_Lmul, pt_sub, pt_subL, pt_Lsub, pt_rem, pt_le, pt_leL, pt_Lle, pt_lt, pt_ltL, pt_Llt, pt_eq, pt_eqL, pt_Leq, pt_m1, pt_lt0, pt_ge0, pt_m1lt0, pt_m1ge0, pt_10, pt_01, pt_00, pt_11, pt_m11, pt_0m1, pt_1m1, pt_ib, pt_ib1, pt_hs, pt_so, pt_ofNat, pt_si, pt_sin, pt_si1, pt_si2, pt_sl, pt_sln, pt_sl0, pt_sl2, pt_sr, pt_srn, pt_sr0, pt_sr1, if_true, if_false, ite_true, ite_false, not_true_eq_false, not_false_eq_true]
      rw [ite_self]
      cases b <;> rfl
    have or1 : ∀ b : Bool, ((if b then (1 : Int32) else 0) ||| 1) = (if true then 1 else 0) := by intro b; cases b <;> decide
    have or0 : ∀ b : Bool, ((if b then (1 : Int32) else 0) ||| 0) = (if b then 1 else 0) := by intro b; cases b <;> decide
    rw [bX6_ignorant_38]
    unfold bX6_ignorant_69
    simp (disch := omega) only [pt_lt_, pt_clsome, pt_ck, pt_ckL, pt_cl, pt_clL, pt_cz0, pt_cz1, pt_czi, pt_add, pt_addL, pt_Ladd, pt_mul, pt_mulL, pt_Lmul, pt_sub, pt_subL, pt_Lsub, pt_rem, pt_le, pt_leL, pt_Lle, pt_lt, pt_ltL, pt_Llt, pt_eq, pt_eqL, pt_Leq, pt_m1, pt_lt0, pt_ge0, pt_m1lt0, pt_m1ge0, pt_10, pt_01, pt_00, pt_11, pt_m11, pt_0m1, pt_1m1, pt_ib, pt_ib1, pt_hs, pt_so, pt_ofNat, pt_si, pt_sin, pt_si1, pt_si2, pt_sl, pt_sln, pt_sl0, pt_sl2, pt_sr, pt_srn, pt_sr0, pt_sr1, if_false, ite_false, not_true_eq_false, not_false_eq_true, hle, l2, o2, e71]
    by_cases hTd : (fun e => (L e).isSome) d = true
    · have hT2 : ¬ (L d).isSome = false := by
        have : (L d).isSome = true := hTd
        rw [this]
        decide
      rw [hit_T hTd, if_neg hT2, or1]
      rcases asA_of hT hd with ⟨h1, h2⟩ | ⟨a, h1, h2, h3, h4⟩
      · rw [h2, end1]
        cases b <;> rfl
      · rw [h4, ih (j + 1) (by omega) f (by omega) true a h1]
        cases b <;> rfl
    · have hT2 : (L d).isSome = false := by
        cases q : (L d).isSome
        · rfl
        · exact absurd q hTd
      rw [if_pos hT2, or0]
      rcases asA_of hT hd with ⟨h1, h2⟩ | ⟨a, h1, h2, h3, h4⟩
      · rw [h2, end1, hit_F hTd h1]
        cases b <;> rfl
      · rw [h4, ih (j + 1) (by omega) f (by omega) b a h1, hit_S hTd h3]
        cases hit (asA hu) (fun e => (L e).isSome) m a <;> rfl
theorem ign_loop {F hb : Nat} {hu : hd_T} {κx κm : kp_K} {x : Int32} {L : Nat → Option Nat} (hF : 80 ≤ F) (hT : TW hu) (hM : MT hu κm) (hs : κx.2.2 0 4 = some hb) (hX : ∀ d, d < 4 → (∀ k, L d = some k → k < 8) ∧ pX5_lineOf F 0 κx (nI d) x = some (oI (L d))) (hm : ∀ d, d < 4 → (∀ k, L d = some k → k < 8) ∧ pX6_lineOf F κm 0 (nI d) x = some (oI (L d))) : ∀ m i, i + m = hu.2.1 0 → ∀ fx fm, m < fx → m < fm → ∀ v2, ∃ z, bX1_ignorant_14 F hb hu fx κx x v2 (nI i) = some z ∧ bX6_ignorant_19 F fm κm x v2 (nI i) = some (z, κm) := by
  have t0 := hT.1.1
  intro m
  induction m with
  | zero =>
    intro i hi fx fm hfx hfm v2
    obtain ⟨fx, rfl⟩ : ∃ f', fx = f' + 1 := ⟨fx - 1, by omega⟩
    obtain ⟨fm, rfl⟩ : ∃ f', fm = f' + 1 := ⟨fm - 1, by omega⟩
    have hle : hu.2.1 0 ≤ i := by omega
    rw [bX1_ignorant_14, bX6_ignorant_19]
    unfold pX1_desks
    simp (disch := omega) only [pt_lt_, pt_clsome, pt_ck, pt_ckL, pt_cl, pt_clL, pt_cz0, pt_cz1, pt_czi, pt_add, pt_addL, pt_Ladd, pt_mul, pt_mulL, pt_Lmul, pt_sub, pt_subL, pt_Lsub, pt_rem, pt_le, pt_leL, pt_Lle, pt_lt, pt_ltL, pt_Llt, pt_eq, pt_eqL, pt_Leq, pt_m1, pt_lt0, pt_ge0, pt_m1lt0, pt_m1ge0, pt_10, pt_01, pt_00, pt_11, pt_m11, pt_0m1, pt_1m1, pt_ib, pt_ib1, pt_hs, pt_so, pt_ofNat, pt_si, pt_sin, pt_si1, pt_si2, pt_sl, pt_sln, pt_sl0, pt_sl2, pt_sr, pt_srn, pt_sr0, pt_sr1, if_true, if_false, ite_true, ite_false, not_true_eq_false, not_false_eq_true, if_pos, if_neg, hs, hM.1 0 (by omega), hle]
    exact ⟨_, rfl, rfl⟩
  | succ m ih =>
    intro i hi fx fm hfx hfm v2
    obtain ⟨fx, rfl⟩ : ∃ f', fx = f' + 1 := ⟨fx - 1, by omega⟩
    obtain ⟨fm, rfl⟩ : ∃ f', fm = f' + 1 := ⟨fm - 1, by omega⟩
    have hd : i < hu.2.1 0 := by omega
    have hle : ¬ hu.2.1 0 ≤ i := by omega
    rw [bX1_ignorant_14, bX6_ignorant_19]
    unfold pX1_desks
    simp (disch := omega) only [pt_lt_, pt_clsome, pt_ck, pt_ckL, pt_cl, pt_clL, pt_cz0, pt_cz1, pt_czi, pt_add, pt_addL, pt_Ladd, pt_mul, pt_mulL, pt_Lmul, pt_sub, pt_subL, pt_Lsub, pt_rem, pt_le, pt_leL, pt_Lle, pt_lt, pt_ltL, pt_Llt, pt_eq, pt_eqL, pt_Leq, pt_m1, pt_lt0, pt_ge0, pt_m1lt0, pt_m1ge0, pt_10, pt_01, pt_00, pt_11, pt_m11, pt_0m1, pt_1m1, pt_ib, pt_ib1, pt_hs, pt_so, pt_ofNat, pt_si, pt_sin, pt_si1, pt_si2, pt_sl, pt_sln, pt_sl0, pt_sl2, pt_sr, pt_srn, pt_sr0, pt_sr1, if_true, if_false, ite_true, ite_false, not_true_eq_false, not_false_eq_true, if_pos, if_neg, hs, hM.1 0 (by omega), hle]
    have e1 := px_walk (F := F) (x := x) (v2 := v2) (v3 := nI i) (k14 := bX1_ignorant_14 F hb hu fx) hT hs hX (hu.2.1 0) 0 (by omega) F (by omega) i hd
    have e2 := pm_walk (F := F) (x := x) (v2 := v2) (v3 := nI i) (k19 := bX6_ignorant_19 F fm) hT hM hm 4 0 (by omega) F (by omega) false i hd
    have e1' : bX1_ignorant_28 F hb hu (bX1_ignorant_14 F hb hu fx) F κx x v2 (nI i) (nI i) 0 = _ := e1
    have e2' : bX6_ignorant_38 F (bX6_ignorant_19 F fm) F κm x v2 (nI i) 0 (nI i) 0 = _ := e2
    rw [e1', e2', hit_eq t0 (asA_lt hT) hd (by omega : hu.2.1 0 ≤ hu.2.1 0 + 1) t0, Bool.false_or, pt_addL]
    cases (hit (asA hu) (fun e => (L e).isSome) 4 i).isSome with
    | true => exact ih (i + 1) (by omega) fx fm (by omega) (by omega) _
    | false => exact ih (i + 1) (by omega) fx fm (by omega) (by omega) _
/-- the lines of the truth, on both sides -/
theorem tr_lines {F : Nat} {hu : hd_T} {hb : Nat} {κx κm : kp_K} (hF : 80 ≤ F) (I : INV hu hb κx κm) (x : Int32) : ∃ L : Nat → Option Nat, (∀ d, d < 4 → (∀ k, L d = some k → k < 8) ∧ pX5_lineOf F 0 κx (nI d) x = some (oI (L d))) ∧ (∀ d, d < 4 → (∀ k, L d = some k → k < 8) ∧ pX6_lineOf F (s_i κm 66 0 0) 0 (nI d) x = some (oI (L d))) := by
  obtain ⟨-, -, -, -, -, ⟨⟨dy, mn, w, R⟩, -⟩, -⟩ := (I.th (v := 0))
  refine ⟨fun d => fnd (fun j => (s_i κm 66 0 0).1 93 (28 * 0 + 7 * d + j)) x 0 (mn d), fun d hd => ⟨fun k hk => ?_, (rr_lineOf R (by omega) (by omega) hd x).1⟩, fun d hd => ⟨fun k hk => ?_, (rr_lineOf R (by omega) (by omega) hd x).2⟩⟩
  · have := (fnd_some _ _ hk).2.1
    have := (R.2.2.1 d hd).2.2
    omega
  · have := (fnd_some _ _ hk).2.1
    have := (R.2.2.1 d hd).2.2
    omega
theorem ls_ignorant {F : Nat} {hu : hd_T} {hb : Nat} {κx κm : kp_K} (hF : 80 ≤ F) (I : INV hu hb κx κm) (v1 : Int32) : iLR hu hb κx κm (pX1_ignorant F hb hu κx v1) (pX6_ignorant F κm v1) := by
  obtain ⟨hT, hM, hs, -⟩ := id I
  have hM' := (I.th (v := 0)).2.1
  have t0 := hT.1.1
  have done : ∀ z : Int32, iLR hu hb κx κm (some z) (some (z, s_i κm 66 0 0)) := fun z => ⟨_, _, rfl, rfl, I.th, MF0⟩
  unfold pX1_ignorant pX6_ignorant
  simp only [pt_lt_, px_isFact hs hT.1.2.1, pm_isFact hM', pt_clsome, pt_ib, ite_not]
  by_cases h1 : 0 ≤ v1 ∧ v1 < nI (hu.2.1 1)
  · rw [if_pos h1, if_pos h1]
    obtain ⟨L, L1, L2⟩ := tr_lines (F := F) hF I v1
    obtain ⟨z, z1, z2⟩ := ign_loop hF hT hM' hs L1 L2 (hu.2.1 0) 0 (by omega) F F (by omega) (by omega) 0
    have z1' : bX1_ignorant_14 F hb hu F κx v1 0 0 = some z := z1
    have z2' : bX6_ignorant_19 F F (s_i κm 66 0 0) v1 0 0 = some (z, s_i κm 66 0 0) := z2
    rw [z1', z2']
    exact done _
  · rw [if_neg h1, if_neg h1]
    exact done _
