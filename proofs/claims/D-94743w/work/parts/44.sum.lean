/-! PURE LAYER: sums: one value for the system's objects and the reference's knots -/
set_option maxRecDepth 100000
def bd (v : Int64) : Prop := -1000000000000 ≤ v.toInt ∧ v.toInt ≤ 1000000000000
def iab (x : Int64) : Int64 := if 0 < x then x else -x
def evB (v : Int64) : Option Int64 := if 1000000000000 < v ∨ v < -1000000000000 then none else some v
def evA (s : Int32) (x y : Int64) : Option Int64 :=
  if s = 42 then (if x ≠ 0 ∧ 1000000000000 / iab x < iab y then none else some (x * y))
  else if s = 43 then evB (x + y)
  else if s = 45 then evB (x - y)
  else if y = 0 then none else some (x / y)
def evC (s x y : Int64) : Int64 := if s = 0 then (if x < y then 1 else 0) else if s = 1 then (if x ≤ y then 1 else 0) else if s = 2 then (if x = y then 1 else 0) else if s = 3 then (if x = y then 0 else 1) else if s = 4 then (if y ≤ x then 1 else 0) else (if y < x then 1 else 0)
def evD (s x y : Int64) : Int64 := if s = 0 then (if x = 0 ∧ y = 0 then 0 else 1) else (if x = 0 ∨ y = 0 then 0 else 1)
def ev1 (nm : Nat → Int64) (q : Nat × Int64) (st : List Int64) : Option (List Int64) :=
  if q.1 = 0 then some (q.2 :: st) else if q.1 = 1 then some (nm q.2.toInt32.toNatClampNeg :: st) else match st with
  | [] => none
  | y :: r1 => if q.1 = 2 then some ((if y = 0 then 1 else 0) :: r1) else match r1 with
    | [] => none
    | x :: r2 => if q.1 = 3 then some (evD q.2 x y :: r2) else if q.1 = 4 then some (evC q.2 x y :: r2) else match evA q.2.toInt32 x y with
      | some v => some (v :: r2)
      | none => none
def evl (nm : Nat → Int64) : List (Nat × Int64) → List Int64 → Option (List Int64)
  | [], st => some st
  | q :: l, st => match ev1 nm q st with
    | some st' => evl nm l st'
    | none => none
/-- a sum's value; none: it fails -/
def evS (nm : Nat → Int64) (l : List (Nat × Int64)) : Option Int64 := match evl nm l [] with
  | some (v :: _) => some v
  | _ => none
theorem sL : (1000000000000 : Int64).toInt = 1000000000000 := by decide +kernel
theorem sM : (-1000000000000 : Int64).toInt = -1000000000000 := by decide +kernel
theorem s0 : (0 : Int64).toInt = 0 := by decide +kernel
theorem s1 : (1 : Int64).toInt = 1 := by decide +kernel
theorem bd_01 {P : Prop} [Decidable P] : bd (if P then 1 else 0) := by
  unfold bd
  split
  · rw [s1]; omega
  · rw [s0]; omega
theorem bd_10 {P : Prop} [Decidable P] : bd (if P then 0 else 1) := by
  unfold bd
  split
  · rw [s0]; omega
  · rw [s1]; omega
theorem iab_toInt {x : Int64} (h : -2000000000000 ≤ x.toInt) : (iab x).toInt = if 0 < x.toInt then x.toInt else -x.toInt := by
  unfold iab
  by_cases q : 0 < x
  · rw [if_pos q]
    rw [Int64.lt_iff_toInt_lt, s0] at q
    rw [if_pos q]
  · rw [if_neg q]
    rw [Int64.lt_iff_toInt_lt, s0] at q
    rw [if_neg q, Int64.toInt_neg]
    exact Int.bmod_eq_of_le (by omega) (by omega)
theorem evB_iab {v : Int64} (h : -2000000000000 ≤ v.toInt) : (lg_cmp (iab v) 1000000000000 ≤ 0) ↔ ¬ (1000000000000 < v ∨ v < -1000000000000) := by
  rw [lg_cmp_le, Int64.le_iff_toInt_le, Int64.lt_iff_toInt_lt, Int64.lt_iff_toInt_lt, sL, sM, iab_toInt h]
  split <;> omega
theorem evB_bd {v z : Int64} (h : evB v = some z) : z = v ∧ bd v := by
  unfold evB at h
  split at h
  · cases h
  · rename_i q
    cases h
    rw [Int64.lt_iff_toInt_lt, Int64.lt_iff_toInt_lt, sL, sM] at q
    exact ⟨rfl, by unfold bd; omega⟩
theorem mul_bd {x y : Int64} (hx : bd x) (hy : bd y) (h : ¬ (x ≠ 0 ∧ 1000000000000 / iab x < iab y)) : bd (x * y) := by
  unfold bd at hx hy ⊢
  by_cases hx0 : x = 0
  · subst hx0
    rw [Int64.zero_mul, s0]
    omega
  · have h2 : ¬ (1000000000000 / iab x < iab y) := fun q => h ⟨hx0, q⟩
    have hxi : ¬ x.toInt = 0 := fun q => hx0 (Int64.toInt_inj.mp (by rw [q, s0]))
    have ex := iab_toInt (x := x) (by omega)
    have ey := iab_toInt (x := y) (by omega)
    have hpos : 0 < (iab x).toInt := by rw [ex]; split <;> omega
    rw [Int64.lt_iff_toInt_lt, lg_ldiv_nonneg (by rw [sL]; omega) hpos, sL] at h2
    have h3 : (iab y).toInt * (iab x).toInt ≤ 1000000000000 := (Int.le_ediv_iff_mul_le hpos).mp (Int.not_lt.mp h2)
    have h4 : x.toInt * y.toInt ≤ 1000000000000 ∧ -1000000000000 ≤ x.toInt * y.toInt := by
      rw [ex, ey] at h3
      have hc : y.toInt * x.toInt = x.toInt * y.toInt := Int.mul_comm _ _
      by_cases px : 0 < x.toInt <;> by_cases py : 0 < y.toInt
      · rw [if_pos px, if_pos py, hc] at h3
        have : 0 < x.toInt * y.toInt := Int.mul_pos px py
        omega
      · rw [if_pos px, if_neg py, Int.neg_mul, hc] at h3
        have : x.toInt * y.toInt ≤ 0 := Int.mul_nonpos_of_nonneg_of_nonpos (by omega) (by omega)
        omega
      · rw [if_neg px, if_pos py, Int.mul_neg, hc] at h3
        have : x.toInt * y.toInt ≤ 0 := Int.mul_nonpos_of_nonpos_of_nonneg (by omega) (by omega)
        omega
      · rw [if_neg px, if_neg py, Int.neg_mul_neg, hc] at h3
        have : 0 ≤ x.toInt * y.toInt := Int.mul_nonneg_of_nonpos_of_nonpos (by omega) (by omega)
        omega
    rw [Jvm.Kit.i64_mul (by omega) (by omega)]
    omega
theorem div_bd {x y : Int64} (hx : bd x) (hy : ¬ y = 0) : bd (x / y) := by
  unfold bd at hx ⊢
  have hyi : ¬ y.toInt = 0 := fun q => hy (Int64.toInt_inj.mp (by rw [q, s0]))
  rw [Int64.toInt_div_of_ne_left x y (fun q => by rw [q] at hx; exact absurd hx (by decide +kernel))]
  have h1 : (x.toInt.tdiv y.toInt).natAbs ≤ x.toInt.natAbs := by
    rw [Int.natAbs_tdiv]
    exact Nat.div_le_self _ _
  omega
theorem evA_bd {s : Int32} {x y z : Int64} (hx : bd x) (hy : bd y) (h : evA s x y = some z) : bd z := by
  unfold evA at h
  split at h
  · split at h
    · cases h
    · rename_i q
      cases h
      exact mul_bd hx hy q
  · split at h
    · have := evB_bd h
      rw [this.1]; exact this.2
    · split at h
      · have := evB_bd h
        rw [this.1]; exact this.2
      · split at h
        · cases h
        · rename_i q
          cases h
          exact div_bd hx q
/-! the system's side -/
def FE (j i : Nat) : Prop := j = 9 ∧ i = 1
theorem px_inBound {κ : kp_K} {v : Int64} (h : -2000000000000 ≤ v.toInt) (he : κ.1 9 1 = 0) : pX3_inBound κ v = match evB v with
  | some z => some (z, s_i κ 9 1 0)
  | none => some (0, s_i κ 9 1 1) := by
  unfold pX3_inBound evB
  rw [if_pos he]
  have e : (if 0 < v then v else -v) = iab v := rfl
  rw [e]
  by_cases q : (1000000000000 < v ∨ v < -1000000000000)
  · rw [if_pos q, if_neg (fun z => (evB_iab h).mp z q)]
    unfold bX3_inBound_19 bX3_inBound_24
    simp (disch := omega) only [pt_lt_, pt_clsome, pt_ck, pt_ckL, pt_cl, pt_clL, pt_cz0, pt_cz1, pt_czi, pt_add, pt_addL, pt_Ladd, pt_mul, pt_mulL, pt_Lmul, pt_sub, pt_subL, pt_Lsub, pt_rem, pt_le, pt_leL, pt_Lle, pt_lt, pt_ltL, pt_Llt, pt_eq, pt_eqL, pt_Leq, pt_m1, pt_lt0, pt_ge0, pt_m1lt0, pt_m1ge0, pt_10, pt_01, pt_00, pt_11, pt_m11, pt_0m1, pt_1m1, pt_ib, pt_ib1, pt_hs, pt_so, pt_ofNat, pt_si, pt_sin, pt_si1, pt_si2, pt_sl, pt_sln, pt_sl0, pt_sl2, pt_sr, pt_srn, pt_sr0, pt_sr1, if_true, if_false, ite_true, ite_false, not_true_eq_false, not_false_eq_true, if_pos, if_neg]
  · rw [if_neg q, if_pos ((evB_iab h).mpr q)]
    unfold bX3_inBound_24
    simp (disch := omega) only [pt_lt_, pt_clsome, pt_ck, pt_ckL, pt_cl, pt_clL, pt_cz0, pt_cz1, pt_czi, pt_add, pt_addL, pt_Ladd, pt_mul, pt_mulL, pt_Lmul, pt_sub, pt_subL, pt_Lsub, pt_rem, pt_le, pt_leL, pt_Lle, pt_lt, pt_ltL, pt_Llt, pt_eq, pt_eqL, pt_Leq, pt_m1, pt_lt0, pt_ge0, pt_m1lt0, pt_m1ge0, pt_10, pt_01, pt_00, pt_11, pt_m11, pt_0m1, pt_1m1, pt_ib, pt_ib1, pt_hs, pt_so, pt_ofNat, pt_si, pt_sin, pt_si1, pt_si2, pt_sl, pt_sln, pt_sl0, pt_sl2, pt_sr, pt_srn, pt_sr0, pt_sr1, if_true, if_false, ite_true, ite_false, not_true_eq_false, not_false_eq_true, if_pos, if_neg]
theorem px_inBoundE {κ : kp_K} {v : Int64} (he : κ.1 9 1 = 1) : pX3_inBound κ v = some (0, s_i κ 9 1 1) := by
  unfold pX3_inBound bX3_inBound_19 bX3_inBound_24
  simp (disch := omega) only [pt_lt_, pt_clsome, pt_ck, pt_ckL, pt_cl, pt_clL, pt_cz0, pt_cz1, pt_czi, pt_add, pt_addL, pt_Ladd, pt_mul, pt_mulL, pt_Lmul, pt_sub, pt_subL, pt_Lsub, pt_rem, pt_le, pt_leL, pt_Lle, pt_lt, pt_ltL, pt_Llt, pt_eq, pt_eqL, pt_Leq, pt_m1, pt_lt0, pt_ge0, pt_m1lt0, pt_m1ge0, pt_10, pt_01, pt_00, pt_11, pt_m11, pt_0m1, pt_1m1, pt_ib, pt_ib1, pt_hs, pt_so, pt_ofNat, pt_si, pt_sin, pt_si1, pt_si2, pt_sl, pt_sln, pt_sl0, pt_sl2, pt_sr, pt_srn, pt_sr0, pt_sr1, if_true, if_false, ite_true, ite_false, not_true_eq_false, not_false_eq_true, if_pos, if_neg, he]
theorem px17 {κ : kp_K} {s : Int32} {x y : Int64} (hs : s = 43 ∨ s = 45 ∨ s = 42 ∨ s = 47) (hx : bd x) (hy : bd y) (he : κ.1 9 1 = 0) : pX17_of s κ x y = match evA s x y with
  | some z => some (z, s_i κ 9 1 0)
  | none => some (0, s_i κ 9 1 1) := by
  have hx' := hx
  have hy' := hy
  unfold bd at hx hy
  have ha : (x + y).toInt = x.toInt + y.toInt := Jvm.Kit.i64_add (by omega) (by omega)
  have hb : (x - y).toInt = x.toInt - y.toInt := Jvm.Kit.i64_sub (by omega) (by omega)
  rcases hs with rfl | rfl | rfl | rfl
  · unfold pX17_of evA
    rw [if_neg (by decide), if_pos rfl, if_neg (by decide), if_pos rfl, px_inBound (by omega) he]
    cases evB (x + y) <;> rfl
  · unfold pX17_of evA
    rw [if_neg (by decide), if_neg (by decide), if_neg (by decide), if_pos rfl, if_neg (by decide), if_neg (by decide), if_pos rfl, px_inBound (by omega) he]
    cases evB (x - y) <;> rfl
  · unfold pX17_of evA
    rw [if_pos rfl, if_pos rfl, if_pos he]
    have ex : (if 0 < x then x else -x) = iab x := rfl
    have ey : (if 0 < y then y else -y) = iab y := rfl
    rw [ex, ey]
    by_cases h0 : x = 0
    · rw [if_pos ((lg_cmp_eq _ _).mpr h0), if_neg (fun q => q.1 h0)]
      unfold bX17_of_89 bX17_of_90
      simp (disch := omega) only [pt_lt_, pt_clsome, pt_ck, pt_ckL, pt_cl, pt_clL, pt_cz0, pt_cz1, pt_czi, pt_add, pt_addL, pt_Ladd, pt_mul, pt_mulL, pt_Lmul, pt_sub, pt_subL, pt_Lsub, pt_rem, pt_le, pt_leL, pt_Lle, pt_lt, pt_ltL, pt_Llt, pt_eq, pt_eqL, pt_Leq, pt_m1, pt_lt0, pt_ge0, pt_m1lt0, pt_m1ge0, pt_10, pt_01, pt_00, pt_11, pt_m11, pt_0m1, pt_1m1, pt_ib, pt_ib1, pt_hs, pt_so, pt_ofNat, pt_si, pt_sin, pt_si1, pt_si2, pt_sl, pt_sln, pt_sl0, pt_sl2, pt_sr, pt_srn, pt_sr0, pt_sr1, if_true, if_false, ite_true, ite_false, not_true_eq_false, not_false_eq_true, if_pos, if_neg]
    · have hxi : ¬ x.toInt = 0 := fun q => h0 (Int64.toInt_inj.mp (by rw [q, s0]))
      have hne : ¬ iab x = 0 := fun q => by
        have := congrArg Int64.toInt q
        rw [iab_toInt (by omega), s0] at this
        split at this <;> omega
      rw [if_neg (fun q => h0 ((lg_cmp_eq _ _).mp q)), pt_cdl hne]
      by_cases q : 1000000000000 / iab x < iab y
      · rw [if_neg (fun z => Int64.not_lt.mpr ((lg_cmp_le _ _).mp z) q), if_pos ⟨h0, q⟩]
        unfold bX17_of_85 bX17_of_90
        simp (disch := omega) only [pt_lt_, pt_clsome, pt_ck, pt_ckL, pt_cl, pt_clL, pt_cz0, pt_cz1, pt_czi, pt_add, pt_addL, pt_Ladd, pt_mul, pt_mulL, pt_Lmul, pt_sub, pt_subL, pt_Lsub, pt_rem, pt_le, pt_leL, pt_Lle, pt_lt, pt_ltL, pt_Llt, pt_eq, pt_eqL, pt_Leq, pt_m1, pt_lt0, pt_ge0, pt_m1lt0, pt_m1ge0, pt_10, pt_01, pt_00, pt_11, pt_m11, pt_0m1, pt_1m1, pt_ib, pt_ib1, pt_hs, pt_so, pt_ofNat, pt_si, pt_sin, pt_si1, pt_si2, pt_sl, pt_sln, pt_sl0, pt_sl2, pt_sr, pt_srn, pt_sr0, pt_sr1, if_true, if_false, ite_true, ite_false, not_true_eq_false, not_false_eq_true, if_pos, if_neg]
      · rw [if_pos ((lg_cmp_le _ _).mpr (Int64.not_lt.mp q)), if_neg (fun z => q z.2)]
        unfold bX17_of_89 bX17_of_90
        simp (disch := omega) only [pt_lt_, pt_clsome, pt_ck, pt_ckL, pt_cl, pt_clL, pt_cz0, pt_cz1, pt_czi, pt_add, pt_addL, pt_Ladd, pt_mul, pt_mulL, pt_Lmul, pt_sub, pt_subL, pt_Lsub, pt_rem, pt_le, pt_leL, pt_Lle, pt_lt, pt_ltL, pt_Llt, pt_eq, pt_eqL, pt_Leq, pt_m1, pt_lt0, pt_ge0, pt_m1lt0, pt_m1ge0, pt_10, pt_01, pt_00, pt_11, pt_m11, pt_0m1, pt_1m1, pt_ib, pt_ib1, pt_hs, pt_so, pt_ofNat, pt_si, pt_sin, pt_si1, pt_si2, pt_sl, pt_sln, pt_sl0, pt_sl2, pt_sr, pt_srn, pt_sr0, pt_sr1, if_true, if_false, ite_true, ite_false, not_true_eq_false, not_false_eq_true, if_pos, if_neg]
  · unfold pX17_of evA
    simp only [show ((47 : Int32) = 42) = False from by decide, show ((47 : Int32) = 43) = False from by decide, show ((47 : Int32) = 44) = False from by decide, show ((47 : Int32) = 45) = False from by decide, if_false]
    rw [if_pos he]
    by_cases h0 : y = 0
    · rw [if_pos ((lg_cmp_eq _ _).mpr h0), if_pos h0]
      unfold bX17_of_124 bX17_of_129
      simp (disch := omega) only [pt_lt_, pt_clsome, pt_ck, pt_ckL, pt_cl, pt_clL, pt_cz0, pt_cz1, pt_czi, pt_add, pt_addL, pt_Ladd, pt_mul, pt_mulL, pt_Lmul, pt_sub, pt_subL, pt_Lsub, pt_rem, pt_le, pt_leL, pt_Lle, pt_lt, pt_ltL, pt_Llt, pt_eq, pt_eqL, pt_Leq, pt_m1, pt_lt0, pt_ge0, pt_m1lt0, pt_m1ge0, pt_10, pt_01, pt_00, pt_11, pt_m11, pt_0m1, pt_1m1, pt_ib, pt_ib1, pt_hs, pt_so, pt_ofNat, pt_si, pt_sin, pt_si1, pt_si2, pt_sl, pt_sln, pt_sl0, pt_sl2, pt_sr, pt_srn, pt_sr0, pt_sr1, if_true, if_false, ite_true, ite_false, not_true_eq_false, not_false_eq_true, if_pos, if_neg]
    · rw [if_neg (fun q => h0 ((lg_cmp_eq _ _).mp q)), if_neg h0]
      unfold bX17_of_129
      simp (disch := omega) only [pt_lt_, pt_clsome, pt_ck, pt_ckL, pt_cl, pt_clL, pt_cz0, pt_cz1, pt_czi, pt_add, pt_addL, pt_Ladd, pt_mul, pt_mulL, pt_Lmul, pt_sub, pt_subL, pt_Lsub, pt_rem, pt_le, pt_leL, pt_Lle, pt_lt, pt_ltL, pt_Llt, pt_eq, pt_eqL, pt_Leq, pt_m1, pt_lt0, pt_ge0, pt_m1lt0, pt_m1ge0, pt_10, pt_01, pt_00, pt_11, pt_m11, pt_0m1, pt_1m1, pt_ib, pt_ib1, pt_hs, pt_so, pt_ofNat, pt_si, pt_sin, pt_si1, pt_si2, pt_sl, pt_sln, pt_sl0, pt_sl2, pt_sr, pt_srn, pt_sr0, pt_sr1, if_true, if_false, ite_true, ite_false, not_true_eq_false, not_false_eq_true, if_pos, if_neg]
      rw [pt_cdl h0]
theorem px17E {κ : kp_K} {s : Int32} {x y : Int64} (hs : s = 43 ∨ s = 45 ∨ s = 42 ∨ s = 47) (he : κ.1 9 1 = 1) : pX17_of s κ x y = some (0, s_i κ 9 1 1) := by
  rcases hs with rfl | rfl | rfl | rfl
  · unfold pX17_of
    rw [if_neg (by decide), if_pos rfl, px_inBoundE he]
    rfl
  · unfold pX17_of
    rw [if_neg (by decide), if_neg (by decide), if_neg (by decide), if_pos rfl, px_inBoundE he]
    rfl
  · unfold pX17_of bX17_of_85 bX17_of_90
    rw [if_pos rfl]
    simp (disch := omega) only [pt_lt_, pt_clsome, pt_ck, pt_ckL, pt_cl, pt_clL, pt_cz0, pt_cz1, pt_czi, pt_add, pt_addL, pt_Ladd, pt_mul, pt_mulL, pt_Lmul, pt_sub, pt_subL, pt_Lsub, pt_rem, pt_le, pt_leL, pt_Lle, pt_lt, pt_ltL, pt_Llt, pt_eq, pt_eqL, pt_Leq, pt_m1, pt_lt0, pt_ge0, pt_m1lt0, pt_m1ge0, pt_10, pt_01, pt_00, pt_11, pt_m11, pt_0m1, pt_1m1, pt_ib, pt_ib1, pt_hs, pt_so, pt_ofNat, pt_si, pt_sin, pt_si1, pt_si2, pt_sl, pt_sln, pt_sl0, pt_sl2, pt_sr, pt_srn, pt_sr0, pt_sr1, if_true, if_false, ite_true, ite_false, not_true_eq_false, not_false_eq_true, if_pos, if_neg, he]
  · unfold pX17_of bX17_of_124 bX17_of_129
    rw [if_neg (by decide), if_neg (by decide), if_neg (by decide), if_neg (by decide)]
    simp (disch := omega) only [pt_lt_, pt_clsome, pt_ck, pt_ckL, pt_cl, pt_clL, pt_cz0, pt_cz1, pt_czi, pt_add, pt_addL, pt_Ladd, pt_mul, pt_mulL, pt_Lmul, pt_sub, pt_subL, pt_Lsub, pt_rem, pt_le, pt_leL, pt_Lle, pt_lt, pt_ltL, pt_Llt, pt_eq, pt_eqL, pt_Leq, pt_m1, pt_lt0, pt_ge0, pt_m1lt0, pt_m1ge0, pt_10, pt_01, pt_00, pt_11, pt_m11, pt_0m1, pt_1m1, pt_ib, pt_ib1, pt_hs, pt_so, pt_ofNat, pt_si, pt_sin, pt_si1, pt_si2, pt_sl, pt_sln, pt_sl0, pt_sl2, pt_sr, pt_srn, pt_sr0, pt_sr1, if_true, if_false, ite_true, ite_false, not_true_eq_false, not_false_eq_true, if_pos, if_neg, he]
theorem px18 {s x y : Int64} (hs : s = 0 ∨ s = 1 ∨ s = 2 ∨ s = 3 ∨ s = 4 ∨ s = 5) : pX18_of s.toInt32 x y = some (evC s x y) := by
  have z0 : (0 : Int64).toInt32 = 0 := by decide +kernel
  have z1 : (1 : Int64).toInt32 = 1 := by decide +kernel
  have z2 : (2 : Int64).toInt32 = 2 := by decide +kernel
  have z3 : (3 : Int64).toInt32 = 3 := by decide +kernel
  have z4 : (4 : Int64).toInt32 = 4 := by decide +kernel
  have z5 : (5 : Int64).toInt32 = 5 := by decide +kernel
  rcases hs with rfl | rfl | rfl | rfl | rfl | rfl
  · rw [z0]
    unfold pX18_of evC bX18_of_126
    simp only [lg_cmp_ge]
    by_cases q : y ≤ x
    · simp [q, Int64.not_lt.mpr q]
    · simp [q, Int64.not_le.mp q]
  · rw [z1]
    unfold pX18_of evC bX18_of_126
    simp only [lg_cmp_gt]
    by_cases q : y < x
    · simp [q, Int64.not_le.mpr q]
    · simp [q, Int64.not_lt.mp q]
  · rw [z2]
    unfold pX18_of evC bX18_of_126
    simp only [lg_cmp_eq]
    by_cases q : x = y <;> simp [q]
  · rw [z3]
    unfold pX18_of evC bX18_of_126
    simp only [lg_cmp_eq]
    by_cases q : x = y <;> simp [q]
  · rw [z4]
    unfold pX18_of evC bX18_of_126
    simp only [lg_cmp_lt]
    by_cases q : x < y
    · simp [q, Int64.not_le.mpr q]
    · simp [q, Int64.not_lt.mp q]
  · rw [z5]
    unfold pX18_of evC bX18_of_126
    simp only [lg_cmp_le]
    by_cases q : x ≤ y
    · simp [q, Int64.not_lt.mpr q]
    · simp [q, Int64.not_le.mp q]
theorem px20 {s x y : Int64} (hs : s = 0 ∨ s = 1) : pX20_of s.toInt32 x y = some (evD s x y) := by
  have z0 : (0 : Int64).toInt32 = 0 := by decide +kernel
  have z1 : (1 : Int64).toInt32 = 1 := by decide +kernel
  rcases hs with rfl | rfl
  · rw [z0]
    unfold pX20_of evD
    simp only [lg_cmp_eq]
    by_cases q : x = 0 <;> by_cases q2 : y = 0 <;> simp [q, q2]
  · rw [z1]
    unfold pX20_of evD
    simp only [lg_cmp_eq]
    by_cases q : x = 0 <;> by_cases q2 : y = 0 <;> simp [q, q2]
/-- what a knot may be -/
def kWf (q : Nat × Int64) : Prop := (q.1 = 0 ∧ bd q.2) ∨ (q.1 = 1 ∧ ∃ k : Nat, k < 6 ∧ q.2 = Int64.ofNat k) ∨ q.1 = 2 ∨ (q.1 = 3 ∧ (q.2 = 0 ∨ q.2 = 1)) ∨ (q.1 = 4 ∧ (q.2 = 0 ∨ q.2 = 1 ∨ q.2 = 2 ∨ q.2 = 3 ∨ q.2 = 4 ∨ q.2 = 5)) ∨ (q.1 = 5 ∧ (q.2.toInt32 = 43 ∨ q.2.toInt32 = 45 ∨ q.2.toInt32 = 42 ∨ q.2.toInt32 = 47))
theorem kEnc.wf {q : Nat × Int64} {a v : Int32} (h : kEnc q a v) : kWf q := by
  unfold kEnc at h
  unfold kWf
  rcases h with ⟨h1, h2, h3, h4, h5⟩ | ⟨h1, h2, k, h3, h4, h5⟩ | ⟨h1, h2, h3⟩ | ⟨h1, h2, h3⟩ | ⟨h1, h2, h3, h4⟩ | ⟨h1, h2, h3, h4⟩
  · refine Or.inl ⟨h1, ?_⟩
    rw [h3]
    unfold bd
    rw [Int32.toInt_toInt64]
    rw [Int32.le_iff_toInt_le] at h4 h5
    rw [show (0 : Int32).toInt = 0 from by decide] at h4
    rw [show (9999 : Int32).toInt = 9999 from by decide] at h5
    omega
  · exact Or.inr (Or.inl ⟨h1, k, h3, h4⟩)
  · exact Or.inr (Or.inr (Or.inl h1))
  · refine Or.inr (Or.inr (Or.inr (Or.inl ⟨h1, ?_⟩)))
    rcases h3 with ⟨h3, -⟩ | ⟨h3, -⟩
    · exact Or.inr h3
    · exact Or.inl h3
  · exact Or.inr (Or.inr (Or.inr (Or.inr (Or.inl ⟨h1, h3⟩))))
  · refine Or.inr (Or.inr (Or.inr (Or.inr (Or.inr ⟨h1, ?_⟩))))
    rw [h4, Int32.toInt32_toInt64]
    exact h3
theorem k_name {k : Nat} (hk : k < 6) : (Int64.ofNat k).toInt32.toNatClampNeg = k := by
  rw [show Int64.ofNat k = lN k from rfl, lN_i, pt_cl (by omega)]
theorem k_name2 {k : Nat} (hk : k < 6) : (Int32.ofNat k).toNatClampNeg = k := pt_cl (n := k) (by omega)
theorem all_cons {P : Int64 → Prop} {x : Int64} {l : List Int64} (hx : P x) (hl : ∀ v ∈ l, P v) : ∀ v ∈ x :: l, P v := fun v hv => by
  rcases List.mem_cons.mp hv with e | h
  · rw [e]; exact hx
  · exact hl v h
theorem jn_step {nm : Nat → Int64} {q : Nat × Int64} {st : List Int64} {κ : kp_K} (hq : kWf q) (he : κ.1 9 1 = 0) (hn : ∀ k, k < 6 → κ.2.1 10 k = nm k) (hnb : ∀ k, k < 6 → bd (nm k)) (hst : ∀ v ∈ st, bd v) (hh : (q.1 = 2 → 1 ≤ st.length) ∧ (3 ≤ q.1 → 2 ≤ st.length)) :
    (∃ st' κ', ev1 nm q st = some st' ∧ jn_1 0 q (st, κ) = some (st', κ') ∧ κ'.1 9 1 = 0 ∧ Fr FE κ κ' ∧ (∀ v ∈ st', bd v) ∧ hgt [q] st.length = some st'.length) ∨
    (∃ st' κ', ev1 nm q st = none ∧ jn_1 0 q (st, κ) = some (st', κ') ∧ κ'.1 9 1 = 1 ∧ Fr FE κ κ' ∧ hgt [q] st.length = some st'.length) := by
  obtain ⟨a, v⟩ := q
  dsimp only at hh
  rcases hq with ⟨h1, h2⟩ | ⟨h1, k, h2, h3⟩ | h1 | ⟨h1, h2⟩ | ⟨h1, h2⟩ | ⟨h1, h2⟩ <;> dsimp only at * <;> subst h1
  · exact Or.inl ⟨v :: st, κ, rfl, rfl, he, Fr.rf, all_cons h2 hst, rfl⟩
  · subst h3
    refine Or.inl ⟨nm k :: st, κ, ?_, ?_, he, Fr.rf, all_cons (hnb k h2) hst, rfl⟩
    · simp [ev1, k_name2 h2]
    · simp [jn_1, k_name2 h2, hn k h2]
  · obtain ⟨y, r1, rfl⟩ : ∃ y r1, st = y :: r1 := by
      cases st with
      | nil => exact absurd (hh.1 rfl) (by simp)
      | cons y r1 => exact ⟨y, r1, rfl⟩
    refine Or.inl ⟨(if y = 0 then 1 else 0) :: r1, κ, rfl, ?_, he, Fr.rf, all_cons bd_01 (fun v hv => hst v (List.mem_cons_of_mem _ hv)), rfl⟩
    simp [jn_1, lg_cmp_eq]
  all_goals
    obtain ⟨y, x, r2, rfl⟩ : ∃ y x r2, st = y :: x :: r2 := by
      cases st with
      | nil => exact absurd (hh.2 (by omega)) (by simp)
      | cons y r1 =>
        cases r1 with
        | nil => exact absurd (hh.2 (by omega)) (by simp)
        | cons x r2 => exact ⟨y, x, r2, rfl⟩
    have hy : bd y := hst y (by simp)
    have hx : bd x := hst x (by simp)
    have hr : ∀ v ∈ r2, bd v := fun v hv => hst v (by simp [hv])
  · refine Or.inl ⟨evD v x y :: r2, κ, rfl, ?_, he, Fr.rf, all_cons ?_ hr, rfl⟩
    · simp [jn_1, px20 h2]
    · unfold evD
      split
      · exact bd_10
      · exact bd_10
  · refine Or.inl ⟨evC v x y :: r2, κ, rfl, ?_, he, Fr.rf, all_cons ?_ hr, rfl⟩
    · simp [jn_1, px18 h2]
    · unfold evC
      split
      · exact bd_01
      · split
        · exact bd_01
        · split
          · exact bd_01
          · split
            · exact bd_10
            · split
              · exact bd_01
              · exact bd_01
  · have hp := px17 (κ := κ) h2 hx hy he
    cases hz : evA v.toInt32 x y with
    | some z =>
      rw [hz] at hp
      refine Or.inl ⟨z :: r2, s_i κ 9 1 0, by simp [ev1, hz], by simp [jn_1, hp], pt_si ⟨rfl, rfl⟩, Fr.si ⟨rfl, rfl⟩, all_cons (evA_bd hx hy hz) hr, rfl⟩
    | none =>
      rw [hz] at hp
      refine Or.inr ⟨0 :: r2, s_i κ 9 1 1, by simp [ev1, hz], by simp [jn_1, hp], pt_si ⟨rfl, rfl⟩, Fr.si ⟨rfl, rfl⟩, rfl⟩
theorem jn_stepE {q : Nat × Int64} {st : List Int64} {κ : kp_K} (hq : kWf q) (he : κ.1 9 1 = 1) (hh : (q.1 = 2 → 1 ≤ st.length) ∧ (3 ≤ q.1 → 2 ≤ st.length)) :
    ∃ st' κ', jn_1 0 q (st, κ) = some (st', κ') ∧ κ'.1 9 1 = 1 ∧ Fr FE κ κ' ∧ hgt [q] st.length = some st'.length := by
  obtain ⟨a, v⟩ := q
  dsimp only at hh
  rcases hq with ⟨h1, h2⟩ | ⟨h1, k, h2, h3⟩ | h1 | ⟨h1, h2⟩ | ⟨h1, h2⟩ | ⟨h1, h2⟩ <;> dsimp only at * <;> subst h1
  · exact ⟨v :: st, κ, rfl, he, Fr.rf, rfl⟩
  · exact ⟨_, κ, rfl, he, Fr.rf, rfl⟩
  · obtain ⟨y, r1, rfl⟩ : ∃ y r1, st = y :: r1 := by
      cases st with
      | nil => exact absurd (hh.1 rfl) (by simp)
      | cons y r1 => exact ⟨y, r1, rfl⟩
    exact ⟨_, κ, rfl, he, Fr.rf, rfl⟩
  all_goals
    obtain ⟨y, x, r2, rfl⟩ : ∃ y x r2, st = y :: x :: r2 := by
      cases st with
      | nil => exact absurd (hh.2 (by omega)) (by simp)
      | cons y r1 =>
        cases r1 with
        | nil => exact absurd (hh.2 (by omega)) (by simp)
        | cons x r2 => exact ⟨y, x, r2, rfl⟩
  · exact ⟨evD v x y :: r2, κ, by simp [jn_1, px20 h2], he, Fr.rf, rfl⟩
  · exact ⟨evC v x y :: r2, κ, by simp [jn_1, px18 h2], he, Fr.rf, rfl⟩
  · exact ⟨0 :: r2, s_i κ 9 1 1, by simp [jn_1, px17E h2 he], pt_si ⟨rfl, rfl⟩, Fr.si ⟨rfl, rfl⟩, rfl⟩
theorem hgt_cons {q : Nat × Int64} {l : List (Nat × Int64)} {h r : Nat} (e : hgt (q :: l) h = some r) : (q.1 = 2 → 1 ≤ h) ∧ (3 ≤ q.1 → 2 ≤ h) ∧ ∀ h', hgt [q] h = some h' → hgt l h' = some r := by
  simp only [hgt] at e ⊢
  refine ⟨fun q2 => ?_, fun q3 => ?_, fun h' e' => ?_⟩
  · rw [if_neg (by omega), if_pos q2] at e
    split at e
    · assumption
    · cases e
  · rw [if_neg (by omega), if_neg (by omega)] at e
    split at e
    · assumption
    · cases e
  · split at e
    · rename_i c
      rw [if_pos c] at e'
      cases e'
      exact e
    · rename_i c
      rw [if_neg c] at e'
      split at e
      · rename_i c2
        rw [if_pos c2] at e'
        split at e
        · rename_i c3
          rw [if_pos c3] at e'
          cases e'
          exact e
        · cases e
      · rename_i c2
        rw [if_neg c2] at e'
        split at e
        · rename_i c3
          rw [if_pos c3] at e'
          cases e'
          exact e
        · cases e
theorem jn_goE : ∀ (l : List (Nat × Int64)) (st : List Int64) (κ : kp_K) (r : Nat), (∀ q ∈ l, kWf q) → κ.1 9 1 = 1 → hgt l st.length = some r → ∃ st' κ', jn_go l (st, κ) = some (st', κ') ∧ κ'.1 9 1 = 1 ∧ Fr FE κ κ' ∧ st'.length = r := by
  intro l
  induction l with
  | nil =>
    intro st κ r _ he hr
    exact ⟨st, κ, rfl, he, Fr.rf, Option.some.inj hr⟩
  | cons q l ih =>
    intro st κ r hw he hr
    obtain ⟨g1, g2, g3⟩ := hgt_cons hr
    obtain ⟨st1, κ1, e1, e2, e3, e4⟩ := jn_stepE (st := st) (hw q (by simp)) he ⟨g1, g2⟩
    obtain ⟨st2, κ2, f1, f2, f3, f4⟩ := ih st1 κ1 r (fun z hz => hw z (by simp [hz])) e2 (g3 _ e4)
    exact ⟨st2, κ2, by simp [jn_go, e1, f1], f2, e3.tr f3, f4⟩
theorem jn_goV (nm : Nat → Int64) (hnb : ∀ k, k < 6 → bd (nm k)) : ∀ (l : List (Nat × Int64)) (st : List Int64) (κ : kp_K) (r : Nat), (∀ q ∈ l, kWf q) → κ.1 9 1 = 0 → (∀ k, k < 6 → κ.2.1 10 k = nm k) → (∀ v ∈ st, bd v) → hgt l st.length = some r →
    (∃ st' κ', evl nm l st = some st' ∧ jn_go l (st, κ) = some (st', κ') ∧ κ'.1 9 1 = 0 ∧ Fr FE κ κ' ∧ st'.length = r ∧ ∀ v ∈ st', bd v) ∨
    (∃ st' κ', evl nm l st = none ∧ jn_go l (st, κ) = some (st', κ') ∧ κ'.1 9 1 = 1 ∧ Fr FE κ κ' ∧ st'.length = r) := by
  intro l
  induction l with
  | nil =>
    intro st κ r _ he _ hb hr
    exact Or.inl ⟨st, κ, rfl, rfl, he, Fr.rf, Option.some.inj hr, hb⟩
  | cons q l ih =>
    intro st κ r hw he hn hb hr
    obtain ⟨g1, g2, g3⟩ := hgt_cons hr
    rcases jn_step (st := st) (hw q (by simp)) he hn hnb hb ⟨g1, g2⟩ with ⟨st1, κ1, e0, e1, e2, e3, e4, e5⟩ | ⟨st1, κ1, e0, e1, e2, e3, e4⟩
    · rcases ih st1 κ1 r (fun z hz => hw z (by simp [hz])) e2 (fun k hk => by rw [(e3.1 10 k (by unfold FE; omega)).2]; exact hn k hk) e4 (g3 _ e5) with ⟨st2, κ2, f0, f1, f2, f3, f4, f5⟩ | ⟨st2, κ2, f0, f1, f2, f3, f4⟩
      · exact Or.inl ⟨st2, κ2, by simp [evl, e0, f0], by simp [jn_go, e1, f1], f2, e3.tr f3, f4, f5⟩
      · exact Or.inr ⟨st2, κ2, by simp [evl, e0, f0], by simp [jn_go, e1, f1], f2, e3.tr f3, f4⟩
    · obtain ⟨st2, κ2, f1, f2, f3, f4⟩ := jn_goE l st1 κ1 r (fun z hz => hw z (by simp [hz])) e2 (g3 _ e4)
      exact Or.inr ⟨st2, κ2, by simp [evl, e0], by simp [jn_go, e1, f1], f2, e3.tr f3, f4⟩
/-- a sum's value, of the system -/
theorem jn_valV {hu : hd_T} {a : Nat} {κ : kp_K} {nm : Nat → Int64} (hw : ∀ q ∈ hu.2.2.2.2.2 a, kWf q) (hg : hgt (hu.2.2.2.2.2 a) 0 = some 1) (he : κ.1 9 1 = 0) (hn : ∀ k, k < 6 → κ.2.1 10 k = nm k) (hnb : ∀ k, k < 6 → bd (nm k)) :
    ∃ v κ', jn_val hu a κ = some (v, κ') ∧ Fr FE κ κ' ∧ ((evS nm (hu.2.2.2.2.2 a) = some v ∧ κ'.1 9 1 = 0) ∨ (evS nm (hu.2.2.2.2.2 a) = none ∧ κ'.1 9 1 = 1)) := by
  unfold jn_val evS
  generalize hu.2.2.2.2.2 a = l at hw hg
  cases l with
  | nil => cases hg
  | cons q l =>
    rcases jn_goV nm hnb (q :: l) [] κ 1 hw he hn (fun _ h => nomatch h) hg with ⟨st, κ', e0, e1, e2, e3, e4, e5⟩ | ⟨st, κ', e0, e1, e2, e3, e4⟩
    · match st, e4 with
      | [v], _ => exact ⟨v, κ', by simp only [e1], e3, Or.inl ⟨by simp only [e0], e2⟩⟩
    · match st, e4 with
      | [v], _ => exact ⟨v, κ', by simp only [e1], e3, Or.inr ⟨by simp only [e0], e2⟩⟩
