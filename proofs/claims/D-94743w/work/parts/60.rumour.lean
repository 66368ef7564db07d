/-! PURE LAYER: rumours: who asks whom -/
set_option maxRecDepth 100000
/-- steps to the first desk of a kind -/
def hit (A : Nat → Option Nat) (T : Nat → Bool) : Nat → Nat → Option Nat
  | 0, _ => none
  | f + 1, d => if T d then some 0 else match A d with
    | none => none
    | some a => match hit A T f a with
      | none => none
      | some k => some (k + 1)
theorem hit_T {A : Nat → Option Nat} {T : Nat → Bool} {f d : Nat} (h : T d = true) : hit A T (f + 1) d = some 0 := by
  unfold hit
  rw [if_pos h]
theorem hit_F {A : Nat → Option Nat} {T : Nat → Bool} {f d : Nat} (h : ¬ T d = true) (ha : A d = none) : hit A T (f + 1) d = none := by
  unfold hit
  rw [if_neg h, ha]
theorem hit_S {A : Nat → Option Nat} {T : Nat → Bool} {f d a : Nat} (h : ¬ T d = true) (ha : A d = some a) : hit A T (f + 1) d = match hit A T f a with
      | none => none
      | some k => some (k + 1) := by
  rw [hit, if_neg h, ha]
theorem hit_up {A : Nat → Option Nat} {T : Nat → Bool} : ∀ f d k g, hit A T f d = some k → k < g → hit A T g d = some k := by
  intro f
  induction f with
  | zero => intro d k g h; cases h
  | succ f ih =>
    intro d k g h hg
    obtain ⟨g, rfl⟩ : ∃ g', g = g' + 1 := ⟨g - 1, by omega⟩
    by_cases hT : T d = true
    · rw [hit_T hT] at h ⊢
      exact h
    · cases hA : A d with
      | none => rw [hit_F hT hA] at h; cases h
      | some a =>
        rw [hit_S hT hA] at h ⊢
        cases h1 : hit A T f a with
        | none => rw [h1] at h; cases h
        | some k1 =>
          rw [h1] at h
          cases h
          rw [ih a k1 g h1 (by omega)]
theorem hit_det {A : Nat → Option Nat} {T : Nat → Bool} {f f' d k k' : Nat} (h : hit A T f d = some k) (h' : hit A T f' d = some k') : k = k' := by
  have a := hit_up f d k (k + k' + 1) h (by omega)
  have b := hit_up f' d k' (k + k' + 1) h' (by omega)
  rw [a] at b
  exact Option.some.inj b
theorem hit_mid {A : Nat → Option Nat} {T : Nat → Bool} {nd : Nat} (hA : ∀ d a, d < nd → A d = some a → a < nd) : ∀ f d k, d < nd → hit A T f d = some k → ∀ i, i ≤ k → ∃ e f', e < nd ∧ hit A T f' e = some i := by
  intro f
  induction f with
  | zero => intro d k _ h; cases h
  | succ f ih =>
    intro d k hd h i hi
    by_cases hik : i = k
    · subst hik
      exact ⟨d, f + 1, hd, h⟩
    · by_cases hT : T d = true
      · rw [hit_T hT] at h
        cases h
        omega
      · cases ha : A d with
        | none => rw [hit_F hT ha] at h; cases h
        | some a =>
          rw [hit_S hT ha] at h
          cases h1 : hit A T f a with
          | none => rw [h1] at h; cases h
          | some k1 =>
            rw [h1] at h
            cases h
            exact ih a k1 (hA d a hd ha) h1 i (by omega)
theorem pig5 {a b c d e : Nat} (h1 : a < 4) (h2 : b < 4) (h3 : c < 4) (h4 : d < 4) (h5 : e < 4) (q1 : ¬ a = b) (q2 : ¬ a = c) (q3 : ¬ a = d) (q4 : ¬ a = e) (q5 : ¬ b = c) (q6 : ¬ b = d) (q7 : ¬ b = e) (q8 : ¬ c = d) (q9 : ¬ c = e) (q10 : ¬ d = e) : False := by
  have key : ∀ a b c d e : Fin 4, a = b ∨ a = c ∨ a = d ∨ a = e ∨ b = c ∨ b = d ∨ b = e ∨ c = d ∨ c = e ∨ d = e := by decide +kernel
  have := key ⟨a, h1⟩ ⟨b, h2⟩ ⟨c, h3⟩ ⟨d, h4⟩ ⟨e, h5⟩
  simp only [Fin.mk.injEq] at this
  rcases this with h | h | h | h | h | h | h | h | h | h <;> contradiction
theorem hit_lt {A : Nat → Option Nat} {T : Nat → Bool} {nd : Nat} (h4 : nd ≤ 4) (hA : ∀ d a, d < nd → A d = some a → a < nd) {f d k : Nat} (hd : d < nd) (h : hit A T f d = some k) : k < nd := by
  refine Nat.lt_of_not_le (fun hk => ?_)
  have mid := hit_mid hA f d k hd h
  have ne : ∀ i j e f1 e' f2, hit A T f1 e = some i → hit A T f2 e' = some j → ¬ i = j → ¬ e = e' := by
    intro i j e f1 e' f2 x y hij he
    subst he
    exact hij (hit_det x y)
  obtain ⟨e0, f0, a0, b0⟩ := mid 0 (by omega)
  obtain ⟨e1, f1, a1, b1⟩ := mid 1 (by omega)
  by_cases n1 : nd = 1
  · exact ne _ _ _ _ _ _ b0 b1 (by omega) (by omega)
  obtain ⟨e2, f2, a2, b2⟩ := mid 2 (by omega)
  have x01 := ne _ _ _ _ _ _ b0 b1 (by omega)
  have x02 := ne _ _ _ _ _ _ b0 b2 (by omega)
  have x12 := ne _ _ _ _ _ _ b1 b2 (by omega)
  by_cases n2 : nd = 2
  · omega
  obtain ⟨e3, f3, a3, b3⟩ := mid 3 (by omega)
  have x03 := ne _ _ _ _ _ _ b0 b3 (by omega)
  have x13 := ne _ _ _ _ _ _ b1 b3 (by omega)
  have x23 := ne _ _ _ _ _ _ b2 b3 (by omega)
  by_cases n3 : nd = 3
  · omega
  obtain ⟨e4, f4, a4, b4⟩ := mid 4 (by omega)
  have x04 := ne _ _ _ _ _ _ b0 b4 (by omega)
  have x14 := ne _ _ _ _ _ _ b1 b4 (by omega)
  have x24 := ne _ _ _ _ _ _ b2 b4 (by omega)
  have x34 := ne _ _ _ _ _ _ b3 b4 (by omega)
  exact pig5 (by omega) (by omega) (by omega) (by omega) (by omega) x01 x02 x03 x04 x12 x13 x14 x23 x24 x34
/-- the bound does not matter -/
theorem hit_eq {A : Nat → Option Nat} {T : Nat → Bool} {nd : Nat} (h4 : nd ≤ 4) (hA : ∀ d a, d < nd → A d = some a → a < nd) {f g d : Nat} (hd : d < nd) (hf : nd ≤ f) (hg : nd ≤ g) : hit A T f d = hit A T g d := by
  cases h1 : hit A T f d with
  | some k => exact (hit_up f d k g h1 (by have := hit_lt h4 hA hd h1; omega)).symm
  | none =>
    cases h2 : hit A T g d with
    | none => rfl
    | some k =>
      have := hit_up g d k f h2 (by have := hit_lt h4 hA hd h2; omega)
      rw [h1] at this
      cases this
/-- whom a desk asks -/
def asA (hu : hd_T) (d : Nat) : Option Nat := if hu.1 2 d = -1 then none else some (hu.1 2 d).toNatClampNeg
theorem asA_of {hu : hd_T} (hT : TW hu) {d : Nat} (hd : d < hu.2.1 0) : (asA hu d = none ∧ hu.1 2 d = -1) ∨ ∃ a, a < hu.2.1 0 ∧ ¬ a = d ∧ asA hu d = some a ∧ hu.1 2 d = nI a := by
  have t0 := hT.1.1
  unfold asA
  rcases (hT.2.1 d hd).2 with h | ⟨a, h1, h2, h3⟩
  · exact Or.inl ⟨if_pos h, h⟩
  · refine Or.inr ⟨a, h1, h2, ?_, h3⟩
    rw [h3]
    simp (disch := omega) only [pt_lt_, pt_clsome, pt_ck, pt_ckL, pt_cl, pt_clL, pt_cz0, pt_cz1, pt_czi, pt_add, pt_addL, pt_Ladd, pt_mul, pt_mulL, pt_Lmul, pt_sub, pt_subL, pt_Lsub, pt_rem, pt_le, pt_leL, pt_Lle, pt_lt, pt_ltL, pt_Llt, pt_eq, pt_eqL, pt_Leq, pt_m1, pt_lt0, pt_ge0, pt_m1lt0, pt_m1ge0, pt_10, pt_01, pt_00, pt_11, pt_m11, pt_0m1, pt_1m1, pt_ib, pt_ib1, pt_hs, pt_so, pt_ofNat, pt_si, pt_sin, pt_si1, pt_si2, pt_sl, pt_sln, pt_sl0, pt_sl2, pt_sr, pt_srn, pt_sr0, pt_sr1, if_true, if_false, ite_true, ite_false, not_true_eq_false, not_false_eq_true, if_pos, if_neg]
theorem asA_lt {hu : hd_T} (hT : TW hu) : ∀ d a, d < hu.2.1 0 → asA hu d = some a → a < hu.2.1 0 := by
  intro d a hd h
  rcases asA_of hT hd with ⟨h1, -⟩ | ⟨a', h1, -, h2, -⟩
  · rw [h1] at h; cases h
  · rw [h2] at h; cases h; exact h1
def oH (j : Nat) (o : Option Nat) : Int32 := match o with
  | none => -1
  | some k => nI (j + k)
theorem px_noons {F hb x : Nat} {hu : hd_T} {κ : kp_K} (hT : TW hu) (hs : κ.2.2 0 4 = some hb) (hx : x < 4) : ∀ m j, j + m = hu.2.1 0 + 1 → ∀ f, m < f → ∀ d, d < hu.2.1 0 → bX1_noons_5 F hb hu f κ (nI x) (nI d) (nI j) = some (oH j (hit (asA hu) (fun e => decide (e = x)) m d)) := by
  have t0 := hT.1.1
  intro m
  induction m with
  | zero =>
    intro j hj f hf d hd
    obtain ⟨f, rfl⟩ : ∃ f', f = f' + 1 := ⟨f - 1, by omega⟩
    rw [bX1_noons_5]
    unfold pX1_desks
    simp (disch := omega) only [pt_lt_, pt_clsome, pt_ck, pt_ckL, pt_cl, pt_clL, pt_cz0, pt_cz1, pt_czi, pt_add, pt_addL, pt_Ladd, pt_mul, pt_mulL, pt_Lmul, pt_sub, pt_subL, pt_Lsub, pt_rem, pt_le, pt_leL, pt_Lle, pt_lt, pt_ltL, pt_Llt, pt_eq, pt_eqL, pt_Leq, pt_m1, pt_lt0, pt_ge0, pt_m1lt0, pt_m1ge0, pt_10, pt_01, pt_00, pt_11, pt_m11, pt_0m1, pt_1m1, pt_ib, pt_ib1, pt_hs, pt_so, pt_ofNat, pt_si, pt_sin, pt_si1, pt_si2, pt_sl, pt_sln, pt_sl0, pt_sl2, pt_sr, pt_srn, pt_sr0, pt_sr1, if_true, if_false, ite_true, ite_false, not_true_eq_false, not_false_eq_true, if_pos, if_neg, hs]
    rfl
  | succ m ih =>
    intro j hj f hf d hd
    obtain ⟨f, rfl⟩ : ∃ f', f = f' + 1 := ⟨f - 1, by omega⟩
    have n0 : ¬ hu.2.1 0 < j := by omega
    have n1 : ¬ d < 0 := Nat.not_lt_zero d
    rw [bX1_noons_5]
    unfold pX1_desks pX1_asks
    simp (disch := omega) only [pt_lt_, pt_clsome, pt_ck, pt_ckL, pt_cl, pt_clL, pt_cz0, pt_cz1, pt_czi, pt_add, pt_addL, pt_Ladd, pt_mul, pt_mulL, pt_Lmul, pt_sub, pt_subL, pt_Lsub, pt_rem, pt_le, pt_leL, pt_Lle, pt_lt, pt_ltL, pt_Llt, pt_eq, pt_eqL, pt_Leq, pt_m1, pt_lt0, pt_ge0, pt_m1lt0, pt_m1ge0, pt_10, pt_01, pt_00, pt_11, pt_m11, pt_0m1, pt_1m1, pt_ib, pt_ib1, pt_hs, pt_so, pt_ofNat, pt_si, pt_sin, pt_si1, pt_si2, pt_sl, pt_sln, pt_sl0, pt_sl2, pt_sr, pt_srn, pt_sr0, pt_sr1, if_true, if_false, ite_true, ite_false, not_true_eq_false, not_false_eq_true, hs, n0, n1]
    by_cases h : d = x
    · rw [if_pos h, hit_T (by simp [h])]
      rfl
    · rw [if_neg h]
      have hT2 : ¬ (fun e => decide (e = x)) d = true := by simp [h]
      rcases asA_of hT hd with ⟨h1, h2⟩ | ⟨a, h1, h2, h3, h4⟩
      · rw [hit_F hT2 h1, h2]
        obtain ⟨f, rfl⟩ : ∃ f', f = f' + 1 := ⟨f - 1, by omega⟩
        rw [bX1_noons_5]
        unfold pX1_desks
        simp (disch := omega) only [pt_lt_, pt_clsome, pt_ck, pt_ckL, pt_cl, pt_clL, pt_cz0, pt_cz1, pt_czi, pt_add, pt_addL, pt_Ladd, pt_mul, pt_mulL, pt_Lmul, pt_sub, pt_subL, pt_Lsub, pt_rem, pt_le, pt_leL, pt_Lle, pt_lt, pt_ltL, pt_Llt, pt_eq, pt_eqL, pt_Leq, pt_m1, pt_lt0, pt_ge0, pt_m1lt0, pt_m1ge0, pt_10, pt_01, pt_00, pt_11, pt_m11, pt_0m1, pt_1m1, pt_ib, pt_ib1, pt_hs, pt_so, pt_ofNat, pt_si, pt_sin, pt_si1, pt_si2, pt_sl, pt_sln, pt_sl0, pt_sl2, pt_sr, pt_srn, pt_sr0, pt_sr1, if_true, if_false, ite_true, ite_false, not_true_eq_false, not_false_eq_true, hs]
        rw [ite_self]
        rfl
      · rw [hit_S hT2 h3, h4, ih (j + 1) (by omega) f (by omega) a h1]
        cases hit (asA hu) (fun e => decide (e = x)) m a with
        | none => rfl
        | some k =>
          unfold oH
          dsimp only
          rw [Nat.add_assoc, Nat.add_comm 1 k]
theorem pm_noons {F x y : Nat} {hu : hd_T} {κ : kp_K} (hT : TW hu) (hM : MT hu κ) (hx : x < 4) (hy : y < 4) : ∀ m j, j + m = 4 → ∀ f, m < f → ∀ d, d < hu.2.1 0 → bX6_noonsTo_6 F f κ (nI x) (nI y) (nI d) (nI j) = some (oH j (hit (asA hu) (fun e => decide (e = x ∨ e = y)) m d)) := by
  have t0 := hT.1.1
  intro m
  induction m with
  | zero =>
    intro j hj f hf d hd
    obtain ⟨f, rfl⟩ : ∃ f', f = f' + 1 := ⟨f - 1, by omega⟩
    rw [bX6_noonsTo_6]
    simp (disch := omega) only [pt_lt_, pt_clsome, pt_ck, pt_ckL, pt_cl, pt_clL, pt_cz0, pt_cz1, pt_czi, pt_add, pt_addL, pt_Ladd, pt_mul, pt_mulL, pt_Lmul, pt_sub, pt_subL, pt_Lsub, pt_rem, pt_le, pt_leL, pt_Lle, pt_lt, pt_ltL, pt_Llt, pt_eq, pt_eqL, pt_Leq, pt_m1, pt_lt0, pt_ge0, pt_m1lt0, pt_m1ge0, pt_10, pt_01, pt_00, pt_11, pt_m11, pt_0m1, pt_1m1, pt_ib, pt_ib1, pt_hs, pt_so, pt_ofNat, pt_si, pt_sin, pt_si1, pt_si2, pt_sl, pt_sln, pt_sl0, pt_sl2, pt_sr, pt_srn, pt_sr0, pt_sr1, if_true, if_false, ite_true, ite_false, not_true_eq_false, not_false_eq_true, if_pos, if_neg]
    rfl
  | succ m ih =>
    intro j hj f hf d hd
    obtain ⟨f, rfl⟩ : ∃ f', f = f' + 1 := ⟨f - 1, by omega⟩
    have n0 : ¬ 4 ≤ j := by omega
    have e71 := (hM.2.2.2.1 d hd).2.2
    rw [bX6_noonsTo_6]
    simp (disch := omega) only [pt_lt_, pt_clsome, pt_ck, pt_ckL, pt_cl, pt_clL, pt_cz0, pt_cz1, pt_czi, pt_add, pt_addL, pt_Ladd, pt_mul, pt_mulL, pt_Lmul, pt_sub, pt_subL, pt_Lsub, pt_rem, pt_le, pt_leL, pt_Lle, pt_lt, pt_ltL, pt_Llt, pt_eq, pt_eqL, pt_Leq, pt_m1, pt_lt0, pt_ge0, pt_m1lt0, pt_m1ge0, pt_10, pt_01, pt_00, pt_11, pt_m11, pt_0m1, pt_1m1, pt_ib, pt_ib1, pt_hs, pt_so, pt_ofNat, pt_si, pt_sin, pt_si1, pt_si2, pt_sl, pt_sln, pt_sl0, pt_sl2, pt_sr, pt_srn, pt_sr0, pt_sr1, if_true, if_false, ite_true, ite_false, not_true_eq_false, not_false_eq_true, n0, e71]
    by_cases h : d = x
    · rw [if_pos h, hit_T (by simp [h])]
      rfl
    · rw [if_neg h]
      by_cases h' : d = y
      · rw [if_pos h', hit_T (by simp [h'])]
        rfl
      · rw [if_neg h']
        have hT2 : ¬ (fun e => decide (e = x ∨ e = y)) d = true := by simp [h, h']
        rcases asA_of hT hd with ⟨h1, h2⟩ | ⟨a, h1, h2, h3, h4⟩
        · rw [hit_F hT2 h1, h2]
          simp (disch := omega) only [pt_lt_, pt_clsome, pt_ck, pt_ckL, pt_cl, pt_clL, pt_cz0, pt_cz1, pt_czi, pt_add, pt_addL, pt_Ladd, pt_mul, pt_mulL, pt_Lmul, pt_sub, pt_subL, pt_Lsub, pt_rem, pt_le, pt_leL, pt_Lle, pt_lt, pt_ltL, pt_Llt, pt_eq, pt_eqL, pt_Leq, pt_m1, pt_lt0, pt_ge0, pt_m1lt0, pt_m1ge0, pt_10, pt_01, pt_00, pt_11, pt_m11, pt_0m1, pt_1m1, pt_ib, pt_ib1, pt_hs, pt_so, pt_ofNat, pt_si, pt_sin, pt_si1, pt_si2, pt_sl, pt_sln, pt_sl0, pt_sl2, pt_sr, pt_srn, pt_sr0, pt_sr1, if_true, if_false, ite_true, ite_false, not_true_eq_false, not_false_eq_true, if_pos, if_neg]
          rfl
        · rw [hit_S hT2 h3, h4]
          simp (disch := omega) only [pt_lt_, pt_clsome, pt_ck, pt_ckL, pt_cl, pt_clL, pt_cz0, pt_cz1, pt_czi, pt_add, pt_addL, pt_Ladd, pt_mul, pt_mulL, pt_Lmul, pt_sub, pt_subL, pt_Lsub, pt_rem, pt_le, pt_leL, pt_Lle, pt_lt, pt_ltL, pt_Llt, pt_eq, pt_eqL, pt_Leq, pt_m1, pt_lt0, pt_ge0, pt_m1lt0, pt_m1ge0, pt_10, pt_01, pt_00, pt_11, pt_m11, pt_0m1, pt_1m1, pt_ib, pt_ib1, pt_hs, pt_so, pt_ofNat, pt_si, pt_sin, pt_si1, pt_si2, pt_sl, pt_sln, pt_sl0, pt_sl2, pt_sr, pt_srn, pt_sr0, pt_sr1, if_true, if_false, ite_true, ite_false, not_true_eq_false, not_false_eq_true, if_pos, if_neg]
          rw [ih (j + 1) (by omega) f (by omega) a h1]
          cases hit (asA hu) (fun e => decide (e = x ∨ e = y)) m a with
          | none => rfl
          | some k =>
            unfold oH
            dsimp only
            rw [Nat.add_assoc, Nat.add_comm 1 k]
theorem ls_rumour {F : Nat} {hu : hd_T} {hb : Nat} {κx κm : kp_K} (hF : 80 ≤ F) (I : INV hu hb κx κm) (v1 v2 : Int32) : iLR hu hb κx κm (pX1_rumour F hb hu κx v1 v2) (pX6_rumour F κm v1 v2) := by
  obtain ⟨hT, hM, hs, -⟩ := id I
  have hM' := (I.th (v := 0)).2.1
  have t0 := hT.1.1
  have done : ∀ z : Int32, iLR hu hb κx κm (some z) (some (z, s_i κm 66 0 0)) := fun z => ⟨_, _, rfl, rfl, I.th, MF0⟩
  unfold pX1_rumour pX6_rumour pX1_noons pX6_noonsTo
  simp only [pt_lt_, px_isDesk hs t0, pm_isDesk hM', pt_clsome, pt_ib, ite_not]
  by_cases h1 : 0 ≤ v1 ∧ v1 < nI (hu.2.1 0)
  · rw [if_pos h1, if_pos h1]
    by_cases h2 : 0 ≤ v2 ∧ v2 < nI (hu.2.1 0)
    · rw [if_pos h2, if_pos h2]
      obtain ⟨x, hx, rfl⟩ := below h1 (by omega)
      obtain ⟨d, hd, rfl⟩ := below h2 (by omega)
      have e1 := px_noons (F := F) (x := x) hT hs (by omega) (hu.2.1 0 + 1) 0 (by omega) F (by omega) d hd
      have e2 := pm_noons (F := F) (x := x) (y := x) hT hM' (by omega) (by omega) 4 0 (by omega) F (by omega) d hd
      have e1' : bX1_noons_5 F hb hu F κx (nI x) (nI d) 0 = _ := e1
      have e2' : bX6_noonsTo_6 F F (s_i κm 66 0 0) (nI x) (nI x) (nI d) 0 = _ := e2
      rw [e1', e2']
      have eT : (fun e => decide (e = x ∨ e = x)) = (fun e => decide (e = x)) := by funext e; simp
      rw [eT, hit_eq t0 (asA_lt hT) hd (by omega : hu.2.1 0 ≤ hu.2.1 0 + 1) t0]
      cases hk : hit (asA hu) (fun e => decide (e = x)) 4 d with
      | none =>
        unfold oH
        simp (disch := omega) only [pt_lt_, pt_clsome, pt_ck, pt_ckL, pt_cl, pt_clL, pt_cz0, pt_cz1, pt_czi, pt_add, pt_addL, pt_Ladd, pt_mul, pt_mulL, pt_Lmul, pt_sub, pt_subL, pt_Lsub, pt_rem, pt_le, pt_leL, pt_Lle, pt_lt, pt_ltL, pt_Llt, pt_eq, pt_eqL, pt_Leq, pt_m1, pt_lt0, pt_ge0, pt_m1lt0, pt_m1ge0, pt_10, pt_01, pt_00, pt_11, pt_m11, pt_0m1, pt_1m1, pt_ib, pt_ib1, pt_hs, pt_so, pt_ofNat, pt_si, pt_sin, pt_si1, pt_si2, pt_sl, pt_sln, pt_sl0, pt_sl2, pt_sr, pt_srn, pt_sr0, pt_sr1, if_true, if_false, ite_true, ite_false, not_true_eq_false, not_false_eq_true, if_pos, if_neg]
        exact done _
      | some k =>
        have := hit_lt t0 (asA_lt hT) hd hk
        unfold oH
        simp (disch := omega) only [pt_lt_, pt_clsome, pt_ck, pt_ckL, pt_cl, pt_clL, pt_cz0, pt_cz1, pt_czi, pt_add, pt_addL, pt_Ladd, pt_mul, pt_mulL, pt_Lmul, pt_sub, pt_subL, pt_Lsub, pt_rem, pt_le, pt_leL, pt_Lle, pt_lt, pt_ltL, pt_Llt, pt_eq, pt_eqL, pt_Leq, pt_m1, pt_lt0, pt_ge0, pt_m1lt0, pt_m1ge0, pt_10, pt_01, pt_00, pt_11, pt_m11, pt_0m1, pt_1m1, pt_ib, pt_ib1, pt_hs, pt_so, pt_ofNat, pt_si, pt_sin, pt_si1, pt_si2, pt_sl, pt_sln, pt_sl0, pt_sl2, pt_sr, pt_srn, pt_sr0, pt_sr1, if_true, if_false, ite_true, ite_false, not_true_eq_false, not_false_eq_true, if_pos, if_neg]
        exact done _
    · rw [if_neg h2, if_neg h2]
      exact done _
  · rw [if_neg h1, if_neg h1]
    exact done _
