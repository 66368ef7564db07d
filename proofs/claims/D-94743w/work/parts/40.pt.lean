/-! PURE LAYER: tools. No machine in sight from here on. -/
set_option maxRecDepth 100000
section PT
variable {X : Type} {K : Option X} {a b n N : Nat}
theorem pt_ck (h : n < N) (hN : N < 2147483648) : p_ck (nI n) N K = K := by
  unfold p_ck
  exact if_neg (vp_in_nI h (by omega))
theorem pt_ckL {c : Nat} (h : (OfNat.ofNat c : Nat) < N) (hN : N < 2147483648) : p_ck (no_index (OfNat.ofNat c) : Int32) N K = K := pt_ck (n := c) h hN
theorem pt_cl (h : n < 2147483648) : (nI n).toNatClampNeg = n := nI_clamp (by omega)
theorem pt_clL {c : Nat} (h : (OfNat.ofNat c : Nat) < 2147483648) : (no_index (OfNat.ofNat c) : Int32).toNatClampNeg = (OfNat.ofNat c : Nat) := pt_cl (n := c) h
theorem pt_cz0 : p_cz (0 : Int32) K = K := if_pos (Or.inl rfl)
theorem pt_cz1 : p_cz (1 : Int32) K = K := if_pos (Or.inr rfl)
theorem pt_czi {P : Prop} [Decidable P] : p_cz (if P then (1 : Int32) else 0) K = K := by
  by_cases h : P
  · rw [if_pos h]; exact pt_cz1
  · rw [if_neg h]; exact pt_cz0
theorem pt_add : nI a + nI b = nI (a + b) := nI_add a b
theorem pt_addL {c : Nat} : nI a + (no_index (OfNat.ofNat c) : Int32) = nI (a + OfNat.ofNat c) := nI_add a c
theorem pt_Ladd {c : Nat} : (no_index (OfNat.ofNat c) : Int32) + nI a = nI (OfNat.ofNat c + a) := nI_add c a
theorem pt_mul : nI a * nI b = nI (a * b) := pk_mul a b
theorem pt_mulL {c : Nat} : nI a * (no_index (OfNat.ofNat c) : Int32) = nI (a * OfNat.ofNat c) := pk_mul a c
theorem pt_Lmul {c : Nat} : (no_index (OfNat.ofNat c) : Int32) * nI a = nI (OfNat.ofNat c * a) := pk_mul c a
theorem pt_sub (h : b ≤ a) : nI a - nI b = nI (a - b) := pk_sub h
theorem pt_subL {c : Nat} (h : (OfNat.ofNat c : Nat) ≤ a) : nI a - (no_index (OfNat.ofNat c) : Int32) = nI (a - OfNat.ofNat c) := pk_sub (b := c) h
theorem pt_Lsub {c : Nat} (h : b ≤ (OfNat.ofNat c : Nat)) : (no_index (OfNat.ofNat c) : Int32) - nI b = nI (OfNat.ofNat c - b) := pk_sub (a := c) h
theorem pt_rem {c : Nat} (ha : a < 2147483648) (h0 : 0 < (OfNat.ofNat c : Nat)) (hd : (OfNat.ofNat c : Nat) < 2147483648) : nI a - nI a / (no_index (OfNat.ofNat c) : Int32) * (no_index (OfNat.ofNat c) : Int32) = nI (a % OfNat.ofNat c) := pk_rem (d := c) (by omega) h0 (by omega)
theorem pt_div {c : Nat} (ha : a < 2147483648) (h0 : 0 < (OfNat.ofNat c : Nat)) (hd : (OfNat.ofNat c : Nat) < 2147483648) : nI a / (no_index (OfNat.ofNat c) : Int32) = nI (a / OfNat.ofNat c) := pk_div (d := c) (by omega) h0 (by omega)
theorem pt_le (ha : a < 2147483648) (hb : b < 2147483648) : (nI a ≤ nI b) = (a ≤ b) := propext (nI_leI (by omega) (by omega))
theorem pt_leL {c : Nat} (ha : a < 2147483648) (hb : (OfNat.ofNat c : Nat) < 2147483648) : (nI a ≤ (no_index (OfNat.ofNat c) : Int32)) = (a ≤ OfNat.ofNat c) := pt_le (b := c) ha hb
theorem pt_Lle {c : Nat} (ha : a < 2147483648) (hb : (OfNat.ofNat c : Nat) < 2147483648) : ((no_index (OfNat.ofNat c) : Int32) ≤ nI a) = ((OfNat.ofNat c : Nat) ≤ a) := pt_le (a := c) hb ha
theorem pt_lt (ha : a < 2147483648) (hb : b < 2147483648) : (nI a < nI b) = (a < b) := propext (nI_ltI (by omega) (by omega))
theorem pt_ltL {c : Nat} (ha : a < 2147483648) (hb : (OfNat.ofNat c : Nat) < 2147483648) : (nI a < (no_index (OfNat.ofNat c) : Int32)) = (a < OfNat.ofNat c) := pt_lt (b := c) ha hb
theorem pt_Llt {c : Nat} (ha : a < 2147483648) (hb : (OfNat.ofNat c : Nat) < 2147483648) : ((no_index (OfNat.ofNat c) : Int32) < nI a) = ((OfNat.ofNat c : Nat) < a) := pt_lt (a := c) hb ha
theorem pt_eq (ha : a < 2147483648) (hb : b < 2147483648) : (nI a = nI b) = (a = b) := propext (nI_eq (by omega) (by omega))
theorem pt_eqL {c : Nat} (ha : a < 2147483648) (hb : (OfNat.ofNat c : Nat) < 2147483648) : (nI a = (no_index (OfNat.ofNat c) : Int32)) = (a = OfNat.ofNat c) := pt_eq (b := c) ha hb
theorem pt_Leq {c : Nat} (ha : a < 2147483648) (hb : (OfNat.ofNat c : Nat) < 2147483648) : ((no_index (OfNat.ofNat c) : Int32) = nI a) = ((OfNat.ofNat c : Nat) = a) := pt_eq (a := c) hb ha
theorem pt_toInt (ha : a < 2147483648) : (nI a).toInt = (a : Int) := nI_toInt (by omega)
theorem pt_m1 (ha : a < 2147483648) : (nI a = (-1 : Int32)) = False := by
  refine propext ⟨fun h => ?_, False.elim⟩
  have h2 : (nI a).toInt = (-1 : Int32).toInt := by rw [h]
  rw [pt_toInt ha, show (-1 : Int32).toInt = -1 from by decide] at h2
  omega
theorem pt_lt0 (ha : a < 2147483648) : (nI a < 0) = False := propext ⟨fun h => nI_pos (by omega) h, False.elim⟩
theorem pt_ge0 (ha : a < 2147483648) : ((0 : Int32) ≤ nI a) = True := propext ⟨fun _ => trivial, fun _ => nI_pos' (by omega)⟩
theorem pt_m1lt0 : ((-1 : Int32) < 0) = True := by decide
theorem pt_m1ge0 : ((0 : Int32) ≤ -1) = False := by decide
theorem pt_10 : ((1 : Int32) = 0) = False := by decide
theorem pt_01 : ((0 : Int32) = 1) = False := by decide
theorem pt_00 : ((0 : Int32) = 0) = True := by decide
theorem pt_11 : ((1 : Int32) = 1) = True := by decide
theorem pt_m11 : ((-1 : Int32) = -1) = True := by decide
theorem pt_0m1 : ((0 : Int32) = -1) = False := by decide
theorem pt_1m1 : ((1 : Int32) = -1) = False := by decide
/-- a flag asked -/
theorem pt_ib {P : Prop} [Decidable P] : ((if P then (1 : Int32) else 0) = 0) = ¬ P := by
  by_cases h : P <;> simp [h]
theorem pt_ib1 {P : Prop} [Decidable P] : ((if P then (1 : Int32) else 0) = 1) = P := by
  by_cases h : P <;> simp [h]
theorem pt_clsome {α : Type} {x : α} {K : α → Option X} : p_cl (some x) K = K x := (Eq.refl (p_cl (some x) K)).trans (Eq.refl (K x))
theorem pt_lt_ {α : Type} {x : α} {K : α → Option X} : p_lt x K = K x := (Eq.refl (p_lt x K)).trans (Eq.refl (K x))
theorem pt_cd {v : Int32} (h : ¬ v = 0) : p_cd v K = K := if_neg h
theorem pt_cdl {v : Int64} (h : ¬ v = 0) : p_cdl v K = K := if_neg h
theorem pt_hs {hb : Nat} : p_hs (some hb) hb K = K := if_pos rfl
theorem pt_so {x : Nat} {K : Nat → Option X} : p_so (some x) K = K x := (Eq.refl _).trans (Eq.refl _)
theorem pt_ch {x : Nat} {K : Nat → Option X} (h : x = 11 ∨ x = 12) : p_ch (some x) K = K x := if_pos h
theorem pt_ofNat : (Int32.ofNat n) = nI n := (Eq.refl _).trans (Eq.refl _)
end PT
section PS
variable {κ : kp_K} {j i j' i' : Nat}
theorem pt_si (h : j' = j ∧ i' = i) {v : Int32} : (s_i κ j i v).1 j' i' = v := by
  obtain ⟨rfl, rfl⟩ := h
  simp [s_i, upd]
theorem pt_sin (h : ¬ (j' = j ∧ i' = i)) {v : Int32} : (s_i κ j i v).1 j' i' = κ.1 j' i' := by
  simp only [s_i]
  split
  · rename_i q
    subst q
    exact if_neg (fun q => h ⟨rfl, q⟩)
  · rfl
theorem pt_si1 {v : Int32} : (s_i κ j i v).2.1 = κ.2.1 := (Eq.refl _).trans (Eq.refl _)
theorem pt_si2 {v : Int32} : (s_i κ j i v).2.2 = κ.2.2 := (Eq.refl _).trans (Eq.refl _)
theorem pt_sl (h : j' = j ∧ i' = i) {v : Int64} : (s_l κ j i v).2.1 j' i' = v := by
  obtain ⟨rfl, rfl⟩ := h
  simp [s_l, vp_updL]
theorem pt_sln (h : ¬ (j' = j ∧ i' = i)) {v : Int64} : (s_l κ j i v).2.1 j' i' = κ.2.1 j' i' := by
  simp only [s_l]
  split
  · rename_i q
    subst q
    exact if_neg (fun q => h ⟨rfl, q⟩)
  · rfl
theorem pt_sl0 {v : Int64} : (s_l κ j i v).1 = κ.1 := (Eq.refl _).trans (Eq.refl _)
theorem pt_sl2 {v : Int64} : (s_l κ j i v).2.2 = κ.2.2 := (Eq.refl _).trans (Eq.refl _)
theorem pt_sr (h : j' = j ∧ i' = i) {v : Option Nat} : (s_r κ j i v).2.2 j' i' = v := by
  obtain ⟨rfl, rfl⟩ := h
  simp [s_r, va_up]
theorem pt_srn (h : ¬ (j' = j ∧ i' = i)) {v : Option Nat} : (s_r κ j i v).2.2 j' i' = κ.2.2 j' i' := by
  simp only [s_r]
  split
  · rename_i q
    subst q
    exact if_neg (fun q => h ⟨rfl, q⟩)
  · rfl
theorem pt_sr0 {v : Option Nat} : (s_r κ j i v).1 = κ.1 := (Eq.refl _).trans (Eq.refl _)
theorem pt_sr1 {v : Option Nat} : (s_r κ j i v).2.1 = κ.2.1 := (Eq.refl _).trans (Eq.refl _)
theorem pt_sc {s d n : Nat} (h : j' = d ∧ i' < n) : (s_c κ s d 0 0 n).1 j' i' = κ.1 s i' := by
  obtain ⟨rfl, h2⟩ := h
  simp [s_c, va_cpy, h2]
theorem pt_scn {s d n : Nat} (h : ¬ (j' = d ∧ i' < n)) : (s_c κ s d 0 0 n).1 j' i' = κ.1 j' i' := by
  simp only [s_c]
  split
  · rename_i q
    subst q
    have h3 : ¬ i' < n := fun q => h ⟨rfl, q⟩
    simp [va_cpy, h3]
  · rfl
theorem pt_sc1 {s d n : Nat} : (s_c κ s d 0 0 n).2.1 = κ.2.1 := (Eq.refl _).trans (Eq.refl _)
theorem pt_sc2 {s d n : Nat} : (s_c κ s d 0 0 n).2.2 = κ.2.2 := (Eq.refl _).trans (Eq.refl _)
end PS
/-- what a program may have changed: cells and places -/
def Fr (P : Nat → Nat → Prop) (κ κ' : kp_K) : Prop := (∀ j i, ¬ P j i → κ'.1 j i = κ.1 j i ∧ κ'.2.1 j i = κ.2.1 j i) ∧ κ'.2.2 = κ.2.2
theorem Fr.rf {P : Nat → Nat → Prop} {κ : kp_K} : Fr P κ κ := ⟨fun _ _ _ => ⟨rfl, rfl⟩, rfl⟩
theorem Fr.tr {P : Nat → Nat → Prop} {κ κ1 κ2 : kp_K} (h : Fr P κ κ1) (g : Fr P κ1 κ2) : Fr P κ κ2 := ⟨fun j i q => ⟨(g.1 j i q).1.trans (h.1 j i q).1, (g.1 j i q).2.trans (h.1 j i q).2⟩, g.2.trans h.2⟩
theorem Fr.mono {P Q : Nat → Nat → Prop} {κ κ1 : kp_K} (h : Fr P κ κ1) (g : ∀ j i, P j i → Q j i) : Fr Q κ κ1 := ⟨fun j i q => h.1 j i (fun p => q (g j i p)), h.2⟩
theorem Fr.si {P : Nat → Nat → Prop} {κ : kp_K} {j i : Nat} {v : Int32} (h : P j i) : Fr P κ (s_i κ j i v) := ⟨fun j' i' q => ⟨pt_sin (fun e => q (by rw [e.1, e.2]; exact h)), rfl⟩, rfl⟩
theorem Fr.sl {P : Nat → Nat → Prop} {κ : kp_K} {j i : Nat} {v : Int64} (h : P j i) : Fr P κ (s_l κ j i v) := ⟨fun j' i' q => ⟨rfl, pt_sln (fun e => q (by rw [e.1, e.2]; exact h))⟩, rfl⟩
theorem Fr.sc {P : Nat → Nat → Prop} {κ : kp_K} {s d n : Nat} (h : ∀ i, P d i) : Fr P κ (s_c κ s d 0 0 n) := ⟨fun j' i' q => ⟨pt_scn (fun e => q (by rw [e.1]; exact h _)), rfl⟩, rfl⟩
/-- a program succeeds, with an answer of which P holds -/
def Ok {X : Type} (x : Option X) (P : X → Prop) : Prop := ∃ r, x = some r ∧ P r
theorem Ok.some {X : Type} {r : X} {P : X → Prop} (h : P r) : Ok (some r) P := ⟨r, rfl, h⟩
theorem Ok.of {X : Type} {x y : Option X} {P : X → Prop} (h : Ok y P) (e : x = y) : Ok x P := e ▸ h
theorem Ok.mono {X : Type} {x : Option X} {P Q : X → Prop} (h : Ok x P) (g : ∀ r, P r → Q r) : Ok x Q := by
  obtain ⟨r, e, p⟩ := h
  exact ⟨r, e, g r p⟩
theorem Ok.cl {X Y : Type} {x : Option Y} {K : Y → Option X} {P : Y → Prop} {Q : X → Prop} (h : Ok x P) (g : ∀ r, P r → Ok (K r) Q) : Ok (p_cl x K) Q := by
  obtain ⟨r, e, p⟩ := h
  rw [e]
  exact g r p
theorem Ok.ck {X : Type} {K : Option X} {n N : Nat} {P : X → Prop} (h : n < N) (hN : N < 2147483648) (g : Ok K P) : Ok (p_ck (nI n) N K) P := by
  rw [pt_ck h hN]
  exact g
