/-! PURE LAYER: where two rumours differ -/
set_option maxRecDepth 100000
/-- the node so many steps on -/
def nodeAt (A : Nat → Option Nat) : Nat → Nat → Option Nat
  | 0, d => some d
  | k + 1, d => match A d with
    | none => none
    | some a => nodeAt A k a
theorem hit_node {A : Nat → Option Nat} {T : Nat → Bool} : ∀ f d k, hit A T f d = some k → ∃ e, nodeAt A k d = some e ∧ T e = true := by
  intro f
  induction f with
  | zero => intro d k h; cases h
  | succ f ih =>
    intro d k h
    by_cases hT : T d = true
    · rw [hit_T hT] at h
      cases h
      exact ⟨d, rfl, hT⟩
    · cases ha : A d with
      | none => rw [hit_F hT ha] at h; cases h
      | some a =>
        rw [hit_S hT ha] at h
        cases h1 : hit A T f a with
        | none => rw [h1] at h; cases h
        | some k1 =>
          rw [h1] at h
          cases h
          obtain ⟨e, e1, e2⟩ := ih a k1 h1
          refine ⟨e, ?_, e2⟩
          rw [nodeAt, ha]
          exact e1
/-- the first of two desks that is reached: with the bound -/
theorem hit_two {A : Nat → Option Nat} {x y : Nat} (hxy : ¬ x = y) : ∀ f d, (match hit A (fun e => decide (e = x ∨ e = y)) f d with
    | none => hit A (fun e => decide (e = x)) f d = none ∧ hit A (fun e => decide (e = y)) f d = none
    | some k => (hit A (fun e => decide (e = x)) f d = some k ∧ nodeAt A k d = some x ∧ (∀ k', hit A (fun e => decide (e = y)) f d = some k' → k < k')) ∨ (hit A (fun e => decide (e = y)) f d = some k ∧ nodeAt A k d = some y ∧ (∀ k', hit A (fun e => decide (e = x)) f d = some k' → k < k'))) := by
  intro f
  induction f with
  | zero => intro d; exact ⟨rfl, rfl⟩
  | succ f ih =>
    intro d
    by_cases hx : d = x
    · subst hx
      rw [hit_T (f := f) (T := fun e => decide (e = d ∨ e = y)) (by simp), hit_T (f := f) (T := fun e => decide (e = d)) (by simp)]
      refine Or.inl ⟨rfl, rfl, fun k' h => ?_⟩
      cases k' with
      | succ k' => omega
      | zero =>
        obtain ⟨e, e1, e2⟩ := hit_node _ _ _ h
        cases e1
        exact absurd (of_decide_eq_true e2) hxy
    · by_cases hy : d = y
      · subst hy
        rw [hit_T (f := f) (T := fun e => decide (e = x ∨ e = d)) (by simp), hit_T (f := f) (T := fun e => decide (e = d)) (by simp)]
        refine Or.inr ⟨rfl, rfl, fun k' h => ?_⟩
        cases k' with
        | succ k' => omega
        | zero =>
          obtain ⟨e, e1, e2⟩ := hit_node _ _ _ h
          cases e1
          exact absurd (of_decide_eq_true e2) hx
      · have b1 : ¬ (fun e => decide (e = x ∨ e = y)) d = true := by simp [hx, hy]
        have b2 : ¬ (fun e => decide (e = x)) d = true := by simp [hx]
        have b3 : ¬ (fun e => decide (e = y)) d = true := by simp [hy]
        cases ha : A d with
        | none =>
          rw [hit_F b1 ha, hit_F b2 ha, hit_F b3 ha]
          exact ⟨rfl, rfl⟩
        | some a =>
          have := ih a
          rw [hit_S b1 ha, hit_S b2 ha, hit_S b3 ha]
          cases h1 : hit A (fun e => decide (e = x ∨ e = y)) f a with
          | none =>
            rw [h1] at this
            dsimp only at this ⊢
            rw [this.1, this.2]
            exact ⟨rfl, rfl⟩
          | some k =>
            rw [h1] at this
            dsimp only at this ⊢
            have nd : ∀ z, nodeAt A k a = some z → nodeAt A (k + 1) d = some z := fun z hz => by rw [nodeAt, ha]; exact hz
            rcases this with ⟨q1, q2, q3⟩ | ⟨q1, q2, q3⟩
            · refine Or.inl ⟨by rw [q1], nd _ q2, fun k' h => ?_⟩
              cases h2 : hit A (fun e => decide (e = y)) f a with
              | none => rw [h2] at h; cases h
              | some k2 =>
                rw [h2] at h
                cases h
                have := q3 k2 h2
                omega
            · refine Or.inr ⟨by rw [q1], nd _ q2, fun k' h => ?_⟩
              cases h2 : hit A (fun e => decide (e = x)) f a with
              | none => rw [h2] at h; cases h
              | some k2 =>
                rw [h2] at h
                cases h
                have := q3 k2 h2
                omega
/-- which of two rumours a desk holds -/
def hoW (hu : hd_T) (x y d : Nat) : Int32 := match hit (asA hu) (fun e => decide (e = x ∨ e = y)) 4 d with
  | none => -1
  | some k => match nodeAt (asA hu) k d with
    | none => -1
    | some e => nI e
theorem hoW_eq {hu : hd_T} {x y d : Nat} (hxy : ¬ x = y) : (hit (asA hu) (fun e => decide (e = x)) 4 d = none ∧ hit (asA hu) (fun e => decide (e = y)) 4 d = none ∧ hoW hu x y d = -1) ∨ (∃ k, hit (asA hu) (fun e => decide (e = x)) 4 d = some k ∧ (∀ k', hit (asA hu) (fun e => decide (e = y)) 4 d = some k' → k < k') ∧ hoW hu x y d = nI x) ∨ (∃ k, hit (asA hu) (fun e => decide (e = y)) 4 d = some k ∧ (∀ k', hit (asA hu) (fun e => decide (e = x)) 4 d = some k' → k < k') ∧ hoW hu x y d = nI y) := by
  have h := hit_two (A := asA hu) hxy 4 d
  unfold hoW
  cases h1 : hit (asA hu) (fun e => decide (e = x ∨ e = y)) 4 d with
  | none =>
    rw [h1] at h
    exact Or.inl ⟨h.1, h.2, rfl⟩
  | some k =>
    rw [h1] at h
    dsimp only at h ⊢
    rcases h with ⟨q1, q2, q3⟩ | ⟨q1, q2, q3⟩
    · exact Or.inr (Or.inl ⟨k, q1, q3, by rw [q2]⟩)
    · exact Or.inr (Or.inr ⟨k, q1, q3, by rw [q2]⟩)
theorem px_holds {F hb x y d : Nat} {hu : hd_T} {κ : kp_K} (hF : 80 ≤ F) (hT : TW hu) (hs : κ.2.2 0 4 = some hb) (hx : x < 4) (hy : y < 4) (hxy : ¬ x = y) (hd : d < hu.2.1 0) : pX1_holds F hb hu κ (nI x) (nI y) (nI d) = some (hoW hu x y d) := by
  have t0 := hT.1.1
  have e1 : bX1_noons_5 F hb hu F κ (nI x) (nI d) 0 = _ := px_noons (F := F) (x := x) hT hs hx (hu.2.1 0 + 1) 0 (by omega) F (by omega) d hd
  have e2 : bX1_noons_5 F hb hu F κ (nI y) (nI d) 0 = _ := px_noons (F := F) (x := y) hT hs hy (hu.2.1 0 + 1) 0 (by omega) F (by omega) d hd
  rw [hit_eq t0 (asA_lt hT) hd (by omega : hu.2.1 0 ≤ hu.2.1 0 + 1) t0] at e1 e2
  unfold pX1_holds pX1_noons
  rw [e1, e2]
  unfold bX1_holds_30
  rcases hoW_eq (hu := hu) (d := d) hxy with ⟨h1, h2, h3⟩ | ⟨k, h1, h2, h3⟩ | ⟨k, h1, h2, h3⟩
  · rw [h1, h2, h3]
    unfold oH
    simp (disch := omega) only [pt_lt_, pt_clsome, pt_ck, pt_ckL, pt_cl, pt_clL, pt_cz0, pt_cz1, pt_czi, pt_add, pt_addL, pt_Ladd, pt_mul, pt_mulL, pt_Lmul, pt_sub, pt_subL, pt_Lsub, pt_rem, pt_le, pt_leL, pt_Lle, pt_lt, pt_ltL, pt_Llt, pt_eq, pt_eqL, pt_Leq, pt_m1, pt_lt0, pt_ge0, pt_m1lt0, pt_m1ge0, pt_10, pt_01, pt_00, pt_11, pt_m11, pt_0m1, pt_1m1, pt_ib, pt_ib1, pt_hs, pt_so, pt_ofNat, pt_si, pt_sin, pt_si1, pt_si2, pt_sl, pt_sln, pt_sl0, pt_sl2, pt_sr, pt_srn, pt_sr0, pt_sr1, if_true, if_false, ite_true, ite_false, not_true_eq_false, not_false_eq_true, if_pos, if_neg]
  · have hk := hit_lt t0 (asA_lt hT) hd h1
    rw [h1, h3]
    cases h5 : hit (asA hu) (fun e => decide (e = y)) 4 d with
    | none =>
      unfold oH
      simp (disch := omega) only [pt_lt_, pt_clsome, pt_ck, pt_ckL, pt_cl, pt_clL, pt_cz0, pt_cz1, pt_czi, pt_add, pt_addL, pt_Ladd, pt_mul, pt_mulL, pt_Lmul, pt_sub, pt_subL, pt_Lsub, pt_rem, pt_le, pt_leL, pt_Lle, pt_lt, pt_ltL, pt_Llt, pt_eq, pt_eqL, pt_Leq, pt_m1, pt_lt0, pt_ge0, pt_m1lt0, pt_m1ge0, pt_10, pt_01, pt_00, pt_11, pt_m11, pt_0m1, pt_1m1, pt_ib, pt_ib1, pt_hs, pt_so, pt_ofNat, pt_si, pt_sin, pt_si1, pt_si2, pt_sl, pt_sln, pt_sl0, pt_sl2, pt_sr, pt_srn, pt_sr0, pt_sr1, if_true, if_false, ite_true, ite_false, not_true_eq_false, not_false_eq_true, if_pos, if_neg]
    | some k' =>
      have hk' := hit_lt t0 (asA_lt hT) hd h5
      have := h2 k' h5
      have g : ¬ k' < k := by omega
      unfold oH
      simp (disch := omega) only [pt_lt_, pt_clsome, pt_ck, pt_ckL, pt_cl, pt_clL, pt_cz0, pt_cz1, pt_czi, pt_add, pt_addL, pt_Ladd, pt_mul, pt_mulL, pt_Lmul, pt_sub, pt_subL, pt_Lsub, pt_rem, pt_le, pt_leL, pt_Lle, pt_lt, pt_ltL, pt_Llt, pt_eq, pt_eqL, pt_Leq, pt_m1, pt_lt0, pt_ge0, pt_m1lt0, pt_m1ge0, pt_10, pt_01, pt_00, pt_11, pt_m11, pt_0m1, pt_1m1, pt_ib, pt_ib1, pt_hs, pt_so, pt_ofNat, pt_si, pt_sin, pt_si1, pt_si2, pt_sl, pt_sln, pt_sl0, pt_sl2, pt_sr, pt_srn, pt_sr0, pt_sr1, if_true, if_false, ite_true, ite_false, not_true_eq_false, not_false_eq_true, if_pos, if_neg, Nat.zero_add, g]
  · have hk := hit_lt t0 (asA_lt hT) hd h1
    rw [h1, h3]
    cases h5 : hit (asA hu) (fun e => decide (e = x)) 4 d with
    | none =>
      unfold oH
      simp (disch := omega) only [pt_lt_, pt_clsome, pt_ck, pt_ckL, pt_cl, pt_clL, pt_cz0, pt_cz1, pt_czi, pt_add, pt_addL, pt_Ladd, pt_mul, pt_mulL, pt_Lmul, pt_sub, pt_subL, pt_Lsub, pt_rem, pt_le, pt_leL, pt_Lle, pt_lt, pt_ltL, pt_Llt, pt_eq, pt_eqL, pt_Leq, pt_m1, pt_lt0, pt_ge0, pt_m1lt0, pt_m1ge0, pt_10, pt_01, pt_00, pt_11, pt_m11, pt_0m1, pt_1m1, pt_ib, pt_ib1, pt_hs, pt_so, pt_ofNat, pt_si, pt_sin, pt_si1, pt_si2, pt_sl, pt_sln, pt_sl0, pt_sl2, pt_sr, pt_srn, pt_sr0, pt_sr1, if_true, if_false, ite_true, ite_false, not_true_eq_false, not_false_eq_true, if_pos, if_neg]
    | some k' =>
      have hk' := hit_lt t0 (asA_lt hT) hd h5
      have := h2 k' h5
      unfold oH
      simp (disch := omega) only [pt_lt_, pt_clsome, pt_ck, pt_ckL, pt_cl, pt_clL, pt_cz0, pt_cz1, pt_czi, pt_add, pt_addL, pt_Ladd, pt_mul, pt_mulL, pt_Lmul, pt_sub, pt_subL, pt_Lsub, pt_rem, pt_le, pt_leL, pt_Lle, pt_lt, pt_ltL, pt_Llt, pt_eq, pt_eqL, pt_Leq, pt_m1, pt_lt0, pt_ge0, pt_m1lt0, pt_m1ge0, pt_10, pt_01, pt_00, pt_11, pt_m11, pt_0m1, pt_1m1, pt_ib, pt_ib1, pt_hs, pt_so, pt_ofNat, pt_si, pt_sin, pt_si1, pt_si2, pt_sl, pt_sln, pt_sl0, pt_sl2, pt_sr, pt_srn, pt_sr0, pt_sr1, if_true, if_false, ite_true, ite_false, not_true_eq_false, not_false_eq_true, if_pos, if_neg, Nat.zero_add, this]
theorem pm_endsIt {F : Nat} {hu : hd_T} {κ : kp_K} {k0 : Nat} (hT : TW hu) (hM : MT hu κ) (hk0 : k0 ≤ 4) : ∀ n j, j + n = k0 → ∀ f, n < f → ∀ d e, d < hu.2.1 0 → nodeAt (asA hu) n d = some e → bX6_endsWith_23 F f κ (nI k0) (nI d) (nI j) = some (nI e) := by
  have t0 := hT.1.1
  intro n
  induction n with
  | zero =>
    intro j hj f hf d e hd he
    obtain ⟨f, rfl⟩ : ∃ f', f = f' + 1 := ⟨f - 1, by omega⟩
    rw [bX6_endsWith_23]
    simp (disch := omega) only [pt_lt_, pt_clsome, pt_ck, pt_ckL, pt_cl, pt_clL, pt_cz0, pt_cz1, pt_czi, pt_add, pt_addL, pt_Ladd, pt_mul, pt_mulL, pt_Lmul, pt_sub, pt_subL, pt_Lsub, pt_rem, pt_le, pt_leL, pt_Lle, pt_lt, pt_ltL, pt_Llt, pt_eq, pt_eqL, pt_Leq, pt_m1, pt_lt0, pt_ge0, pt_m1lt0, pt_m1ge0, pt_10, pt_01, pt_00, pt_11, pt_m11, pt_0m1, pt_1m1, pt_ib, pt_ib1, pt_hs, pt_so, pt_ofNat, pt_si, pt_sin, pt_si1, pt_si2, pt_sl, pt_sln, pt_sl0, pt_sl2, pt_sr, pt_srn, pt_sr0, pt_sr1, if_true, if_false, ite_true, ite_false, not_true_eq_false, not_false_eq_true, if_pos, if_neg]
    cases he
    rfl
  | succ n ih =>
    intro j hj f hf d e hd he
    obtain ⟨f, rfl⟩ : ∃ f', f = f' + 1 := ⟨f - 1, by omega⟩
    have n0 : ¬ k0 ≤ j := by omega
    have e71 := (hM.2.2.2.1 d hd).2.2
    rw [bX6_endsWith_23]
    simp (disch := omega) only [pt_lt_, pt_clsome, pt_ck, pt_ckL, pt_cl, pt_clL, pt_cz0, pt_cz1, pt_czi, pt_add, pt_addL, pt_Ladd, pt_mul, pt_mulL, pt_Lmul, pt_sub, pt_subL, pt_Lsub, pt_rem, pt_le, pt_leL, pt_Lle, pt_lt, pt_ltL, pt_Llt, pt_eq, pt_eqL, pt_Leq, pt_m1, pt_lt0, pt_ge0, pt_m1lt0, pt_m1ge0, pt_10, pt_01, pt_00, pt_11, pt_m11, pt_0m1, pt_1m1, pt_ib, pt_ib1, pt_hs, pt_so, pt_ofNat, pt_si, pt_sin, pt_si1, pt_si2, pt_sl, pt_sln, pt_sl0, pt_sl2, pt_sr, pt_srn, pt_sr0, pt_sr1, if_true, if_false, ite_true, ite_false, not_true_eq_false, not_false_eq_true, if_pos, if_neg, n0, e71]
    rcases asA_of hT hd with ⟨h1, h2⟩ | ⟨a, h1, h2, h3, h4⟩
    · rw [nodeAt, h1] at he
      cases he
    · rw [nodeAt, h3] at he
      rw [h4]
      exact ih (j + 1) (by omega) f (by omega) a e h1 he
theorem pm_ends {F x y d : Nat} {hu : hd_T} {κ : kp_K} (hF : 80 ≤ F) (hT : TW hu) (hM : MT hu κ) (hx : x < 4) (hy : y < 4) (hd : d < hu.2.1 0) : pX6_endsWith F κ (nI d) (nI x) (nI y) = some (hoW hu x y d) := by
  have t0 := hT.1.1
  unfold pX6_endsWith pX6_noonsTo
  have e2 : bX6_noonsTo_6 F F κ (nI x) (nI y) (nI d) 0 = _ := pm_noons (F := F) (x := x) (y := y) hT hM hx hy 4 0 (by omega) F (by omega) d hd
  rw [e2]
  unfold hoW
  cases h1 : hit (asA hu) (fun e => decide (e = x ∨ e = y)) 4 d with
  | none =>
    unfold oH
    simp (disch := omega) only [pt_lt_, pt_clsome, pt_ck, pt_ckL, pt_cl, pt_clL, pt_cz0, pt_cz1, pt_czi, pt_add, pt_addL, pt_Ladd, pt_mul, pt_mulL, pt_Lmul, pt_sub, pt_subL, pt_Lsub, pt_rem, pt_le, pt_leL, pt_Lle, pt_lt, pt_ltL, pt_Llt, pt_eq, pt_eqL, pt_Leq, pt_m1, pt_lt0, pt_ge0, pt_m1lt0, pt_m1ge0, pt_10, pt_01, pt_00, pt_11, pt_m11, pt_0m1, pt_1m1, pt_ib, pt_ib1, pt_hs, pt_so, pt_ofNat, pt_si, pt_sin, pt_si1, pt_si2, pt_sl, pt_sln, pt_sl0, pt_sl2, pt_sr, pt_srn, pt_sr0, pt_sr1, if_true, if_false, ite_true, ite_false, not_true_eq_false, not_false_eq_true, if_pos, if_neg]
  | some k =>
    have hk := hit_lt t0 (asA_lt hT) hd h1
    obtain ⟨e, e3, e4⟩ := hit_node _ _ _ h1
    unfold oH
    simp (disch := omega) only [pt_lt_, pt_clsome, pt_ck, pt_ckL, pt_cl, pt_clL, pt_cz0, pt_cz1, pt_czi, pt_add, pt_addL, pt_Ladd, pt_mul, pt_mulL, pt_Lmul, pt_sub, pt_subL, pt_Lsub, pt_rem, pt_le, pt_leL, pt_Lle, pt_lt, pt_ltL, pt_Llt, pt_eq, pt_eqL, pt_Leq, pt_m1, pt_lt0, pt_ge0, pt_m1lt0, pt_m1ge0, pt_10, pt_01, pt_00, pt_11, pt_m11, pt_0m1, pt_1m1, pt_ib, pt_ib1, pt_hs, pt_so, pt_ofNat, pt_si, pt_sin, pt_si1, pt_si2, pt_sl, pt_sln, pt_sl0, pt_sl2, pt_sr, pt_srn, pt_sr0, pt_sr1, if_true, if_false, ite_true, ite_false, not_true_eq_false, not_false_eq_true, if_pos, if_neg, Nat.zero_add]
    rw [e3]
    exact pm_endsIt hT hM (by omega) k 0 (by omega) F (by omega) d e hd e3
