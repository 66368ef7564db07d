/-! PURE LAYER: what is left of the desks' time -/
set_option maxRecDepth 100000
theorem kp4 {F x : Nat} {v2 : Int32} : ∀ fx fm, 0 < fx → 0 < fm → ∀ y, y ≤ x → ∃ r, bX1_keeping_8 F fx (nI x) v2 (nI y) (nI 2401) (nI 4) = some r ∧ bX6_less_11 F fm v2 (nI (x / 2401)) (nI 2401) (nI y) (nI 4) = some r ∧ (r = -1 ∨ ∃ z : Nat, z ≤ x ∧ r = nI z) := by
  intro fx fm hfx hfm y hy
  obtain ⟨fx, rfl⟩ : ∃ f', fx = f' + 1 := ⟨fx - 1, by omega⟩
  obtain ⟨fm, rfl⟩ : ∃ f', fm = f' + 1 := ⟨fm - 1, by omega⟩
  have e : (4 : Int32) ≤ nI 4 := by decide
  rw [bX1_keeping_8, bX6_less_11, if_pos e, if_pos e]
  exact ⟨_, rfl, rfl, Or.inr ⟨y, hy, rfl⟩⟩
theorem kp3 {F x : Nat} {v2 : Int32} (hx : x < 2401) : ∀ fx fm, 1 < fx → 1 < fm → ∀ y, x / 343 * 343 ≤ y → y ≤ x → ∃ r, bX1_keeping_8 F fx (nI x) v2 (nI y) (nI 343) (nI 3) = some r ∧ bX6_less_11 F fm v2 (nI (x / 343)) (nI 343) (nI y) (nI 3) = some r ∧ (r = -1 ∨ ∃ z : Nat, z ≤ x ∧ r = nI z) := by
  intro fx fm hfx hfm y hy1 hy2
  obtain ⟨fx, rfl⟩ : ∃ f', fx = f' + 1 := ⟨fx - 1, by omega⟩
  obtain ⟨fm, rfl⟩ : ∃ f', fm = f' + 1 := ⟨fm - 1, by omega⟩
  have e : ¬ (4 : Int32) ≤ nI 3 := by decide
  have e1 : nI 3 + 1 = nI 4 := rfl
  have e2 : nI 343 * 7 = nI 2401 := by decide
  have e3 : nI x / nI 343 = nI (x / 343) := pk_div (by omega) (by omega) (by omega)
  have e4 : nI (x / 343) / 7 = nI (x / 2401) := by
    rw [pt_div (by omega) (by omega) (by omega)]
    rw [Nat.div_div_eq_div_mul]
  have e5 : nI (x / 343) - nI (x / 343) / 7 * 7 = nI (x / 343 % 7) := pt_rem (by omega) (by omega) (by omega)
  rw [e4] at e5
  have e6 : p_cd (7 : Int32) (X := Int32) = fun K => K := by funext K; exact if_neg (by decide)
  have e7 : p_cd (nI 343) (X := Int32) = fun K => K := by funext K; exact if_neg (by decide)
  have hob : ((v2 >>> (nI 3 &&& 31)) &&& 1) = ob v2 (nI 3) := rfl
  have e10 : ((1 : Int32) = 0) = False := by decide
  have e01 : ((0 : Int32) = 1) = False := by decide
  rw [bX1_keeping_8, bX6_less_11, if_neg e, if_neg e, px_isOf, hob]
  unfold bX1_keeping_40 bX6_less_43
  simp only [pt_clsome, pt_lt_, e1, e2, e3, e4, e5, e6, e7]
  rcases ob_01 v2 (nI 3) with q | q
  · rw [q]
    simp only [e01, if_false, if_true]
    exact kp4 fx fm (by omega) (by omega) y hy2
  · rw [q]
    simp only [e10, if_false, if_true]
    by_cases h : x / 343 % 7 = 0
    · have e0 : nI 0 = 0 := rfl
      rw [h, if_pos e0, if_pos e0]
      exact ⟨_, rfl, rfl, Or.inl rfl⟩
    · have h2 : ¬ nI (x / 343 % 7) = 0 := by
        simp (disch := omega) only [pt_lt_, pt_clsome, pt_ck, pt_ckL, pt_cl, pt_clL, pt_cz0, pt_cz1, pt_czi, pt_add, pt_addL, pt_Ladd, pt_mul, pt_mulL, pt_Lmul, pt_sub, pt_subL, pt_Lsub, pt_rem, pt_le, pt_leL, pt_Lle, pt_lt, pt_ltL, pt_Llt, pt_eq, pt_eqL, pt_Leq, pt_m1, pt_lt0, pt_ge0, pt_m1lt0, pt_m1ge0, pt_10, pt_01, pt_00, pt_11, pt_m11, pt_0m1, pt_1m1, pt_ib, pt_ib1, pt_hs, pt_so, pt_ofNat, pt_si, pt_sin, pt_si1, pt_si2, pt_sl, pt_sln, pt_sl0, pt_sl2, pt_sr, pt_srn, pt_sr0, pt_sr1, if_true, if_false, ite_true, ite_false, not_true_eq_false, not_false_eq_true, if_pos, if_neg]
        omega
      have e8 : nI y - nI 343 = nI (y - 343) := pt_sub (by omega)
      rw [if_neg h2, if_neg h2, e8]
      exact kp4 fx fm (by omega) (by omega) (y - 343) (by omega)
theorem kp2 {F x : Nat} {v2 : Int32} (hx : x < 2401) : ∀ fx fm, 2 < fx → 2 < fm → ∀ y, x / 49 * 49 ≤ y → y ≤ x → ∃ r, bX1_keeping_8 F fx (nI x) v2 (nI y) (nI 49) (nI 2) = some r ∧ bX6_less_11 F fm v2 (nI (x / 49)) (nI 49) (nI y) (nI 2) = some r ∧ (r = -1 ∨ ∃ z : Nat, z ≤ x ∧ r = nI z) := by
  intro fx fm hfx hfm y hy1 hy2
  obtain ⟨fx, rfl⟩ : ∃ f', fx = f' + 1 := ⟨fx - 1, by omega⟩
  obtain ⟨fm, rfl⟩ : ∃ f', fm = f' + 1 := ⟨fm - 1, by omega⟩
  have e : ¬ (4 : Int32) ≤ nI 2 := by decide
  have e1 : nI 2 + 1 = nI 3 := rfl
  have e2 : nI 49 * 7 = nI 343 := by decide
  have e3 : nI x / nI 49 = nI (x / 49) := pk_div (by omega) (by omega) (by omega)
  have e4 : nI (x / 49) / 7 = nI (x / 343) := by
    rw [pt_div (by omega) (by omega) (by omega)]
    rw [Nat.div_div_eq_div_mul]
  have e5 : nI (x / 49) - nI (x / 49) / 7 * 7 = nI (x / 49 % 7) := pt_rem (by omega) (by omega) (by omega)
  rw [e4] at e5
  have e6 : p_cd (7 : Int32) (X := Int32) = fun K => K := by funext K; exact if_neg (by decide)
  have e7 : p_cd (nI 49) (X := Int32) = fun K => K := by funext K; exact if_neg (by decide)
  have hob : ((v2 >>> (nI 2 &&& 31)) &&& 1) = ob v2 (nI 2) := rfl
  have e10 : ((1 : Int32) = 0) = False := by decide
  have e01 : ((0 : Int32) = 1) = False := by decide
  rw [bX1_keeping_8, bX6_less_11, if_neg e, if_neg e, px_isOf, hob]
  unfold bX1_keeping_40 bX6_less_43
  simp only [pt_clsome, pt_lt_, e1, e2, e3, e4, e5, e6, e7]
  rcases ob_01 v2 (nI 2) with q | q
  · rw [q]
    simp only [e01, if_false, if_true]
    exact kp3 (by omega) fx fm (by omega) (by omega) y (by omega) hy2
  · rw [q]
    simp only [e10, if_false, if_true]
    by_cases h : x / 49 % 7 = 0
    · have e0 : nI 0 = 0 := rfl
      rw [h, if_pos e0, if_pos e0]
      exact ⟨_, rfl, rfl, Or.inl rfl⟩
    · have h2 : ¬ nI (x / 49 % 7) = 0 := by
        simp (disch := omega) only [pt_lt_, pt_clsome, pt_ck, pt_ckL, pt_cl, pt_clL, pt_cz0, pt_cz1, pt_czi, pt_add, pt_addL, pt_Ladd, pt_mul, pt_mulL, pt_Lmul, pt_sub, pt_subL, pt_Lsub, pt_rem, pt_le, pt_leL, pt_Lle, pt_lt, pt_ltL, pt_Llt, pt_eq, pt_eqL, pt_Leq, pt_m1, pt_lt0, pt_ge0, pt_m1lt0, pt_m1ge0, pt_10, pt_01, pt_00, pt_11, pt_m11, pt_0m1, pt_1m1, pt_ib, pt_ib1, pt_hs, pt_so, pt_ofNat, pt_si, pt_sin, pt_si1, pt_si2, pt_sl, pt_sln, pt_sl0, pt_sl2, pt_sr, pt_srn, pt_sr0, pt_sr1, if_true, if_false, ite_true, ite_false, not_true_eq_false, not_false_eq_true, if_pos, if_neg]
        omega
      have e8 : nI y - nI 49 = nI (y - 49) := pt_sub (by omega)
      rw [if_neg h2, if_neg h2, e8]
      exact kp3 (by omega) fx fm (by omega) (by omega) (y - 49) (by omega) (by omega)
theorem kp1 {F x : Nat} {v2 : Int32} (hx : x < 2401) : ∀ fx fm, 3 < fx → 3 < fm → ∀ y, x / 7 * 7 ≤ y → y ≤ x → ∃ r, bX1_keeping_8 F fx (nI x) v2 (nI y) (nI 7) (nI 1) = some r ∧ bX6_less_11 F fm v2 (nI (x / 7)) (nI 7) (nI y) (nI 1) = some r ∧ (r = -1 ∨ ∃ z : Nat, z ≤ x ∧ r = nI z) := by
  intro fx fm hfx hfm y hy1 hy2
  obtain ⟨fx, rfl⟩ : ∃ f', fx = f' + 1 := ⟨fx - 1, by omega⟩
  obtain ⟨fm, rfl⟩ : ∃ f', fm = f' + 1 := ⟨fm - 1, by omega⟩
  have e : ¬ (4 : Int32) ≤ nI 1 := by decide
  have e1 : nI 1 + 1 = nI 2 := rfl
  have e2 : nI 7 * 7 = nI 49 := by decide
  have e3 : nI x / nI 7 = nI (x / 7) := pk_div (by omega) (by omega) (by omega)
  have e4 : nI (x / 7) / 7 = nI (x / 49) := by
    rw [pt_div (by omega) (by omega) (by omega)]
    rw [Nat.div_div_eq_div_mul]
  have e5 : nI (x / 7) - nI (x / 7) / 7 * 7 = nI (x / 7 % 7) := pt_rem (by omega) (by omega) (by omega)
  rw [e4] at e5
  have e6 : p_cd (7 : Int32) (X := Int32) = fun K => K := by funext K; exact if_neg (by decide)
  have e7 : p_cd (nI 7) (X := Int32) = fun K => K := by funext K; exact if_neg (by decide)
  have hob : ((v2 >>> (nI 1 &&& 31)) &&& 1) = ob v2 (nI 1) := rfl
  have e10 : ((1 : Int32) = 0) = False := by decide
  have e01 : ((0 : Int32) = 1) = False := by decide
  rw [bX1_keeping_8, bX6_less_11, if_neg e, if_neg e, px_isOf, hob]
  unfold bX1_keeping_40 bX6_less_43
  simp only [pt_clsome, pt_lt_, e1, e2, e3, e4, e5, e6, e7]
  rcases ob_01 v2 (nI 1) with q | q
  · rw [q]
    simp only [e01, if_false, if_true]
    exact kp2 (by omega) fx fm (by omega) (by omega) y (by omega) hy2
  · rw [q]
    simp only [e10, if_false, if_true]
    by_cases h : x / 7 % 7 = 0
    · have e0 : nI 0 = 0 := rfl
      rw [h, if_pos e0, if_pos e0]
      exact ⟨_, rfl, rfl, Or.inl rfl⟩
    · have h2 : ¬ nI (x / 7 % 7) = 0 := by
        simp (disch := omega) only [pt_lt_, pt_clsome, pt_ck, pt_ckL, pt_cl, pt_clL, pt_cz0, pt_cz1, pt_czi, pt_add, pt_addL, pt_Ladd, pt_mul, pt_mulL, pt_Lmul, pt_sub, pt_subL, pt_Lsub, pt_rem, pt_le, pt_leL, pt_Lle, pt_lt, pt_ltL, pt_Llt, pt_eq, pt_eqL, pt_Leq, pt_m1, pt_lt0, pt_ge0, pt_m1lt0, pt_m1ge0, pt_10, pt_01, pt_00, pt_11, pt_m11, pt_0m1, pt_1m1, pt_ib, pt_ib1, pt_hs, pt_so, pt_ofNat, pt_si, pt_sin, pt_si1, pt_si2, pt_sl, pt_sln, pt_sl0, pt_sl2, pt_sr, pt_srn, pt_sr0, pt_sr1, if_true, if_false, ite_true, ite_false, not_true_eq_false, not_false_eq_true, if_pos, if_neg]
        omega
      have e8 : nI y - nI 7 = nI (y - 7) := pt_sub (by omega)
      rw [if_neg h2, if_neg h2, e8]
      exact kp2 (by omega) fx fm (by omega) (by omega) (y - 7) (by omega) (by omega)
theorem kp0 {F x : Nat} {v2 : Int32} (hx : x < 2401) : ∀ fx fm, 4 < fx → 4 < fm → ∀ y, x / 1 * 1 ≤ y → y ≤ x → ∃ r, bX1_keeping_8 F fx (nI x) v2 (nI y) (nI 1) (nI 0) = some r ∧ bX6_less_11 F fm v2 (nI (x / 1)) (nI 1) (nI y) (nI 0) = some r ∧ (r = -1 ∨ ∃ z : Nat, z ≤ x ∧ r = nI z) := by
  intro fx fm hfx hfm y hy1 hy2
  obtain ⟨fx, rfl⟩ : ∃ f', fx = f' + 1 := ⟨fx - 1, by omega⟩
  obtain ⟨fm, rfl⟩ : ∃ f', fm = f' + 1 := ⟨fm - 1, by omega⟩
  have e : ¬ (4 : Int32) ≤ nI 0 := by decide
  have e1 : nI 0 + 1 = nI 1 := rfl
  have e2 : nI 1 * 7 = nI 7 := by decide
  have e3 : nI x / nI 1 = nI (x / 1) := pk_div (by omega) (by omega) (by omega)
  have e4 : nI (x / 1) / 7 = nI (x / 7) := by
    rw [pt_div (by omega) (by omega) (by omega)]
    rw [Nat.div_div_eq_div_mul]
  have e5 : nI (x / 1) - nI (x / 1) / 7 * 7 = nI (x / 1 % 7) := pt_rem (by omega) (by omega) (by omega)
  rw [e4] at e5
  have e6 : p_cd (7 : Int32) (X := Int32) = fun K => K := by funext K; exact if_neg (by decide)
  have e7 : p_cd (nI 1) (X := Int32) = fun K => K := by funext K; exact if_neg (by decide)
  have hob : ((v2 >>> (nI 0 &&& 31)) &&& 1) = ob v2 (nI 0) := rfl
  have e10 : ((1 : Int32) = 0) = False := by decide
  have e01 : ((0 : Int32) = 1) = False := by decide
  rw [bX1_keeping_8, bX6_less_11, if_neg e, if_neg e, px_isOf, hob]
  unfold bX1_keeping_40 bX6_less_43
  simp only [pt_clsome, pt_lt_, e1, e2, e3, e4, e5, e6, e7]
  rcases ob_01 v2 (nI 0) with q | q
  · rw [q]
    simp only [e01, if_false, if_true]
    exact kp1 (by omega) fx fm (by omega) (by omega) y (by omega) hy2
  · rw [q]
    simp only [e10, if_false, if_true]
    by_cases h : x / 1 % 7 = 0
    · have e0 : nI 0 = 0 := rfl
      rw [h, if_pos e0, if_pos e0]
      exact ⟨_, rfl, rfl, Or.inl rfl⟩
    · have h2 : ¬ nI (x / 1 % 7) = 0 := by
        simp (disch := omega) only [pt_lt_, pt_clsome, pt_ck, pt_ckL, pt_cl, pt_clL, pt_cz0, pt_cz1, pt_czi, pt_add, pt_addL, pt_Ladd, pt_mul, pt_mulL, pt_Lmul, pt_sub, pt_subL, pt_Lsub, pt_rem, pt_le, pt_leL, pt_Lle, pt_lt, pt_ltL, pt_Llt, pt_eq, pt_eqL, pt_Leq, pt_m1, pt_lt0, pt_ge0, pt_m1lt0, pt_m1ge0, pt_10, pt_01, pt_00, pt_11, pt_m11, pt_0m1, pt_1m1, pt_ib, pt_ib1, pt_hs, pt_so, pt_ofNat, pt_si, pt_sin, pt_si1, pt_si2, pt_sl, pt_sln, pt_sl0, pt_sl2, pt_sr, pt_srn, pt_sr0, pt_sr1, if_true, if_false, ite_true, ite_false, not_true_eq_false, not_false_eq_true, if_pos, if_neg]
        omega
      have e8 : nI y - nI 1 = nI (y - 1) := pt_sub (by omega)
      rw [if_neg h2, if_neg h2, e8]
      exact kp1 (by omega) fx fm (by omega) (by omega) (y - 1) (by omega) (by omega)
/-- what is left, on both sides -/
theorem kp_ls {F x : Nat} {v2 : Int32} (hF : 80 ≤ F) (hx : x < 2401) : ∃ r, pX1_keeping F (nI x) v2 = some r ∧ pX6_less F (nI x) v2 = some r ∧ (r = -1 ∨ ∃ z : Nat, z ≤ x ∧ r = nI z) := by
  obtain ⟨r, r1, r2, r3⟩ := kp0 (F := F) (x := x) (v2 := v2) hx F F (by omega) (by omega) x (by omega) (Nat.le_refl x)
  rw [Nat.div_one] at r2
  exact ⟨r, r1, r2, r3⟩
