/-! PURE LAYER: what both sides read off a run -/
set_option maxRecDepth 100000
theorem pm_slot {a b c : Nat} : pX6_slot (nI a) (nI b) (nI c) = some (nI (28 * a + 7 * b + c)) := by
  unfold pX6_slot
  simp (disch := omega) only [pt_lt_, pt_clsome, pt_ck, pt_ckL, pt_cl, pt_clL, pt_cz0, pt_cz1, pt_czi, pt_add, pt_addL, pt_Ladd, pt_mul, pt_mulL, pt_Lmul, pt_sub, pt_subL, pt_Lsub, pt_rem, pt_le, pt_leL, pt_Lle, pt_lt, pt_ltL, pt_Llt, pt_eq, pt_eqL, pt_Leq, pt_m1, pt_lt0, pt_ge0, pt_m1lt0, pt_m1ge0, pt_10, pt_01, pt_00, pt_11, pt_m11, pt_0m1, pt_1m1, pt_ib, pt_ib1, pt_hs, pt_so, pt_ofNat, pt_si, pt_sin, pt_si1, pt_si2, pt_sl, pt_sln, pt_sl0, pt_sl2, pt_sr, pt_srn, pt_sr0, pt_sr1, if_true, if_false, ite_true, ite_false, not_true_eq_false, not_false_eq_true, if_pos, if_neg]
theorem px_lineOf {F r d : Nat} {κ : kp_K} {x : Int32} {m : Nat} (hd : d < 4) (hm : m ≤ 7) (hmany : κ.1 (14 + 14 * r) d = nI m) : ∀ n k, k + n = m → ∀ f, n < f → bX5_lineOf_2 F r f κ (nI d) x (nI k) = some (oI (fnd (fun j => κ.1 (18 + 14 * r) (7 * d + j)) x k n)) := by
  intro n
  induction n with
  | zero =>
    intro k hk f hf
    obtain ⟨f, rfl⟩ : ∃ f', f = f' + 1 := ⟨f - 1, by omega⟩
    rw [bX5_lineOf_2]
    simp (disch := omega) only [pt_lt_, pt_clsome, pt_ck, pt_ckL, pt_cl, pt_clL, pt_cz0, pt_cz1, pt_czi, pt_add, pt_addL, pt_Ladd, pt_mul, pt_mulL, pt_Lmul, pt_sub, pt_subL, pt_Lsub, pt_rem, pt_le, pt_leL, pt_Lle, pt_lt, pt_ltL, pt_Llt, pt_eq, pt_eqL, pt_Leq, pt_m1, pt_lt0, pt_ge0, pt_m1lt0, pt_m1ge0, pt_10, pt_01, pt_00, pt_11, pt_m11, pt_0m1, pt_1m1, pt_ib, pt_ib1, pt_hs, pt_so, pt_ofNat, pt_si, pt_sin, pt_si1, pt_si2, pt_sl, pt_sln, pt_sl0, pt_sl2, pt_sr, pt_srn, pt_sr0, pt_sr1, if_true, if_false, ite_true, ite_false, not_true_eq_false, not_false_eq_true, if_pos, if_neg, hmany]
    rfl
  | succ n ih =>
    intro k hk f hf
    obtain ⟨f, rfl⟩ : ∃ f', f = f' + 1 := ⟨f - 1, by omega⟩
    rw [bX5_lineOf_2]
    simp (disch := omega) only [pt_lt_, pt_clsome, pt_ck, pt_ckL, pt_cl, pt_clL, pt_cz0, pt_cz1, pt_czi, pt_add, pt_addL, pt_Ladd, pt_mul, pt_mulL, pt_Lmul, pt_sub, pt_subL, pt_Lsub, pt_rem, pt_le, pt_leL, pt_Lle, pt_lt, pt_ltL, pt_Llt, pt_eq, pt_eqL, pt_Leq, pt_m1, pt_lt0, pt_ge0, pt_m1lt0, pt_m1ge0, pt_10, pt_01, pt_00, pt_11, pt_m11, pt_0m1, pt_1m1, pt_ib, pt_ib1, pt_hs, pt_so, pt_ofNat, pt_si, pt_sin, pt_si1, pt_si2, pt_sl, pt_sln, pt_sl0, pt_sl2, pt_sr, pt_srn, pt_sr0, pt_sr1, if_true, if_false, ite_true, ite_false, not_true_eq_false, not_false_eq_true, if_pos, if_neg, hmany]
    rw [ih (k + 1) (by omega) f (by omega)]
    by_cases hx : κ.1 (18 + 14 * r) (7 * d + k) = x
    · rw [if_pos hx]
      simp only [fnd, if_pos hx, oI]
    · rw [if_neg hx]
      simp only [fnd, if_neg hx]
theorem pm_lineOf {F r d : Nat} {κ : kp_K} {x : Int32} {m : Nat} (hr : r < 3) (hd : d < 4) (hm : m ≤ 7) (hmany : κ.1 92 (4 * r + d) = nI m) : ∀ n k, k + n = m → ∀ f, n < f → bX6_lineOf_3 F f κ (nI r) (nI d) x (nI k) = some (oI (fnd (fun j => κ.1 93 (28 * r + 7 * d + j)) x k n)) := by
  intro n
  induction n with
  | zero =>
    intro k hk f hf
    obtain ⟨f, rfl⟩ : ∃ f', f = f' + 1 := ⟨f - 1, by omega⟩
    rw [bX6_lineOf_3]
    simp (disch := omega) only [pt_lt_, pt_clsome, pt_ck, pt_ckL, pt_cl, pt_clL, pt_cz0, pt_cz1, pt_czi, pt_add, pt_addL, pt_Ladd, pt_mul, pt_mulL, pt_Lmul, pt_sub, pt_subL, pt_Lsub, pt_rem, pt_le, pt_leL, pt_Lle, pt_lt, pt_ltL, pt_Llt, pt_eq, pt_eqL, pt_Leq, pt_m1, pt_lt0, pt_ge0, pt_m1lt0, pt_m1ge0, pt_10, pt_01, pt_00, pt_11, pt_m11, pt_0m1, pt_1m1, pt_ib, pt_ib1, pt_hs, pt_so, pt_ofNat, pt_si, pt_sin, pt_si1, pt_si2, pt_sl, pt_sln, pt_sl0, pt_sl2, pt_sr, pt_srn, pt_sr0, pt_sr1, if_true, if_false, ite_true, ite_false, not_true_eq_false, not_false_eq_true, if_pos, if_neg, hmany]
    rfl
  | succ n ih =>
    intro k hk f hf
    obtain ⟨f, rfl⟩ : ∃ f', f = f' + 1 := ⟨f - 1, by omega⟩
    rw [bX6_lineOf_3]
    simp (disch := omega) only [pt_lt_, pt_clsome, pt_ck, pt_ckL, pt_cl, pt_clL, pt_cz0, pt_cz1, pt_czi, pt_add, pt_addL, pt_Ladd, pt_mul, pt_mulL, pt_Lmul, pt_sub, pt_subL, pt_Lsub, pt_rem, pt_le, pt_leL, pt_Lle, pt_lt, pt_ltL, pt_Llt, pt_eq, pt_eqL, pt_Leq, pt_m1, pt_lt0, pt_ge0, pt_m1lt0, pt_m1ge0, pt_10, pt_01, pt_00, pt_11, pt_m11, pt_0m1, pt_1m1, pt_ib, pt_ib1, pt_hs, pt_so, pt_ofNat, pt_si, pt_sin, pt_si1, pt_si2, pt_sl, pt_sln, pt_sl0, pt_sl2, pt_sr, pt_srn, pt_sr0, pt_sr1, if_true, if_false, ite_true, ite_false, not_true_eq_false, not_false_eq_true, if_pos, if_neg, hmany, pm_slot]
    rw [ih (k + 1) (by omega) f (by omega)]
    by_cases hx : κ.1 93 (28 * r + 7 * d + k) = x
    · rw [if_pos hx]
      simp only [fnd, if_pos hx, oI]
    · rw [if_neg hx]
      simp only [fnd, if_neg hx]
theorem px_held {F r d : Nat} {κ : kp_K} {m : Nat} (hd : d < 4) (hm : m ≤ 7) (hmany : κ.1 (14 + 14 * r) d = nI m) : ∀ n k, k + n = m → ∀ f, n < f → ∀ acc, bX5_held_4 F r f κ (nI d) acc (nI k) = some (setF (fun j => κ.1 (18 + 14 * r) (7 * d + j)) k n acc) := by
  intro n
  induction n with
  | zero =>
    intro k hk f hf acc
    obtain ⟨f, rfl⟩ : ∃ f', f = f' + 1 := ⟨f - 1, by omega⟩
    rw [bX5_held_4]
    simp (disch := omega) only [pt_lt_, pt_clsome, pt_ck, pt_ckL, pt_cl, pt_clL, pt_cz0, pt_cz1, pt_czi, pt_add, pt_addL, pt_Ladd, pt_mul, pt_mulL, pt_Lmul, pt_sub, pt_subL, pt_Lsub, pt_rem, pt_le, pt_leL, pt_Lle, pt_lt, pt_ltL, pt_Llt, pt_eq, pt_eqL, pt_Leq, pt_m1, pt_lt0, pt_ge0, pt_m1lt0, pt_m1ge0, pt_10, pt_01, pt_00, pt_11, pt_m11, pt_0m1, pt_1m1, pt_ib, pt_ib1, pt_hs, pt_so, pt_ofNat, pt_si, pt_sin, pt_si1, pt_si2, pt_sl, pt_sln, pt_sl0, pt_sl2, pt_sr, pt_srn, pt_sr0, pt_sr1, if_true, if_false, ite_true, ite_false, not_true_eq_false, not_false_eq_true, if_pos, if_neg, hmany]
    rfl
  | succ n ih =>
    intro k hk f hf acc
    obtain ⟨f, rfl⟩ : ∃ f', f = f' + 1 := ⟨f - 1, by omega⟩
    rw [bX5_held_4]
    simp (disch := omega) only [pt_lt_, pt_clsome, pt_ck, pt_ckL, pt_cl, pt_clL, pt_cz0, pt_cz1, pt_czi, pt_add, pt_addL, pt_Ladd, pt_mul, pt_mulL, pt_Lmul, pt_sub, pt_subL, pt_Lsub, pt_rem, pt_le, pt_leL, pt_Lle, pt_lt, pt_ltL, pt_Llt, pt_eq, pt_eqL, pt_Leq, pt_m1, pt_lt0, pt_ge0, pt_m1lt0, pt_m1ge0, pt_10, pt_01, pt_00, pt_11, pt_m11, pt_0m1, pt_1m1, pt_ib, pt_ib1, pt_hs, pt_so, pt_ofNat, pt_si, pt_sin, pt_si1, pt_si2, pt_sl, pt_sln, pt_sl0, pt_sl2, pt_sr, pt_srn, pt_sr0, pt_sr1, if_true, if_false, ite_true, ite_false, not_true_eq_false, not_false_eq_true, if_pos, if_neg, hmany]
    rw [ih (k + 1) (by omega) f (by omega)]
    rfl
theorem pm_setOf {F r d : Nat} {κ : kp_K} {m : Nat} (hr : r < 3) (hd : d < 4) (hm : m ≤ 7) (hmany : κ.1 92 (4 * r + d) = nI m) : ∀ n k, k + n = m → ∀ f, n < f → ∀ acc, bX6_setOf_5 F f κ (nI r) (nI d) acc (nI k) = some (setF (fun j => κ.1 93 (28 * r + 7 * d + j)) k n acc) := by
  intro n
  induction n with
  | zero =>
    intro k hk f hf acc
    obtain ⟨f, rfl⟩ : ∃ f', f = f' + 1 := ⟨f - 1, by omega⟩
    rw [bX6_setOf_5]
    simp (disch := omega) only [pt_lt_, pt_clsome, pt_ck, pt_ckL, pt_cl, pt_clL, pt_cz0, pt_cz1, pt_czi, pt_add, pt_addL, pt_Ladd, pt_mul, pt_mulL, pt_Lmul, pt_sub, pt_subL, pt_Lsub, pt_rem, pt_le, pt_leL, pt_Lle, pt_lt, pt_ltL, pt_Llt, pt_eq, pt_eqL, pt_Leq, pt_m1, pt_lt0, pt_ge0, pt_m1lt0, pt_m1ge0, pt_10, pt_01, pt_00, pt_11, pt_m11, pt_0m1, pt_1m1, pt_ib, pt_ib1, pt_hs, pt_so, pt_ofNat, pt_si, pt_sin, pt_si1, pt_si2, pt_sl, pt_sln, pt_sl0, pt_sl2, pt_sr, pt_srn, pt_sr0, pt_sr1, if_true, if_false, ite_true, ite_false, not_true_eq_false, not_false_eq_true, if_pos, if_neg, hmany]
    rfl
  | succ n ih =>
    intro k hk f hf acc
    obtain ⟨f, rfl⟩ : ∃ f', f = f' + 1 := ⟨f - 1, by omega⟩
    rw [bX6_setOf_5]
    simp (disch := omega) only [pt_lt_, pt_clsome, pt_ck, pt_ckL, pt_cl, pt_clL, pt_cz0, pt_cz1, pt_czi, pt_add, pt_addL, pt_Ladd, pt_mul, pt_mulL, pt_Lmul, pt_sub, pt_subL, pt_Lsub, pt_rem, pt_le, pt_leL, pt_Lle, pt_lt, pt_ltL, pt_Llt, pt_eq, pt_eqL, pt_Leq, pt_m1, pt_lt0, pt_ge0, pt_m1lt0, pt_m1ge0, pt_10, pt_01, pt_00, pt_11, pt_m11, pt_0m1, pt_1m1, pt_ib, pt_ib1, pt_hs, pt_so, pt_ofNat, pt_si, pt_sin, pt_si1, pt_si2, pt_sl, pt_sln, pt_sl0, pt_sl2, pt_sr, pt_srn, pt_sr0, pt_sr1, if_true, if_false, ite_true, ite_false, not_true_eq_false, not_false_eq_true, if_pos, if_neg, hmany, pm_slot]
    rw [ih (k + 1) (by omega) f (by omega)]
    rfl
/-! a run as both sides have it: dy its day, mn how many lines by desks, w what went, B how many came at most -/
def RR (hu : hd_T) (r dy : Nat) (mn : Nat → Nat) (w B : Nat) (κx κm : kp_K) : Prop :=
  (κx.1 (13 + 14 * r) 1 = nI dy ∧ κm.1 91 r = nI dy ∧ dy ≤ 61) ∧
  (κx.1 (13 + 14 * r) 16 = nI w ∧ κm.1 100 r = nI w) ∧
  (∀ d, d < 4 → κx.1 (14 + 14 * r) d = nI (mn d) ∧ κm.1 92 (4 * r + d) = nI (mn d) ∧ mn d ≤ 7) ∧
  (∀ d, d < 4 → κx.1 (15 + 14 * r) d = κm.1 96 (4 * r + d) ∧ κx.1 (16 + 14 * r) d = κm.1 97 (4 * r + d) ∧ (κm.1 97 (4 * r + d) = -1 ∨ ∃ z : Nat, z ≤ 61 ∧ κm.1 97 (4 * r + d) = nI z)) ∧
  (∀ d k, d < 4 → k < mn d → κx.1 (18 + 14 * r) (7 * d + k) = κm.1 93 (28 * r + 7 * d + k) ∧ κx.1 (19 + 14 * r) (7 * d + k) = κm.1 94 (28 * r + 7 * d + k) ∧ κx.1 (20 + 14 * r) (7 * d + k) = κm.1 95 (28 * r + 7 * d + k) ∧
    (∃ f, f < hu.2.1 1 ∧ κm.1 93 (28 * r + 7 * d + k) = nI f) ∧ (∃ z : Nat, z ≤ 61 ∧ κm.1 95 (28 * r + 7 * d + k) = nI z)) ∧
  (∀ q, q < 16 → κx.1 (25 + 14 * r) q = κm.1 99 (16 * r + q)) ∧
  (∀ k, k < w → ∃ a b c e : Nat, a ≤ 61 ∧ b < 4 ∧ c < 7 ∧ e < 4 ∧ κx.1 (26 + 14 * r) k = nI (((a * 8 + b) * 8 + c) * 4 + e) ∧ κm.1 101 (640 * r + k) = nI a ∧ κm.1 102 (640 * r + k) = nI b ∧ κm.1 103 (640 * r + k) = nI c ∧ κm.1 104 (640 * r + k) = nI e) ∧
  w + (mn 0 + mn 1 + mn 2 + mn 3) ≤ B
/-- the facts of a run's lines -/
theorem RR.fact {hu : hd_T} {r dy : Nat} {mn : Nat → Nat} {w B : Nat} {κx κm : kp_K} (h : RR hu r dy mn w B κx κm) {d : Nat} (hd : d < 4) : ∀ j, 0 ≤ j → j < 0 + mn d → (fun j => κx.1 (18 + 14 * r) (7 * d + j)) j = (fun j => κm.1 93 (28 * r + 7 * d + j)) j := fun j _ hj => (h.2.2.2.2.1 d j hd (by omega)).1
/-- lineOf: both sides answer the same -/
theorem rr_lineOf {F : Nat} {hu : hd_T} {r dy : Nat} {mn : Nat → Nat} {w B : Nat} {κx κm : kp_K} (h : RR hu r dy mn w B κx κm) (hF : 20 ≤ F) (hr : r < 3) {d : Nat} (hd : d < 4) (x : Int32) : pX5_lineOf F r κx (nI d) x = some (oI (fnd (fun j => κm.1 93 (28 * r + 7 * d + j)) x 0 (mn d))) ∧ pX6_lineOf F κm (nI r) (nI d) x = some (oI (fnd (fun j => κm.1 93 (28 * r + 7 * d + j)) x 0 (mn d))) := by
  obtain ⟨e1, e2, e3⟩ := h.2.2.1 d hd
  constructor
  · rw [← fnd_congr _ _ (h.fact hd)]
    exact px_lineOf hd e3 e1 (mn d) 0 (by omega) F (by omega)
  · exact pm_lineOf hr hd e3 e2 (mn d) 0 (by omega) F (by omega)
theorem rr_held {F : Nat} {hu : hd_T} {r dy : Nat} {mn : Nat → Nat} {w B : Nat} {κx κm : kp_K} (h : RR hu r dy mn w B κx κm) (hF : 20 ≤ F) (hr : r < 3) {d : Nat} (hd : d < 4) : pX5_held F r κx (nI d) = some (setF (fun j => κm.1 93 (28 * r + 7 * d + j)) 0 (mn d) 0) ∧ pX6_setOf F κm (nI r) (nI d) = some (setF (fun j => κm.1 93 (28 * r + 7 * d + j)) 0 (mn d) 0) := by
  obtain ⟨e1, e2, e3⟩ := h.2.2.1 d hd
  constructor
  · rw [← setF_congr _ _ _ (h.fact hd)]
    exact px_held hd e3 e1 (mn d) 0 (by omega) F (by omega) 0
  · exact pm_setOf hr hd e3 e2 (mn d) 0 (by omega) F (by omega) 0
