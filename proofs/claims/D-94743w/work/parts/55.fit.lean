/-! PURE LAYER: does a choice fit what is known -/
set_option maxRecDepth 100000
/-- what is known: the two lists -/
def KN (hu : hd_T) (s : Nat) (κx κm : kp_K) : Prop := s ≤ 24 ∧ pX1_knownBy κx = some (nI s) ∧ pX6_knownMany κm = some (nI s) ∧ ∀ k, k < s → κx.1 63 k = κm.1 113 k ∧ κx.1 64 k = κm.1 114 k ∧ ((∃ q a : Nat, q < hu.2.1 3 ∧ a ≤ 2 ∧ κm.1 113 k = nI q ∧ κm.1 114 k = nI a) ∨ (κm.1 113 k = -1 ∧ ∃ j : Nat, j < k ∧ κm.1 114 k = nI j))
theorem KN.same {hu : hd_T} {s : Nat} {κx κm κx' κm' : kp_K} (h : KN hu s κx κm) (gx : ∀ j i, (j = 0 ∧ (i = 25 ∨ i = 26)) ∨ j = 63 ∨ j = 64 → κx'.1 j i = κx.1 j i) (gm : ∀ j i, (j = 66 ∧ (i = 71 ∨ i = 72)) ∨ j = 113 ∨ j = 114 → κm'.1 j i = κm.1 j i) : KN hu s κx' κm' := by
  obtain ⟨a1, a2, a3, a4⟩ := h
  refine ⟨a1, ?_, ?_, fun k hk => ?_⟩
  · unfold pX1_knownBy at a2 ⊢
    rw [gx 0 25 (by omega), gx 0 26 (by omega)]
    exact a2
  · unfold pX6_knownMany at a3 ⊢
    rw [gm 66 71 (by omega), gm 66 72 (by omega)]
    exact a3
  · rw [gx 63 k (by omega), gx 64 k (by omega), gm 113 k (by omega), gm 114 k (by omega)]
    exact a4 k hk
theorem INV.kn {hu : hd_T} {hb : Nat} {κx κm : kp_K} (I : INV hu hb κx κm) : ∃ s, KN hu s κx κm := by
  obtain ⟨s, s1, s2, s3, n, n1, n2, n3⟩ := known_by I
  obtain ⟨n', q1, q2, q3, q4, q5, q6⟩ := I.2.2.2.2.2.2.2.2
  have e : n' = n := by
    rw [n2, pt_eq (by omega) (by omega)] at q2
    exact q2.symm
  subst e
  exact ⟨s, s1, s2, s3, fun k hk => q6 k (by omega)⟩
theorem fit_loop {F : Nat} {hb : Nat} {hu : hd_T} {s : Nat} {κx κm : kp_K} (h16 : hu.2.1 3 ≤ 16) (hk : KN hu s κx κm) (hst : ∀ k, k < s → κx.1 65 k = κm.1 115 k) (hq : ∀ q, q < 16 → κx.1 39 q = κm.1 99 (16 + q)) : ∀ m k, k + m = s → ∀ fx fm, m < fx → m < fm → ∃ b : Bool, bX1_isFit_27 F hb hu fx κx (nI k) = some (if b then 1 else 0, κx) ∧ bX6_goesAsHeard_26 F fm κm (nI k) = some (if b then 1 else 0, κm) := by
  obtain ⟨s1, s2, s3, s4⟩ := hk
  intro m
  induction m with
  | zero =>
    intro k hk fx fm hfx hfm
    obtain ⟨fx, rfl⟩ : ∃ f', fx = f' + 1 := ⟨fx - 1, by omega⟩
    obtain ⟨fm, rfl⟩ : ∃ f', fm = f' + 1 := ⟨fm - 1, by omega⟩
    rw [bX1_isFit_27, bX6_goesAsHeard_26, s2, s3]
    simp (disch := omega) only [pt_lt_, pt_clsome, pt_ck, pt_ckL, pt_cl, pt_clL, pt_cz0, pt_cz1, pt_czi, pt_add, pt_addL, pt_Ladd, pt_mul, pt_mulL, pt_Lmul, pt_sub, pt_subL, pt_Lsub, pt_rem, pt_le, pt_leL, pt_Lle, pt_lt, pt_ltL, pt_Llt, pt_eq, pt_eqL, pt_Leq, pt_m1, pt_lt0, pt_ge0, pt_m1lt0, pt_m1ge0, pt_10, pt_01, pt_00, pt_11, pt_m11, pt_0m1, pt_1m1, pt_ib, pt_ib1, pt_hs, pt_so, pt_ofNat, pt_si, pt_sin, pt_si1, pt_si2, pt_sl, pt_sln, pt_sl0, pt_sl2, pt_sr, pt_srn, pt_sr0, pt_sr1, if_true, if_false, ite_true, ite_false, not_true_eq_false, not_false_eq_true, if_pos, if_neg]
    exact ⟨true, rfl, rfl⟩
  | succ m ih =>
    intro k hk fx fm hfx hfm
    obtain ⟨fx, rfl⟩ : ∃ f', fx = f' + 1 := ⟨fx - 1, by omega⟩
    obtain ⟨fm, rfl⟩ : ∃ f', fm = f' + 1 := ⟨fm - 1, by omega⟩
    have next := ih (k + 1) (by omega) fx fm (by omega) (by omega)
    rw [bX1_isFit_27, bX6_goesAsHeard_26, s2, s3]
    obtain ⟨e1, e2, e3⟩ := s4 k (by omega)
    have e0 := hst k (by omega)
    have hle : ¬ s ≤ k := by omega
    simp (disch := omega) only [pt_lt_, pt_clsome, pt_ck, pt_ckL, pt_cl, pt_clL, pt_cz0, pt_cz1, pt_czi, pt_add, pt_addL, pt_Ladd, pt_mul, pt_mulL, pt_Lmul, pt_sub, pt_subL, pt_Lsub, pt_rem, pt_le, pt_leL, pt_Lle, pt_lt, pt_ltL, pt_Llt, pt_eq, pt_eqL, pt_Leq, pt_m1, pt_lt0, pt_ge0, pt_m1lt0, pt_m1ge0, pt_10, pt_01, pt_00, pt_11, pt_m11, pt_0m1, pt_1m1, pt_ib, pt_ib1, pt_hs, pt_so, pt_ofNat, pt_si, pt_sin, pt_si1, pt_si2, pt_sl, pt_sln, pt_sl0, pt_sl2, pt_sr, pt_srn, pt_sr0, pt_sr1, if_true, if_false, ite_true, ite_false, not_true_eq_false, not_false_eq_true, e0, e1, e2, hle]
    by_cases h0 : κm.1 115 k = 0
    · rw [if_pos h0, if_pos h0]
      rcases e3 with ⟨q, a, q1, a1, e4, e5⟩ | ⟨e4, -⟩
      · rw [e4, e5]
        simp (disch := omega) only [pt_lt_, pt_clsome, pt_ck, pt_ckL, pt_cl, pt_clL, pt_cz0, pt_cz1, pt_czi, pt_add, pt_addL, pt_Ladd, pt_mul, pt_mulL, pt_Lmul, pt_sub, pt_subL, pt_Lsub, pt_rem, pt_le, pt_leL, pt_Lle, pt_lt, pt_ltL, pt_Llt, pt_eq, pt_eqL, pt_Leq, pt_m1, pt_lt0, pt_ge0, pt_m1lt0, pt_m1ge0, pt_10, pt_01, pt_00, pt_11, pt_m11, pt_0m1, pt_1m1, pt_ib, pt_ib1, pt_hs, pt_so, pt_ofNat, pt_si, pt_sin, pt_si1, pt_si2, pt_sl, pt_sln, pt_sl0, pt_sl2, pt_sr, pt_srn, pt_sr0, pt_sr1, if_true, if_false, ite_true, ite_false, not_true_eq_false, not_false_eq_true, if_pos, if_neg, hq q (by omega)]
        by_cases h1 : κm.1 99 (16 + q) = nI a
        · rw [if_pos h1, if_pos h1]
          exact next
        · rw [if_neg h1, if_neg h1]
          exact ⟨false, rfl, rfl⟩
      · rw [e4]
        simp (disch := omega) only [pt_lt_, pt_clsome, pt_ck, pt_ckL, pt_cl, pt_clL, pt_cz0, pt_cz1, pt_czi, pt_add, pt_addL, pt_Ladd, pt_mul, pt_mulL, pt_Lmul, pt_sub, pt_subL, pt_Lsub, pt_rem, pt_le, pt_leL, pt_Lle, pt_lt, pt_ltL, pt_Llt, pt_eq, pt_eqL, pt_Leq, pt_m1, pt_lt0, pt_ge0, pt_m1lt0, pt_m1ge0, pt_10, pt_01, pt_00, pt_11, pt_m11, pt_0m1, pt_1m1, pt_ib, pt_ib1, pt_hs, pt_so, pt_ofNat, pt_si, pt_sin, pt_si1, pt_si2, pt_sl, pt_sln, pt_sl0, pt_sl2, pt_sr, pt_srn, pt_sr0, pt_sr1, if_true, if_false, ite_true, ite_false, not_true_eq_false, not_false_eq_true, if_pos, if_neg]
        exact next
    · rw [if_neg h0, if_neg h0]
      exact next
theorem pm_heardIt {F : Nat} : ∀ n k, k + n = 61 → ∀ f, n < f → ∀ κ, bX6_goesAsHeard_7 F f κ (nI k) = p_cl (itP F 1 n κ) fun κ' => bX6_goesAsHeard_26 F F κ' 0 := by
  intro n
  induction n with
  | zero =>
    intro k hk f hf κ
    obtain ⟨f, rfl⟩ : ∃ f', f = f' + 1 := ⟨f - 1, by omega⟩
    rw [bX6_goesAsHeard_7]
    unfold itP
    simp (disch := omega) only [pt_lt_, pt_clsome, pt_ck, pt_ckL, pt_cl, pt_clL, pt_cz0, pt_cz1, pt_czi, pt_add, pt_addL, pt_Ladd, pt_mul, pt_mulL, pt_Lmul, pt_sub, pt_subL, pt_Lsub, pt_rem, pt_le, pt_leL, pt_Lle, pt_lt, pt_ltL, pt_Llt, pt_eq, pt_eqL, pt_Leq, pt_m1, pt_lt0, pt_ge0, pt_m1lt0, pt_m1ge0, pt_10, pt_01, pt_00, pt_11, pt_m11, pt_0m1, pt_1m1, pt_ib, pt_ib1, pt_hs, pt_so, pt_ofNat, pt_si, pt_sin, pt_si1, pt_si2, pt_sl, pt_sln, pt_sl0, pt_sl2, pt_sr, pt_srn, pt_sr0, pt_sr1, if_true, if_false, ite_true, ite_false, not_true_eq_false, not_false_eq_true, if_pos, if_neg]
  | succ n ih =>
    intro k hk f hf κ
    obtain ⟨f, rfl⟩ : ∃ f', f = f' + 1 := ⟨f - 1, by omega⟩
    rw [bX6_goesAsHeard_7]
    unfold itP
    simp (disch := omega) only [pt_lt_, pt_clsome, pt_ck, pt_ckL, pt_cl, pt_clL, pt_cz0, pt_cz1, pt_czi, pt_add, pt_addL, pt_Ladd, pt_mul, pt_mulL, pt_Lmul, pt_sub, pt_subL, pt_Lsub, pt_rem, pt_le, pt_leL, pt_Lle, pt_lt, pt_ltL, pt_Llt, pt_eq, pt_eqL, pt_Leq, pt_m1, pt_lt0, pt_ge0, pt_m1lt0, pt_m1ge0, pt_10, pt_01, pt_00, pt_11, pt_m11, pt_0m1, pt_1m1, pt_ib, pt_ib1, pt_hs, pt_so, pt_ofNat, pt_si, pt_sin, pt_si1, pt_si2, pt_sl, pt_sln, pt_sl0, pt_sl2, pt_sr, pt_srn, pt_sr0, pt_sr1, if_true, if_false, ite_true, ite_false, not_true_eq_false, not_false_eq_true, if_pos, if_neg]
    have e : pX6_passes F κ 1 = pX6_passes F κ (nI 1) := rfl
    rw [e]
    cases pX6_passes F κ (nI 1) with
    | none => rfl
    | some κ1 => exact ih (k + 1) (by omega) f (by omega) κ1
/-- what a fit may write -/
def FX (j i : Nat) : Prop := j = 12 ∨ PX 1 j i
def FM (j i : Nat) : Prop := PM 1 j i ∨ (j = 66 ∧ i = 39)
/-- what a fit rests on -/
def ST (hu : hd_T) (hb s : Nat) (κx κm : kp_K) : Prop := TW hu ∧ MT hu κm ∧ κx.2.2 0 4 = some hb ∧ κm.1 66 37 = -1 ∧ κm.1 66 38 = -1 ∧ κm.1 66 59 = 0 ∧ KN hu s κx κm ∧ ∀ k, k < s → κx.1 65 k = κm.1 115 k
theorem ST.same {hu : hd_T} {hb s : Nat} {κx κm κx' κm' : kp_K} (h : ST hu hb s κx κm) (gx : ∀ j i, ¬ FX j i → κx'.1 j i = κx.1 j i) (gr : κx'.2.2 0 4 = κx.2.2 0 4) (gm : ∀ j i, ¬ FM j i → κm'.1 j i = κm.1 j i) (hn : κm'.1 66 59 = 0) : ST hu hb s κx' κm' := by
  obtain ⟨h1, h2, h3, h4, h5, h6, h7, h8⟩ := h
  refine ⟨h1, h2.same (fun j i a b => gm j i (by unfold FM PM; omega)), gr.trans h3, ?_, ?_, hn, h7.same (fun j i q => gx j i (by unfold FX PX; omega)) (fun j i q => gm j i (by unfold FM PM; omega)), fun k hk => ?_⟩
  · rw [gm 66 37 (by unfold FM PM; omega)]; exact h4
  · rw [gm 66 38 (by unfold FM PM; omega)]; exact h5
  · rw [gx 65 k (by unfold FX PX; omega), gm 115 k (by unfold FM PM; omega)]; exact h8 k hk
theorem fit_ls {F : Nat} {hu : hd_T} {hb s z : Nat} {κx κm : kp_K} {o : Option Nat} (hF : 80 ≤ F) (hz : z < 12) (S : ST hu hb s κx κm) (hsr : SR hu κm z o) : ∃ (b : Bool) (k m : kp_K), pX1_isFit F hb hu κx o = some (if b then 1 else 0, k) ∧ pX6_goesAsHeard F (s_i κm 66 39 (nI z)) = some (if b then 1 else 0, m) ∧ (∀ j i, ¬ FX j i → k.1 j i = κx.1 j i ∧ k.2.1 j i = κx.2.1 j i) ∧ (∀ j i, ¬ (j = 12 ∨ j = 27) → k.2.2 j i = κx.2.2 j i) ∧ Fr FM κm m ∧ m.1 66 59 = 0 := by
  obtain ⟨hT, hM, hs, h37, h38, h59, hk, hst⟩ := S
  have hM2 : MT hu (s_i κm 66 39 (nI z)) := hM.same (fun j i a b => pt_sin (by omega))
  have hro : (clr κx o).2.2 12 0 = o := by rw [clr_r, pt_sr (by omega)]
  have hc : CH hu 12 (clr κx o) (s_i κm 66 39 (nI z)) := by
    refine ch_mk (s := z) (-1) (-1) (by simp (disch := omega) only [pt_lt_, pt_clsome, pt_ck, pt_ckL, pt_cl, pt_clL, pt_cz0, pt_cz1, pt_czi, pt_add, pt_addL, pt_Ladd, pt_mul, pt_mulL, pt_Lmul, pt_sub, pt_subL, pt_Lsub, pt_rem, pt_le, pt_leL, pt_Lle, pt_lt, pt_ltL, pt_Llt, pt_eq, pt_eqL, pt_Leq, pt_m1, pt_lt0, pt_ge0, pt_m1lt0, pt_m1ge0, pt_10, pt_01, pt_00, pt_11, pt_m11, pt_0m1, pt_1m1, pt_ib, pt_ib1, pt_hs, pt_so, pt_ofNat, pt_si, pt_sin, pt_si1, pt_si2, pt_sl, pt_sln, pt_sl0, pt_sl2, pt_sr, pt_srn, pt_sr0, pt_sr1, if_true, if_false, ite_true, ite_false, not_true_eq_false, not_false_eq_true, if_pos, if_neg]; exact h37) (by simp (disch := omega) only [pt_lt_, pt_clsome, pt_ck, pt_ckL, pt_cl, pt_clL, pt_cz0, pt_cz1, pt_czi, pt_add, pt_addL, pt_Ladd, pt_mul, pt_mulL, pt_Lmul, pt_sub, pt_subL, pt_Lsub, pt_rem, pt_le, pt_leL, pt_Lle, pt_lt, pt_ltL, pt_Llt, pt_eq, pt_eqL, pt_Leq, pt_m1, pt_lt0, pt_ge0, pt_m1lt0, pt_m1ge0, pt_10, pt_01, pt_00, pt_11, pt_m11, pt_0m1, pt_1m1, pt_ib, pt_ib1, pt_hs, pt_so, pt_ofNat, pt_si, pt_sin, pt_si1, pt_si2, pt_sl, pt_sln, pt_sl0, pt_sl2, pt_sr, pt_srn, pt_sr0, pt_sr1, if_true, if_false, ite_true, ite_false, not_true_eq_false, not_false_eq_true, if_pos, if_neg]; exact h38) (by simp (disch := omega) only [pt_lt_, pt_clsome, pt_ck, pt_ckL, pt_cl, pt_clL, pt_cz0, pt_cz1, pt_czi, pt_add, pt_addL, pt_Ladd, pt_mul, pt_mulL, pt_Lmul, pt_sub, pt_subL, pt_Lsub, pt_rem, pt_le, pt_leL, pt_Lle, pt_lt, pt_ltL, pt_Llt, pt_eq, pt_eqL, pt_Leq, pt_m1, pt_lt0, pt_ge0, pt_m1lt0, pt_m1ge0, pt_10, pt_01, pt_00, pt_11, pt_m11, pt_0m1, pt_1m1, pt_ib, pt_ib1, pt_hs, pt_so, pt_ofNat, pt_si, pt_sin, pt_si1, pt_si2, pt_sl, pt_sln, pt_sl0, pt_sl2, pt_sr, pt_srn, pt_sr0, pt_sr1, if_true, if_false, ite_true, ite_false, not_true_eq_false, not_false_eq_true, if_pos, if_neg]) hz ?_ ?_ ?_ ?_ ?_ ?_ ?_
    · rw [hro]
      exact hsr.same (fun j i a b => pt_sin (by omega))
    · unfold clr; simp (disch := omega) only [pt_lt_, pt_clsome, pt_ck, pt_ckL, pt_cl, pt_clL, pt_cz0, pt_cz1, pt_czi, pt_add, pt_addL, pt_Ladd, pt_mul, pt_mulL, pt_Lmul, pt_sub, pt_subL, pt_Lsub, pt_rem, pt_le, pt_leL, pt_Lle, pt_lt, pt_ltL, pt_Llt, pt_eq, pt_eqL, pt_Leq, pt_m1, pt_lt0, pt_ge0, pt_m1lt0, pt_m1ge0, pt_10, pt_01, pt_00, pt_11, pt_m11, pt_0m1, pt_1m1, pt_ib, pt_ib1, pt_hs, pt_so, pt_ofNat, pt_si, pt_sin, pt_si1, pt_si2, pt_sl, pt_sln, pt_sl0, pt_sl2, pt_sr, pt_srn, pt_sr0, pt_sr1, if_true, if_false, ite_true, ite_false, not_true_eq_false, not_false_eq_true, if_pos, if_neg]; try decide
    · unfold clr; simp (disch := omega) only [pt_lt_, pt_clsome, pt_ck, pt_ckL, pt_cl, pt_clL, pt_cz0, pt_cz1, pt_czi, pt_add, pt_addL, pt_Ladd, pt_mul, pt_mulL, pt_Lmul, pt_sub, pt_subL, pt_Lsub, pt_rem, pt_le, pt_leL, pt_Lle, pt_lt, pt_ltL, pt_Llt, pt_eq, pt_eqL, pt_Leq, pt_m1, pt_lt0, pt_ge0, pt_m1lt0, pt_m1ge0, pt_10, pt_01, pt_00, pt_11, pt_m11, pt_0m1, pt_1m1, pt_ib, pt_ib1, pt_hs, pt_so, pt_ofNat, pt_si, pt_sin, pt_si1, pt_si2, pt_sl, pt_sln, pt_sl0, pt_sl2, pt_sr, pt_srn, pt_sr0, pt_sr1, if_true, if_false, ite_true, ite_false, not_true_eq_false, not_false_eq_true, if_pos, if_neg]; try decide
    · unfold clr; simp (disch := omega) only [pt_lt_, pt_clsome, pt_ck, pt_ckL, pt_cl, pt_clL, pt_cz0, pt_cz1, pt_czi, pt_add, pt_addL, pt_Ladd, pt_mul, pt_mulL, pt_Lmul, pt_sub, pt_subL, pt_Lsub, pt_rem, pt_le, pt_leL, pt_Lle, pt_lt, pt_ltL, pt_Llt, pt_eq, pt_eqL, pt_Leq, pt_m1, pt_lt0, pt_ge0, pt_m1lt0, pt_m1ge0, pt_10, pt_01, pt_00, pt_11, pt_m11, pt_0m1, pt_1m1, pt_ib, pt_ib1, pt_hs, pt_so, pt_ofNat, pt_si, pt_sin, pt_si1, pt_si2, pt_sl, pt_sln, pt_sl0, pt_sl2, pt_sr, pt_srn, pt_sr0, pt_sr1, if_true, if_false, ite_true, ite_false, not_true_eq_false, not_false_eq_true, if_pos, if_neg]; try decide
    · unfold clr; simp (disch := omega) only [pt_lt_, pt_clsome, pt_ck, pt_ckL, pt_cl, pt_clL, pt_cz0, pt_cz1, pt_czi, pt_add, pt_addL, pt_Ladd, pt_mul, pt_mulL, pt_Lmul, pt_sub, pt_subL, pt_Lsub, pt_rem, pt_le, pt_leL, pt_Lle, pt_lt, pt_ltL, pt_Llt, pt_eq, pt_eqL, pt_Leq, pt_m1, pt_lt0, pt_ge0, pt_m1lt0, pt_m1ge0, pt_10, pt_01, pt_00, pt_11, pt_m11, pt_0m1, pt_1m1, pt_ib, pt_ib1, pt_hs, pt_so, pt_ofNat, pt_si, pt_sin, pt_si1, pt_si2, pt_sl, pt_sln, pt_sl0, pt_sl2, pt_sr, pt_srn, pt_sr0, pt_sr1, if_true, if_false, ite_true, ite_false, not_true_eq_false, not_false_eq_true, if_pos, if_neg]; try decide
    · unfold clr; simp (disch := omega) only [pt_lt_, pt_clsome, pt_ck, pt_ckL, pt_cl, pt_clL, pt_cz0, pt_cz1, pt_czi, pt_add, pt_addL, pt_Ladd, pt_mul, pt_mulL, pt_Lmul, pt_sub, pt_subL, pt_Lsub, pt_rem, pt_le, pt_leL, pt_Lle, pt_lt, pt_ltL, pt_Llt, pt_eq, pt_eqL, pt_Leq, pt_m1, pt_lt0, pt_ge0, pt_m1lt0, pt_m1ge0, pt_10, pt_01, pt_00, pt_11, pt_m11, pt_0m1, pt_1m1, pt_ib, pt_ib1, pt_hs, pt_so, pt_ofNat, pt_si, pt_sin, pt_si1, pt_si2, pt_sl, pt_sln, pt_sl0, pt_sl2, pt_sr, pt_srn, pt_sr0, pt_sr1, if_true, if_false, ite_true, ite_false, not_true_eq_false, not_false_eq_true, if_pos, if_neg]; try decide
    · unfold clr; simp (disch := omega) only [pt_lt_, pt_clsome, pt_ck, pt_ckL, pt_cl, pt_clL, pt_cz0, pt_cz1, pt_czi, pt_add, pt_addL, pt_Ladd, pt_mul, pt_mulL, pt_Lmul, pt_sub, pt_subL, pt_Lsub, pt_rem, pt_le, pt_leL, pt_Lle, pt_lt, pt_ltL, pt_Llt, pt_eq, pt_eqL, pt_Leq, pt_m1, pt_lt0, pt_ge0, pt_m1lt0, pt_m1ge0, pt_10, pt_01, pt_00, pt_11, pt_m11, pt_0m1, pt_1m1, pt_ib, pt_ib1, pt_hs, pt_so, pt_ofNat, pt_si, pt_sin, pt_si1, pt_si2, pt_sl, pt_sln, pt_sl0, pt_sl2, pt_sr, pt_srn, pt_sr0, pt_sr1, if_true, if_false, ite_true, ite_false, not_true_eq_false, not_false_eq_true, if_pos, if_neg]; try decide
  have hs2 : (clr κx o).2.2 0 4 = some hb := by rw [clr_r, pt_srn (by omega)]; exact hs
  obtain ⟨k1, k2, m1, m2, mn', w', a1, a2, a3, a4, a5, a6, a7, a8, a9, aa, ab, ac⟩ := rr_trial (F := F) (e := 61) hF (by omega) hT hM2 hs2 hc (by simp (disch := omega) only [pt_lt_, pt_clsome, pt_ck, pt_ckL, pt_cl, pt_clL, pt_cz0, pt_cz1, pt_czi, pt_add, pt_addL, pt_Ladd, pt_mul, pt_mulL, pt_Lmul, pt_sub, pt_subL, pt_Lsub, pt_rem, pt_le, pt_leL, pt_Lle, pt_lt, pt_ltL, pt_Llt, pt_eq, pt_eqL, pt_Leq, pt_m1, pt_lt0, pt_ge0, pt_m1lt0, pt_m1ge0, pt_10, pt_01, pt_00, pt_11, pt_m11, pt_0m1, pt_1m1, pt_ib, pt_ib1, pt_hs, pt_so, pt_ofNat, pt_si, pt_sin, pt_si1, pt_si2, pt_sl, pt_sln, pt_sl0, pt_sl2, pt_sr, pt_srn, pt_sr0, pt_sr1, if_true, if_false, ite_true, ite_false, not_true_eq_false, not_false_eq_true, if_pos, if_neg]; exact h59)
  have gx : ∀ j i, ¬ FX j i → k2.1 j i = κx.1 j i ∧ k2.2.1 j i = κx.2.1 j i := fun j i q => by
    obtain ⟨y1, y2⟩ := a7 j i (fun z => q (Or.inr z))
    obtain ⟨x1, x2⟩ := clr_fr (κ := κx) (o := o) (j := j) (i := i) (fun z => q (Or.inl z))
    exact ⟨y1.trans x1, y2.trans x2⟩
  have gm : Fr FM κm m2 := Fr.tr (κ1 := s_i κm 66 39 (nI z)) (Fr.si (Or.inr ⟨rfl, rfl⟩)) (aa.mono (fun j i q => Or.inl q))
  have gr : ∀ j i, ¬ (j = 12 ∨ j = 27) → k2.2.2 j i = κx.2.2 j i := fun j i q => by rw [a8, pt_srn (by omega), clr_r, pt_srn (by omega)]
  obtain ⟨b, b1, b2⟩ := fit_loop (F := F) (hb := hb) (hu := hu) (s := s) (κx := k2) (κm := m2) hT.1.2.2.2.1 (hk.same (fun j i q => (gx j i (by unfold FX PX; omega)).1) (fun j i q => (gm.1 j i (by unfold FM PM; omega)).1)) (fun k hk => by rw [(gx 65 k (by unfold FX PX; omega)).1, (gm.1 115 k (by unfold FM PM; omega)).1]; exact hst k hk) (fun q hq => a5.2.2.2.2.2.1 q hq) s 0 (by omega) F F (by have := hk.1; omega) (by have := hk.1; omega)
  refine ⟨b, k2, m2, ?_, ?_, gx, gr, gm, ab⟩
  · unfold pX1_isFit
    have a2' : pX5_to F hb hu 1 k1 61 = some k2 := a2
    rw [px_clear]
    simp only [pt_clsome]
    rw [a1]
    simp only [pt_clsome]
    rw [a2']
    exact b1
  · unfold pX6_goesAsHeard
    have a3' : pX6_begins F (s_i κm 66 39 (nI z)) 1 = some m1 := a3
    rw [a3']
    simp only [pt_clsome]
    have e := pm_heardIt (F := F) 61 0 (by omega) F (by omega) m1
    have e' : bX6_goesAsHeard_7 F F m1 0 = p_cl (itP F 1 61 m1) fun κ' => bX6_goesAsHeard_26 F F κ' 0 := e
    rw [e', a4]
    exact b2
