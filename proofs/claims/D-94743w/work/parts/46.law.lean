/-! PURE LAYER: a law of a fact at a desk, on both sides -/
set_option maxRecDepth 100000
def nm6 (a b c d e f : Int64) : Nat → Int64
  | 0 => a
  | 1 => b
  | 2 => c
  | 3 => d
  | 4 => e
  | _ => f
theorem nm6_bd {a b c d e f : Int32} : ∀ k, k < 6 → bd (nm6 a.toInt64 b.toInt64 c.toInt64 d.toInt64 e.toInt64 f.toInt64 k) := by
  have h : ∀ x : Int32, bd x.toInt64 := fun x => by
    unfold bd
    rw [Int32.toInt_toInt64]
    have := x.le_toInt
    have := x.toInt_lt
    omega
  intro k _
  match k with
  | 0 => exact h _
  | 1 => exact h _
  | 2 => exact h _
  | 3 => exact h _
  | 4 => exact h _
  | _ + 5 => exact h _
/-- a law's value by its names -/
def LV (hu : hd_T) (o : Option Nat) (h l w ot ak fr : Int32) (wo : Int64) : Int64 := match o with
  | none => wo
  | some a => match evS (nm6 h.toInt64 l.toInt64 w.toInt64 ot.toInt64 ak.toInt64 fr.toInt64) (hu.2.2.2.2.2 a) with
    | some v => v
    | none => 0
def SW (hu : hd_T) (o : Option Nat) : Prop := ∀ a, o = some a → (∀ q ∈ hu.2.2.2.2.2 a, kWf q) ∧ hgt (hu.2.2.2.2.2 a) 0 = some 1
theorem SR.sw {hu : hd_T} {κ : kp_K} {s : Nat} {o : Option Nat} (h : SR hu κ s o) : SW hu o := by
  obtain ⟨a, b, h1, h2, h3, h4, h5⟩ := h
  intro j hj
  subst hj
  obtain ⟨c1, c2, c3, c4⟩ := h5
  refine ⟨fun q hq => ?_, c3⟩
  obtain ⟨i, hi, e⟩ := List.getElem_of_mem hq
  have := c4 i (by omega)
  rw [List.getD_eq_getElem?_getD, List.getElem?_eq_getElem hi] at this
  rw [← e]
  exact kEnc.wf this
/-- names laid -/
theorem px_lay {κ : kp_K} {a b c d e f : Int32} : ∃ κ', pX3_lay κ a b c d e f = some κ' ∧ κ'.1 9 1 = 0 ∧ (∀ k, k < 6 → κ'.2.1 10 k = nm6 a.toInt64 b.toInt64 c.toInt64 d.toInt64 e.toInt64 f.toInt64 k) ∧ Fr (fun j _ => j = 9 ∨ j = 10) κ κ' := by
  unfold pX3_lay
  simp (disch := omega) only [pt_lt_, pt_clsome, pt_ck, pt_ckL, pt_cl, pt_clL, pt_cz0, pt_cz1, pt_czi, pt_add, pt_addL, pt_Ladd, pt_mul, pt_mulL, pt_Lmul, pt_sub, pt_subL, pt_Lsub, pt_rem, pt_le, pt_leL, pt_Lle, pt_lt, pt_ltL, pt_Llt, pt_eq, pt_eqL, pt_Leq, pt_m1, pt_lt0, pt_ge0, pt_m1lt0, pt_m1ge0, pt_10, pt_01, pt_00, pt_11, pt_m11, pt_0m1, pt_1m1, pt_ib, pt_ib1, pt_hs, pt_so, pt_ofNat, pt_si, pt_sin, pt_si1, pt_si2, pt_sl, pt_sln, pt_sl0, pt_sl2, pt_sr, pt_srn, pt_sr0, pt_sr1, if_true, if_false, ite_true, ite_false, not_true_eq_false, not_false_eq_true, if_pos, if_neg]
  refine ⟨_, rfl, by simp (disch := omega) only [pt_lt_, pt_clsome, pt_ck, pt_ckL, pt_cl, pt_clL, pt_cz0, pt_cz1, pt_czi, pt_add, pt_addL, pt_Ladd, pt_mul, pt_mulL, pt_Lmul, pt_sub, pt_subL, pt_Lsub, pt_rem, pt_le, pt_leL, pt_Lle, pt_lt, pt_ltL, pt_Llt, pt_eq, pt_eqL, pt_Leq, pt_m1, pt_lt0, pt_ge0, pt_m1lt0, pt_m1ge0, pt_10, pt_01, pt_00, pt_11, pt_m11, pt_0m1, pt_1m1, pt_ib, pt_ib1, pt_hs, pt_so, pt_ofNat, pt_si, pt_sin, pt_si1, pt_si2, pt_sl, pt_sln, pt_sl0, pt_sl2, pt_sr, pt_srn, pt_sr0, pt_sr1, if_true, if_false, ite_true, ite_false, not_true_eq_false, not_false_eq_true, if_pos, if_neg], fun k hk => ?_, ?_⟩
  · match k, hk with
    | 0, _ => simp (disch := omega) only [pt_lt_, pt_clsome, pt_ck, pt_ckL, pt_cl, pt_clL, pt_cz0, pt_cz1, pt_czi, pt_add, pt_addL, pt_Ladd, pt_mul, pt_mulL, pt_Lmul, pt_sub, pt_subL, pt_Lsub, pt_rem, pt_le, pt_leL, pt_Lle, pt_lt, pt_ltL, pt_Llt, pt_eq, pt_eqL, pt_Leq, pt_m1, pt_lt0, pt_ge0, pt_m1lt0, pt_m1ge0, pt_10, pt_01, pt_00, pt_11, pt_m11, pt_0m1, pt_1m1, pt_ib, pt_ib1, pt_hs, pt_so, pt_ofNat, pt_si, pt_sin, pt_si1, pt_si2, pt_sl, pt_sln, pt_sl0, pt_sl2, pt_sr, pt_srn, pt_sr0, pt_sr1, if_true, if_false, ite_true, ite_false, not_true_eq_false, not_false_eq_true, if_pos, if_neg]; rfl
    | 1, _ => simp (disch := omega) only [pt_lt_, pt_clsome, pt_ck, pt_ckL, pt_cl, pt_clL, pt_cz0, pt_cz1, pt_czi, pt_add, pt_addL, pt_Ladd, pt_mul, pt_mulL, pt_Lmul, pt_sub, pt_subL, pt_Lsub, pt_rem, pt_le, pt_leL, pt_Lle, pt_lt, pt_ltL, pt_Llt, pt_eq, pt_eqL, pt_Leq, pt_m1, pt_lt0, pt_ge0, pt_m1lt0, pt_m1ge0, pt_10, pt_01, pt_00, pt_11, pt_m11, pt_0m1, pt_1m1, pt_ib, pt_ib1, pt_hs, pt_so, pt_ofNat, pt_si, pt_sin, pt_si1, pt_si2, pt_sl, pt_sln, pt_sl0, pt_sl2, pt_sr, pt_srn, pt_sr0, pt_sr1, if_true, if_false, ite_true, ite_false, not_true_eq_false, not_false_eq_true, if_pos, if_neg]; rfl
    | 2, _ => simp (disch := omega) only [pt_lt_, pt_clsome, pt_ck, pt_ckL, pt_cl, pt_clL, pt_cz0, pt_cz1, pt_czi, pt_add, pt_addL, pt_Ladd, pt_mul, pt_mulL, pt_Lmul, pt_sub, pt_subL, pt_Lsub, pt_rem, pt_le, pt_leL, pt_Lle, pt_lt, pt_ltL, pt_Llt, pt_eq, pt_eqL, pt_Leq, pt_m1, pt_lt0, pt_ge0, pt_m1lt0, pt_m1ge0, pt_10, pt_01, pt_00, pt_11, pt_m11, pt_0m1, pt_1m1, pt_ib, pt_ib1, pt_hs, pt_so, pt_ofNat, pt_si, pt_sin, pt_si1, pt_si2, pt_sl, pt_sln, pt_sl0, pt_sl2, pt_sr, pt_srn, pt_sr0, pt_sr1, if_true, if_false, ite_true, ite_false, not_true_eq_false, not_false_eq_true, if_pos, if_neg]; rfl
    | 3, _ => simp (disch := omega) only [pt_lt_, pt_clsome, pt_ck, pt_ckL, pt_cl, pt_clL, pt_cz0, pt_cz1, pt_czi, pt_add, pt_addL, pt_Ladd, pt_mul, pt_mulL, pt_Lmul, pt_sub, pt_subL, pt_Lsub, pt_rem, pt_le, pt_leL, pt_Lle, pt_lt, pt_ltL, pt_Llt, pt_eq, pt_eqL, pt_Leq, pt_m1, pt_lt0, pt_ge0, pt_m1lt0, pt_m1ge0, pt_10, pt_01, pt_00, pt_11, pt_m11, pt_0m1, pt_1m1, pt_ib, pt_ib1, pt_hs, pt_so, pt_ofNat, pt_si, pt_sin, pt_si1, pt_si2, pt_sl, pt_sln, pt_sl0, pt_sl2, pt_sr, pt_srn, pt_sr0, pt_sr1, if_true, if_false, ite_true, ite_false, not_true_eq_false, not_false_eq_true, if_pos, if_neg]; rfl
    | 4, _ => simp (disch := omega) only [pt_lt_, pt_clsome, pt_ck, pt_ckL, pt_cl, pt_clL, pt_cz0, pt_cz1, pt_czi, pt_add, pt_addL, pt_Ladd, pt_mul, pt_mulL, pt_Lmul, pt_sub, pt_subL, pt_Lsub, pt_rem, pt_le, pt_leL, pt_Lle, pt_lt, pt_ltL, pt_Llt, pt_eq, pt_eqL, pt_Leq, pt_m1, pt_lt0, pt_ge0, pt_m1lt0, pt_m1ge0, pt_10, pt_01, pt_00, pt_11, pt_m11, pt_0m1, pt_1m1, pt_ib, pt_ib1, pt_hs, pt_so, pt_ofNat, pt_si, pt_sin, pt_si1, pt_si2, pt_sl, pt_sln, pt_sl0, pt_sl2, pt_sr, pt_srn, pt_sr0, pt_sr1, if_true, if_false, ite_true, ite_false, not_true_eq_false, not_false_eq_true, if_pos, if_neg]; rfl
    | 5, _ => simp (disch := omega) only [pt_lt_, pt_clsome, pt_ck, pt_ckL, pt_cl, pt_clL, pt_cz0, pt_cz1, pt_czi, pt_add, pt_addL, pt_Ladd, pt_mul, pt_mulL, pt_Lmul, pt_sub, pt_subL, pt_Lsub, pt_rem, pt_le, pt_leL, pt_Lle, pt_lt, pt_ltL, pt_Llt, pt_eq, pt_eqL, pt_Leq, pt_m1, pt_lt0, pt_ge0, pt_m1lt0, pt_m1ge0, pt_10, pt_01, pt_00, pt_11, pt_m11, pt_0m1, pt_1m1, pt_ib, pt_ib1, pt_hs, pt_so, pt_ofNat, pt_si, pt_sin, pt_si1, pt_si2, pt_sl, pt_sln, pt_sl0, pt_sl2, pt_sr, pt_srn, pt_sr0, pt_sr1, if_true, if_false, ite_true, ite_false, not_true_eq_false, not_false_eq_true, if_pos, if_neg]; rfl
    | k + 6, h => omega
  · exact ⟨fun j9 i9 q9 => by dsimp only at q9; exact ⟨by first | rfl | (simp (disch := omega) only [pt_sin, pt_si1, pt_si2, pt_sln, pt_sl0, pt_sl2, pt_scn, pt_sc1]), by first | rfl | (simp (disch := omega) only [pt_sin, pt_si1, pt_si2, pt_sln, pt_sl0, pt_sl2, pt_scn, pt_sc1])⟩, rfl⟩
theorem px_value {hb : Nat} {hu : hd_T} {κ : kp_K} {o : Option Nat} {wo : Int64} {h l w ot ak fr : Int32} (hw : SW hu o) (he : κ.1 9 1 = 0) (hn : ∀ k, k < 6 → κ.2.1 10 k = nm6 h.toInt64 l.toInt64 w.toInt64 ot.toInt64 ak.toInt64 fr.toInt64 k) : ∃ κ', pX1_value hb hu κ o wo = some (LV hu o h l w ot ak fr wo, κ') ∧ Fr (fun j _ => j = 9 ∨ j = 10) κ κ' := by
  unfold pX1_value LV
  cases o with
  | none => exact ⟨κ, rfl, Fr.rf⟩
  | some a =>
    obtain ⟨h1, h2⟩ := hw a rfl
    obtain ⟨v, κ', e1, e2, e3⟩ := jn_valV (nm := nm6 h.toInt64 l.toInt64 w.toInt64 ot.toInt64 ak.toInt64 fr.toInt64) h1 h2 he hn nm6_bd
    have e2' : Fr (fun j _ => j = 9 ∨ j = 10) κ κ' := e2.mono (fun j i q => Or.inl q.1)
    rw [if_neg (fun q => by cases q)]
    simp (disch := omega) only [pt_lt_, pt_clsome, pt_ck, pt_ckL, pt_cl, pt_clL, pt_cz0, pt_cz1, pt_czi, pt_add, pt_addL, pt_Ladd, pt_mul, pt_mulL, pt_Lmul, pt_sub, pt_subL, pt_Lsub, pt_rem, pt_le, pt_leL, pt_Lle, pt_lt, pt_ltL, pt_Llt, pt_eq, pt_eqL, pt_Leq, pt_m1, pt_lt0, pt_ge0, pt_m1lt0, pt_m1ge0, pt_10, pt_01, pt_00, pt_11, pt_m11, pt_0m1, pt_1m1, pt_ib, pt_ib1, pt_hs, pt_so, pt_ofNat, pt_si, pt_sin, pt_si1, pt_si2, pt_sl, pt_sln, pt_sl0, pt_sl2, pt_sr, pt_srn, pt_sr0, pt_sr1, if_true, if_false, ite_true, ite_false, not_true_eq_false, not_false_eq_true, if_pos, if_neg, e1]
    rcases e3 with ⟨e3, e4⟩ | ⟨e3, e4⟩
    · rw [e3, e4]
      exact ⟨κ', rfl, e2'⟩
    · rw [e3, e4]
      exact ⟨κ', rfl, e2'⟩
/-- what is held, by desks: as it stands, or as it was at noon -/
def HX (nd r : Nat) (H : Nat → Int32) (κ : kp_K) : Prop :=
  (κ.1 (13 + 14 * r) 13 = 0 ∧ ∀ e, e < nd → ∃ m : Nat, m ≤ 7 ∧ κ.1 (14 + 14 * r) e = nI m ∧ setF (fun j => κ.1 (18 + 14 * r) (7 * e + j)) 0 m 0 = H e) ∨
  (¬ κ.1 (13 + 14 * r) 13 = 0 ∧ ∀ e, e < nd → κ.1 (21 + 14 * r) e = H e)
def HM (nd r : Nat) (H : Nat → Int32) (κ : kp_K) : Prop :=
  (κ.1 66 59 = 0 ∧ ∀ e, e < nd → ∃ m : Nat, m ≤ 7 ∧ κ.1 92 (4 * r + e) = nI m ∧ setF (fun j => κ.1 93 (28 * r + 7 * e + j)) 0 m 0 = H e) ∨
  (¬ κ.1 66 59 = 0 ∧ ∀ e, e < nd → κ.1 105 e = H e)
theorem HX.fr {nd r : Nat} {H : Nat → Int32} {κ κ' : kp_K} (h : HX nd r H κ) (g : Fr (fun j _ => j = 9 ∨ j = 10) κ κ') : HX nd r H κ' := by
  have g1 : ∀ j i, ¬ (j = 9 ∨ j = 10) → κ'.1 j i = κ.1 j i := fun j i q => (g.1 j i q).1
  rcases h with ⟨h1, h2⟩ | ⟨h1, h2⟩
  · refine Or.inl ⟨by rw [g1 _ _ (by omega)]; exact h1, fun e he => ?_⟩
    obtain ⟨m, e1, e2, e3⟩ := h2 e he
    exact ⟨m, e1, by rw [g1 _ _ (by omega)]; exact e2, by rw [← e3]; exact setF_congr _ _ _ (fun j _ _ => g1 _ _ (by omega))⟩
  · exact Or.inr ⟨by rw [g1 _ _ (by omega)]; exact h1, fun e he => by rw [g1 _ _ (by omega)]; exact h2 e he⟩
/-- what a law of the reference writes -/
def FL (j i : Nat) : Prop := (j = 66 ∧ i = 42) ∨ j = 89 ∨ j = 90
theorem HM.fr {nd r : Nat} {H : Nat → Int32} {κ κ' : kp_K} (h : HM nd r H κ) (g : Fr FL κ κ') : HM nd r H κ' := by
  have g1 : ∀ j i, ¬ FL j i → κ'.1 j i = κ.1 j i := fun j i q => (g.1 j i q).1
  rcases h with ⟨h1, h2⟩ | ⟨h1, h2⟩
  · refine Or.inl ⟨by rw [g1 _ _ (by unfold FL; omega)]; exact h1, fun e he => ?_⟩
    obtain ⟨m, e1, e2, e3⟩ := h2 e he
    exact ⟨m, e1, by rw [g1 _ _ (by unfold FL; omega)]; exact e2, by rw [← e3]; exact setF_congr _ _ _ (fun j _ _ => g1 _ _ (by unfold FL; omega))⟩
  · exact Or.inr ⟨by rw [g1 _ _ (by unfold FL; omega)]; exact h1, fun e he => by rw [g1 _ _ (by unfold FL; omega)]; exact h2 e he⟩
theorem ob_add {x k acc : Int32} (h : ob x k = 0) : acc + 0 = acc + ob x k := by rw [h]
theorem px_others {F hb r d nd : Nat} {hu : hd_T} {κ : kp_K} {x : Int32} {H : Nat → Int32} (hF : 20 ≤ F) (hnd : hu.2.1 0 = nd) (h4 : nd ≤ 4) (hs : κ.2.2 0 4 = some hb) (hd : d < 4) (hh : HX nd r H κ) : ∀ n k, k + n = nd → ∀ f, n < f → ∀ acc, bX5_others_5 F hb hu r f κ (nI d) x acc (nI k) = some (othF H d x k n acc) := by
  intro n
  induction n with
  | zero =>
    intro k hk f hf acc
    obtain ⟨f, rfl⟩ : ∃ f', f = f' + 1 := ⟨f - 1, by omega⟩
    rw [bX5_others_5]
    unfold pX1_desks
    simp (disch := omega) only [pt_lt_, pt_clsome, pt_ck, pt_ckL, pt_cl, pt_clL, pt_cz0, pt_cz1, pt_czi, pt_add, pt_addL, pt_Ladd, pt_mul, pt_mulL, pt_Lmul, pt_sub, pt_subL, pt_Lsub, pt_rem, pt_le, pt_leL, pt_Lle, pt_lt, pt_ltL, pt_Llt, pt_eq, pt_eqL, pt_Leq, pt_m1, pt_lt0, pt_ge0, pt_m1lt0, pt_m1ge0, pt_10, pt_01, pt_00, pt_11, pt_m11, pt_0m1, pt_1m1, pt_ib, pt_ib1, pt_hs, pt_so, pt_ofNat, pt_si, pt_sin, pt_si1, pt_si2, pt_sl, pt_sln, pt_sl0, pt_sl2, pt_sr, pt_srn, pt_sr0, pt_sr1, if_true, if_false, ite_true, ite_false, not_true_eq_false, not_false_eq_true, if_pos, if_neg, hs, hnd]
    rfl
  | succ n ih =>
    intro k hk f hf acc
    obtain ⟨f, rfl⟩ : ∃ f', f = f' + 1 := ⟨f - 1, by omega⟩
    rw [bX5_others_5]
    unfold pX1_desks
    simp (disch := omega) only [pt_lt_, pt_clsome, pt_ck, pt_ckL, pt_cl, pt_clL, pt_cz0, pt_cz1, pt_czi, pt_add, pt_addL, pt_Ladd, pt_mul, pt_mulL, pt_Lmul, pt_sub, pt_subL, pt_Lsub, pt_rem, pt_le, pt_leL, pt_Lle, pt_lt, pt_ltL, pt_Llt, pt_eq, pt_eqL, pt_Leq, pt_m1, pt_lt0, pt_ge0, pt_m1lt0, pt_m1ge0, pt_10, pt_01, pt_00, pt_11, pt_m11, pt_0m1, pt_1m1, pt_ib, pt_ib1, pt_hs, pt_so, pt_ofNat, pt_si, pt_sin, pt_si1, pt_si2, pt_sl, pt_sln, pt_sl0, pt_sl2, pt_sr, pt_srn, pt_sr0, pt_sr1, if_true, if_false, ite_true, ite_false, not_true_eq_false, not_false_eq_true, if_pos, if_neg, hs, hnd]
    unfold othF
    by_cases hkd : k = d
    · rw [if_pos hkd, if_pos hkd]
      unfold bX5_others_58
      simp (disch := omega) only [pt_lt_, pt_clsome, pt_ck, pt_ckL, pt_cl, pt_clL, pt_cz0, pt_cz1, pt_czi, pt_add, pt_addL, pt_Ladd, pt_mul, pt_mulL, pt_Lmul, pt_sub, pt_subL, pt_Lsub, pt_rem, pt_le, pt_leL, pt_Lle, pt_lt, pt_ltL, pt_Llt, pt_eq, pt_eqL, pt_Leq, pt_m1, pt_lt0, pt_ge0, pt_m1lt0, pt_m1ge0, pt_10, pt_01, pt_00, pt_11, pt_m11, pt_0m1, pt_1m1, pt_ib, pt_ib1, pt_hs, pt_so, pt_ofNat, pt_si, pt_sin, pt_si1, pt_si2, pt_sl, pt_sln, pt_sl0, pt_sl2, pt_sr, pt_srn, pt_sr0, pt_sr1, if_true, if_false, ite_true, ite_false, not_true_eq_false, not_false_eq_true, if_pos, if_neg, Int32.add_zero]
      exact ih (k + 1) (by omega) f (by omega) acc
    · rw [if_neg hkd, if_neg hkd]
      have fin : bX5_others_47 F hb hu r (bX5_others_5 F hb hu r f) κ (nI d) x (nI k) (H k) acc = some (othF H d x (k + 1) n (acc + ob (H k) x)) := by
        unfold bX5_others_47
        rw [px_isOf]
        simp (disch := omega) only [pt_lt_, pt_clsome, pt_ck, pt_ckL, pt_cl, pt_clL, pt_cz0, pt_cz1, pt_czi, pt_add, pt_addL, pt_Ladd, pt_mul, pt_mulL, pt_Lmul, pt_sub, pt_subL, pt_Lsub, pt_rem, pt_le, pt_leL, pt_Lle, pt_lt, pt_ltL, pt_Llt, pt_eq, pt_eqL, pt_Leq, pt_m1, pt_lt0, pt_ge0, pt_m1lt0, pt_m1ge0, pt_10, pt_01, pt_00, pt_11, pt_m11, pt_0m1, pt_1m1, pt_ib, pt_ib1, pt_hs, pt_so, pt_ofNat, pt_si, pt_sin, pt_si1, pt_si2, pt_sl, pt_sln, pt_sl0, pt_sl2, pt_sr, pt_srn, pt_sr0, pt_sr1, if_true, if_false, ite_true, ite_false, not_true_eq_false, not_false_eq_true, if_pos, if_neg]
        rcases ob_01 (H k) x with q | q
        · rw [q, if_pos rfl]
          unfold bX5_others_58
          simp (disch := omega) only [pt_lt_, pt_clsome, pt_ck, pt_ckL, pt_cl, pt_clL, pt_cz0, pt_cz1, pt_czi, pt_add, pt_addL, pt_Ladd, pt_mul, pt_mulL, pt_Lmul, pt_sub, pt_subL, pt_Lsub, pt_rem, pt_le, pt_leL, pt_Lle, pt_lt, pt_ltL, pt_Llt, pt_eq, pt_eqL, pt_Leq, pt_m1, pt_lt0, pt_ge0, pt_m1lt0, pt_m1ge0, pt_10, pt_01, pt_00, pt_11, pt_m11, pt_0m1, pt_1m1, pt_ib, pt_ib1, pt_hs, pt_so, pt_ofNat, pt_si, pt_sin, pt_si1, pt_si2, pt_sl, pt_sln, pt_sl0, pt_sl2, pt_sr, pt_srn, pt_sr0, pt_sr1, if_true, if_false, ite_true, ite_false, not_true_eq_false, not_false_eq_true, if_pos, if_neg, Int32.add_zero]
          exact ih (k + 1) (by omega) f (by omega) acc
        · rw [q, if_neg (by decide)]
          exact ih (k + 1) (by omega) f (by omega) (acc + 1)
      rcases hh with ⟨h1, h2⟩ | ⟨h1, h2⟩
      · rw [if_pos h1]
        obtain ⟨m, e1, e2, e3⟩ := h2 k (by omega)
        have e4 : pX5_held F r κ (nI k) = some (H k) := by
          rw [← e3]
          exact px_held (by omega) e1 e2 m 0 (by omega) F (by omega) 0
        simp (disch := omega) only [pt_lt_, pt_clsome, pt_ck, pt_ckL, pt_cl, pt_clL, pt_cz0, pt_cz1, pt_czi, pt_add, pt_addL, pt_Ladd, pt_mul, pt_mulL, pt_Lmul, pt_sub, pt_subL, pt_Lsub, pt_rem, pt_le, pt_leL, pt_Lle, pt_lt, pt_ltL, pt_Llt, pt_eq, pt_eqL, pt_Leq, pt_m1, pt_lt0, pt_ge0, pt_m1lt0, pt_m1ge0, pt_10, pt_01, pt_00, pt_11, pt_m11, pt_0m1, pt_1m1, pt_ib, pt_ib1, pt_hs, pt_so, pt_ofNat, pt_si, pt_sin, pt_si1, pt_si2, pt_sl, pt_sln, pt_sl0, pt_sl2, pt_sr, pt_srn, pt_sr0, pt_sr1, if_true, if_false, ite_true, ite_false, not_true_eq_false, not_false_eq_true, if_pos, if_neg, e4]
        exact fin
      · rw [if_neg h1]
        simp (disch := omega) only [pt_lt_, pt_clsome, pt_ck, pt_ckL, pt_cl, pt_clL, pt_cz0, pt_cz1, pt_czi, pt_add, pt_addL, pt_Ladd, pt_mul, pt_mulL, pt_Lmul, pt_sub, pt_subL, pt_Lsub, pt_rem, pt_le, pt_leL, pt_Lle, pt_lt, pt_ltL, pt_Llt, pt_eq, pt_eqL, pt_Leq, pt_m1, pt_lt0, pt_ge0, pt_m1lt0, pt_m1ge0, pt_10, pt_01, pt_00, pt_11, pt_m11, pt_0m1, pt_1m1, pt_ib, pt_ib1, pt_hs, pt_so, pt_ofNat, pt_si, pt_sin, pt_si1, pt_si2, pt_sl, pt_sln, pt_sl0, pt_sl2, pt_sr, pt_srn, pt_sr0, pt_sr1, if_true, if_false, ite_true, ite_false, not_true_eq_false, not_false_eq_true, if_pos, if_neg, h2 k (by omega)]
        exact fin
theorem pm_others {F r d nd : Nat} {κ : kp_K} {x : Int32} {H : Nat → Int32} (hF : 20 ≤ F) (hr : r < 3) (hnd : κ.1 68 0 = nI nd) (h4 : nd ≤ 4) (hd : d < 4) (hh : HM nd r H κ) : ∀ n k, k + n = nd → ∀ f, n < f → ∀ acc, bX6_othersOf_6 F f κ (nI r) (nI d) x acc (nI k) = some (othF H d x k n acc) := by
  intro n
  induction n with
  | zero =>
    intro k hk f hf acc
    obtain ⟨f, rfl⟩ : ∃ f', f = f' + 1 := ⟨f - 1, by omega⟩
    rw [bX6_othersOf_6]
    simp (disch := omega) only [pt_lt_, pt_clsome, pt_ck, pt_ckL, pt_cl, pt_clL, pt_cz0, pt_cz1, pt_czi, pt_add, pt_addL, pt_Ladd, pt_mul, pt_mulL, pt_Lmul, pt_sub, pt_subL, pt_Lsub, pt_rem, pt_le, pt_leL, pt_Lle, pt_lt, pt_ltL, pt_Llt, pt_eq, pt_eqL, pt_Leq, pt_m1, pt_lt0, pt_ge0, pt_m1lt0, pt_m1ge0, pt_10, pt_01, pt_00, pt_11, pt_m11, pt_0m1, pt_1m1, pt_ib, pt_ib1, pt_hs, pt_so, pt_ofNat, pt_si, pt_sin, pt_si1, pt_si2, pt_sl, pt_sln, pt_sl0, pt_sl2, pt_sr, pt_srn, pt_sr0, pt_sr1, if_true, if_false, ite_true, ite_false, not_true_eq_false, not_false_eq_true, if_pos, if_neg, hnd]
    rfl
  | succ n ih =>
    intro k hk f hf acc
    obtain ⟨f, rfl⟩ : ∃ f', f = f' + 1 := ⟨f - 1, by omega⟩
    rw [bX6_othersOf_6]
    simp (disch := omega) only [pt_lt_, pt_clsome, pt_ck, pt_ckL, pt_cl, pt_clL, pt_cz0, pt_cz1, pt_czi, pt_add, pt_addL, pt_Ladd, pt_mul, pt_mulL, pt_Lmul, pt_sub, pt_subL, pt_Lsub, pt_rem, pt_le, pt_leL, pt_Lle, pt_lt, pt_ltL, pt_Llt, pt_eq, pt_eqL, pt_Leq, pt_m1, pt_lt0, pt_ge0, pt_m1lt0, pt_m1ge0, pt_10, pt_01, pt_00, pt_11, pt_m11, pt_0m1, pt_1m1, pt_ib, pt_ib1, pt_hs, pt_so, pt_ofNat, pt_si, pt_sin, pt_si1, pt_si2, pt_sl, pt_sln, pt_sl0, pt_sl2, pt_sr, pt_srn, pt_sr0, pt_sr1, if_true, if_false, ite_true, ite_false, not_true_eq_false, not_false_eq_true, if_pos, if_neg, hnd]
    unfold othF
    by_cases hkd : k = d
    · rw [if_pos hkd, if_pos hkd]
      exact ih (k + 1) (by omega) f (by omega) acc
    · rw [if_neg hkd, if_neg hkd]
      have fin : bX6_othersOf_52 F (bX6_othersOf_6 F f) κ (nI r) (nI d) x (nI k) (H k) acc = some (othF H d x (k + 1) n (acc + ob (H k) x)) := by
        unfold bX6_othersOf_52
        simp (disch := omega) only [pt_lt_, pt_clsome, pt_ck, pt_ckL, pt_cl, pt_clL, pt_cz0, pt_cz1, pt_czi, pt_add, pt_addL, pt_Ladd, pt_mul, pt_mulL, pt_Lmul, pt_sub, pt_subL, pt_Lsub, pt_rem, pt_le, pt_leL, pt_Lle, pt_lt, pt_ltL, pt_Llt, pt_eq, pt_eqL, pt_Leq, pt_m1, pt_lt0, pt_ge0, pt_m1lt0, pt_m1ge0, pt_10, pt_01, pt_00, pt_11, pt_m11, pt_0m1, pt_1m1, pt_ib, pt_ib1, pt_hs, pt_so, pt_ofNat, pt_si, pt_sin, pt_si1, pt_si2, pt_sl, pt_sln, pt_sl0, pt_sl2, pt_sr, pt_srn, pt_sr0, pt_sr1, if_true, if_false, ite_true, ite_false, not_true_eq_false, not_false_eq_true, if_pos, if_neg]
        exact ih (k + 1) (by omega) f (by omega) (acc + ob (H k) x)
      rcases hh with ⟨h1, h2⟩ | ⟨h1, h2⟩
      · rw [if_pos h1]
        obtain ⟨m, e1, e2, e3⟩ := h2 k (by omega)
        have e4 : pX6_setOf F κ (nI r) (nI k) = some (H k) := by
          rw [← e3]
          exact pm_setOf hr (by omega) e1 e2 m 0 (by omega) F (by omega) 0
        simp (disch := omega) only [pt_lt_, pt_clsome, pt_ck, pt_ckL, pt_cl, pt_clL, pt_cz0, pt_cz1, pt_czi, pt_add, pt_addL, pt_Ladd, pt_mul, pt_mulL, pt_Lmul, pt_sub, pt_subL, pt_Lsub, pt_rem, pt_le, pt_leL, pt_Lle, pt_lt, pt_ltL, pt_Llt, pt_eq, pt_eqL, pt_Leq, pt_m1, pt_lt0, pt_ge0, pt_m1lt0, pt_m1ge0, pt_10, pt_01, pt_00, pt_11, pt_m11, pt_0m1, pt_1m1, pt_ib, pt_ib1, pt_hs, pt_so, pt_ofNat, pt_si, pt_sin, pt_si1, pt_si2, pt_sl, pt_sln, pt_sl0, pt_sl2, pt_sr, pt_srn, pt_sr0, pt_sr1, if_true, if_false, ite_true, ite_false, not_true_eq_false, not_false_eq_true, if_pos, if_neg, e4]
        exact fin
      · rw [if_neg h1]
        simp (disch := omega) only [pt_lt_, pt_clsome, pt_ck, pt_ckL, pt_cl, pt_clL, pt_cz0, pt_cz1, pt_czi, pt_add, pt_addL, pt_Ladd, pt_mul, pt_mulL, pt_Lmul, pt_sub, pt_subL, pt_Lsub, pt_rem, pt_le, pt_leL, pt_Lle, pt_lt, pt_ltL, pt_Llt, pt_eq, pt_eqL, pt_Leq, pt_m1, pt_lt0, pt_ge0, pt_m1lt0, pt_m1ge0, pt_10, pt_01, pt_00, pt_11, pt_m11, pt_0m1, pt_1m1, pt_ib, pt_ib1, pt_hs, pt_so, pt_ofNat, pt_si, pt_sin, pt_si1, pt_si2, pt_sl, pt_sln, pt_sl0, pt_sl2, pt_sr, pt_srn, pt_sr0, pt_sr1, if_true, if_false, ite_true, ite_false, not_true_eq_false, not_false_eq_true, if_pos, if_neg, h2 k (by omega)]
        exact fin
theorem px_asked {F hb r nq : Nat} {hu : hd_T} {κ : kp_K} {y d x : Int32} (hnq : hu.2.1 3 = nq) (h4 : nq ≤ 16) (hs : κ.2.2 0 4 = some hb) (hy : κ.1 (13 + 14 * r) 1 = y) : ∀ n k, k + n = nq → ∀ f, n < f → ∀ acc, bX5_asked_5 F hb hu r f κ d x acc (nI k) = some (askF hu y d x k n acc) := by
  intro n
  induction n with
  | zero =>
    intro k hk f hf acc
    obtain ⟨f, rfl⟩ : ∃ f', f = f' + 1 := ⟨f - 1, by omega⟩
    rw [bX5_asked_5]
    simp (disch := omega) only [pt_lt_, pt_clsome, pt_ck, pt_ckL, pt_cl, pt_clL, pt_cz0, pt_cz1, pt_czi, pt_add, pt_addL, pt_Ladd, pt_mul, pt_mulL, pt_Lmul, pt_sub, pt_subL, pt_Lsub, pt_rem, pt_le, pt_leL, pt_Lle, pt_lt, pt_ltL, pt_Llt, pt_eq, pt_eqL, pt_Leq, pt_m1, pt_lt0, pt_ge0, pt_m1lt0, pt_m1ge0, pt_10, pt_01, pt_00, pt_11, pt_m11, pt_0m1, pt_1m1, pt_ib, pt_ib1, pt_hs, pt_so, pt_ofNat, pt_si, pt_sin, pt_si1, pt_si2, pt_sl, pt_sln, pt_sl0, pt_sl2, pt_sr, pt_srn, pt_sr0, pt_sr1, if_true, if_false, ite_true, ite_false, not_true_eq_false, not_false_eq_true, if_pos, if_neg, hs, hnq]
    rfl
  | succ n ih =>
    intro k hk f hf acc
    obtain ⟨f, rfl⟩ : ∃ f', f = f' + 1 := ⟨f - 1, by omega⟩
    rw [bX5_asked_5]
    simp (disch := omega) only [pt_lt_, pt_clsome, pt_ck, pt_ckL, pt_cl, pt_clL, pt_cz0, pt_cz1, pt_czi, pt_add, pt_addL, pt_Ladd, pt_mul, pt_mulL, pt_Lmul, pt_sub, pt_subL, pt_Lsub, pt_rem, pt_le, pt_leL, pt_Lle, pt_lt, pt_ltL, pt_Llt, pt_eq, pt_eqL, pt_Leq, pt_m1, pt_lt0, pt_ge0, pt_m1lt0, pt_m1ge0, pt_10, pt_01, pt_00, pt_11, pt_m11, pt_0m1, pt_1m1, pt_ib, pt_ib1, pt_hs, pt_so, pt_ofNat, pt_si, pt_sin, pt_si1, pt_si2, pt_sl, pt_sln, pt_sl0, pt_sl2, pt_sr, pt_srn, pt_sr0, pt_sr1, if_true, if_false, ite_true, ite_false, not_true_eq_false, not_false_eq_true, if_pos, if_neg, hs, hnq, hy]
    unfold askF
    have e0 : bX5_asked_78 F hb hu r (bX5_asked_5 F hb hu r f) κ d x (nI k) acc = some (askF hu y d x (k + 1) n acc) := by
      unfold bX5_asked_78
      simp (disch := omega) only [pt_lt_, pt_clsome, pt_ck, pt_ckL, pt_cl, pt_clL, pt_cz0, pt_cz1, pt_czi, pt_add, pt_addL, pt_Ladd, pt_mul, pt_mulL, pt_Lmul, pt_sub, pt_subL, pt_Lsub, pt_rem, pt_le, pt_leL, pt_Lle, pt_lt, pt_ltL, pt_Llt, pt_eq, pt_eqL, pt_Leq, pt_m1, pt_lt0, pt_ge0, pt_m1lt0, pt_m1ge0, pt_10, pt_01, pt_00, pt_11, pt_m11, pt_0m1, pt_1m1, pt_ib, pt_ib1, pt_hs, pt_so, pt_ofNat, pt_si, pt_sin, pt_si1, pt_si2, pt_sl, pt_sln, pt_sl0, pt_sl2, pt_sr, pt_srn, pt_sr0, pt_sr1, if_true, if_false, ite_true, ite_false, not_true_eq_false, not_false_eq_true, if_pos, if_neg, Int32.add_zero]
      exact ih (k + 1) (by omega) f (by omega) acc
    by_cases q1 : hu.1 30 k < y
    · rw [if_pos q1, if_neg (fun q => Int32.not_le.mpr q1 q.1)]
      exact e0
    · rw [if_neg q1]
      by_cases q2 : hu.1 31 k = d
      · rw [if_pos q2]
        by_cases q3 : hu.1 32 k = x
        · rw [if_pos q3, if_pos ⟨Int32.not_lt.mp q1, q2, q3⟩]
          exact ih (k + 1) (by omega) f (by omega) (acc + 1)
        · rw [if_neg q3, if_neg (fun q => q3 q.2.2)]
          exact e0
      · rw [if_neg q2, if_neg (fun q => q2 q.2.1)]
        exact e0
theorem pm_asked {F r nq : Nat} {hu : hd_T} {κ : kp_K} {y d x : Int32} (hr : r < 3) (hnq : κ.1 68 3 = nI nq) (h4 : nq ≤ 16) (hq : ∀ i, i < nq → κ.1 78 i = hu.1 30 i ∧ κ.1 79 i = hu.1 31 i ∧ κ.1 80 i = hu.1 32 i) (hy : κ.1 91 r = y) : ∀ n k, k + n = nq → ∀ f, n < f → ∀ acc, bX6_askedOf_6 F f κ (nI r) d x acc (nI k) = some (askF hu y d x k n acc) := by
  intro n
  induction n with
  | zero =>
    intro k hk f hf acc
    obtain ⟨f, rfl⟩ : ∃ f', f = f' + 1 := ⟨f - 1, by omega⟩
    rw [bX6_askedOf_6]
    simp (disch := omega) only [pt_lt_, pt_clsome, pt_ck, pt_ckL, pt_cl, pt_clL, pt_cz0, pt_cz1, pt_czi, pt_add, pt_addL, pt_Ladd, pt_mul, pt_mulL, pt_Lmul, pt_sub, pt_subL, pt_Lsub, pt_rem, pt_le, pt_leL, pt_Lle, pt_lt, pt_ltL, pt_Llt, pt_eq, pt_eqL, pt_Leq, pt_m1, pt_lt0, pt_ge0, pt_m1lt0, pt_m1ge0, pt_10, pt_01, pt_00, pt_11, pt_m11, pt_0m1, pt_1m1, pt_ib, pt_ib1, pt_hs, pt_so, pt_ofNat, pt_si, pt_sin, pt_si1, pt_si2, pt_sl, pt_sln, pt_sl0, pt_sl2, pt_sr, pt_srn, pt_sr0, pt_sr1, if_true, if_false, ite_true, ite_false, not_true_eq_false, not_false_eq_true, if_pos, if_neg, hnq]
    rfl
  | succ n ih =>
    intro k hk f hf acc
    obtain ⟨f, rfl⟩ : ∃ f', f = f' + 1 := ⟨f - 1, by omega⟩
    obtain ⟨z1, z2, z3⟩ := hq k (by omega)
    rw [bX6_askedOf_6]
    simp (disch := omega) only [pt_lt_, pt_clsome, pt_ck, pt_ckL, pt_cl, pt_clL, pt_cz0, pt_cz1, pt_czi, pt_add, pt_addL, pt_Ladd, pt_mul, pt_mulL, pt_Lmul, pt_sub, pt_subL, pt_Lsub, pt_rem, pt_le, pt_leL, pt_Lle, pt_lt, pt_ltL, pt_Llt, pt_eq, pt_eqL, pt_Leq, pt_m1, pt_lt0, pt_ge0, pt_m1lt0, pt_m1ge0, pt_10, pt_01, pt_00, pt_11, pt_m11, pt_0m1, pt_1m1, pt_ib, pt_ib1, pt_hs, pt_so, pt_ofNat, pt_si, pt_sin, pt_si1, pt_si2, pt_sl, pt_sln, pt_sl0, pt_sl2, pt_sr, pt_srn, pt_sr0, pt_sr1, if_true, if_false, ite_true, ite_false, not_true_eq_false, not_false_eq_true, if_pos, if_neg, hnq, hy, z1, z2, z3]
    unfold askF
    have e0 : bX6_askedOf_61 F (bX6_askedOf_6 F f) κ (nI r) d x (nI k) acc = some (askF hu y d x (k + 1) n acc) := by
      unfold bX6_askedOf_61
      simp (disch := omega) only [pt_lt_, pt_clsome, pt_ck, pt_ckL, pt_cl, pt_clL, pt_cz0, pt_cz1, pt_czi, pt_add, pt_addL, pt_Ladd, pt_mul, pt_mulL, pt_Lmul, pt_sub, pt_subL, pt_Lsub, pt_rem, pt_le, pt_leL, pt_Lle, pt_lt, pt_ltL, pt_Llt, pt_eq, pt_eqL, pt_Leq, pt_m1, pt_lt0, pt_ge0, pt_m1lt0, pt_m1ge0, pt_10, pt_01, pt_00, pt_11, pt_m11, pt_0m1, pt_1m1, pt_ib, pt_ib1, pt_hs, pt_so, pt_ofNat, pt_si, pt_sin, pt_si1, pt_si2, pt_sl, pt_sln, pt_sl0, pt_sl2, pt_sr, pt_srn, pt_sr0, pt_sr1, if_true, if_false, ite_true, ite_false, not_true_eq_false, not_false_eq_true, if_pos, if_neg, Int32.add_zero]
      exact ih (k + 1) (by omega) f (by omega) acc
    by_cases q2 : hu.1 31 k = d
    · rw [if_pos q2]
      by_cases q3 : hu.1 32 k = x
      · rw [if_pos q3]
        by_cases q1 : hu.1 30 k < y
        · rw [if_pos q1, if_neg (fun q => Int32.not_le.mpr q1 q.1)]
          exact e0
        · rw [if_neg q1, if_pos ⟨Int32.not_lt.mp q1, q2, q3⟩]
          exact ih (k + 1) (by omega) f (by omega) (acc + 1)
      · rw [if_neg q3, if_neg (fun q => q3 q.2.2)]
        exact e0
    · rw [if_neg q2, if_neg (fun q => q2 q.2.1)]
      exact e0
/-- a law's value of a fact at a desk -/
def lawA (hu : hd_T) (H : Nat → Int32) (o : Option Nat) (y : Int32) (d f : Nat) (held left fresh : Int32) (wo : Int64) : Int64 := LV hu o held left (hu.1 11 f) (othF H d (nI f) 0 (hu.2.1 0) 0) (askF hu y (nI d) (nI f) 0 (hu.2.1 3) 0) fresh wo
theorem px_worth {hb f : Nat} {hu : hd_T} {κ : kp_K} (hs : κ.2.2 0 4 = some hb) (hf : f < hu.2.1 1) (h7 : hu.2.1 1 ≤ 7) : pX1_worth hb hu κ (nI f) = some (hu.1 11 f) := by
  unfold pX1_worth
  simp (disch := omega) only [pt_lt_, pt_clsome, pt_ck, pt_ckL, pt_cl, pt_clL, pt_cz0, pt_cz1, pt_czi, pt_add, pt_addL, pt_Ladd, pt_mul, pt_mulL, pt_Lmul, pt_sub, pt_subL, pt_Lsub, pt_rem, pt_le, pt_leL, pt_Lle, pt_lt, pt_ltL, pt_Llt, pt_eq, pt_eqL, pt_Leq, pt_m1, pt_lt0, pt_ge0, pt_m1lt0, pt_m1ge0, pt_10, pt_01, pt_00, pt_11, pt_m11, pt_0m1, pt_1m1, pt_ib, pt_ib1, pt_hs, pt_so, pt_ofNat, pt_si, pt_sin, pt_si1, pt_si2, pt_sl, pt_sln, pt_sl0, pt_sl2, pt_sr, pt_srn, pt_sr0, pt_sr1, if_true, if_false, ite_true, ite_false, not_true_eq_false, not_false_eq_true, if_pos, if_neg, hs]
theorem px_layNames {F hb r d f : Nat} {hu : hd_T} {κ : kp_K} {H : Nat → Int32} {y held left fresh : Int32} (hF : 20 ≤ F) (hT : TW hu) (hs : κ.2.2 0 4 = some hb) (hd : d < 4) (hf : f < hu.2.1 1) (hh : HX (hu.2.1 0) r H κ) (hy : κ.1 (13 + 14 * r) 1 = y) :
    ∃ κ', pX5_layNames F hb hu r κ (nI d) (nI f) held left fresh = some κ' ∧ κ'.1 9 1 = 0 ∧ (∀ k, k < 6 → κ'.2.1 10 k = nm6 held.toInt64 left.toInt64 (hu.1 11 f).toInt64 (othF H d (nI f) 0 (hu.2.1 0) 0).toInt64 (askF hu y (nI d) (nI f) 0 (hu.2.1 3) 0).toInt64 fresh.toInt64 k) ∧ Fr (fun j _ => j = 9 ∨ j = 10) κ κ' := by
  obtain ⟨⟨t0, t1, t2, t3, t4, t5⟩, -⟩ := hT
  have e1 : pX1_worth hb hu κ (nI f) = some (hu.1 11 f) := px_worth hs hf t1
  have e2 : pX5_others F hb hu r κ (nI d) (nI f) = some (othF H d (nI f) 0 (hu.2.1 0) 0) := px_others hF rfl t0 hs hd hh (hu.2.1 0) 0 (by omega) F (by omega) 0
  have e3 : pX5_asked F hb hu r κ (nI d) (nI f) = some (askF hu y (nI d) (nI f) 0 (hu.2.1 3) 0) := px_asked rfl t3 hs hy (hu.2.1 3) 0 (by omega) F (by omega) 0
  unfold pX5_layNames
  simp (disch := omega) only [pt_lt_, pt_clsome, pt_ck, pt_ckL, pt_cl, pt_clL, pt_cz0, pt_cz1, pt_czi, pt_add, pt_addL, pt_Ladd, pt_mul, pt_mulL, pt_Lmul, pt_sub, pt_subL, pt_Lsub, pt_rem, pt_le, pt_leL, pt_Lle, pt_lt, pt_ltL, pt_Llt, pt_eq, pt_eqL, pt_Leq, pt_m1, pt_lt0, pt_ge0, pt_m1lt0, pt_m1ge0, pt_10, pt_01, pt_00, pt_11, pt_m11, pt_0m1, pt_1m1, pt_ib, pt_ib1, pt_hs, pt_so, pt_ofNat, pt_si, pt_sin, pt_si1, pt_si2, pt_sl, pt_sln, pt_sl0, pt_sl2, pt_sr, pt_srn, pt_sr0, pt_sr1, if_true, if_false, ite_true, ite_false, not_true_eq_false, not_false_eq_true, if_pos, if_neg, e1, e2, e3]
  obtain ⟨κ', g1, g2, g3, g4⟩ := px_lay (κ := κ) (a := held) (b := left) (c := hu.1 11 f) (d := othF H d (nI f) 0 (hu.2.1 0) 0) (e := askF hu y (nI d) (nI f) 0 (hu.2.1 3) 0) (f := fresh)
  rw [g1]
  exact ⟨κ', rfl, g2, g3, g4⟩
theorem px_keepOf {F hb r d f ch : Nat} {hu : hd_T} {κ : kp_K} {H : Nat → Int32} {y held left fresh : Int32} {o : Option Nat} (hF : 20 ≤ F) (hT : TW hu) (hs : κ.2.2 0 4 = some hb) (hc : κ.2.2 (13 + 14 * r) 0 = some ch) (hch : ch = 11 ∨ ch = 12) (ho : κ.2.2 ch 0 = o) (hw : SW hu o) (hd : d < 4) (hf : f < hu.2.1 1) (hh : HX (hu.2.1 0) r H κ) (hy : κ.1 (13 + 14 * r) 1 = y) :
    ∃ κ', pX5_keepOf F hb hu r κ (nI d) (nI f) held left fresh = some (lawA hu H o y d f held left fresh left.toInt64, κ') ∧ Fr (fun j _ => j = 9 ∨ j = 10) κ κ' := by
  obtain ⟨κ1, e1, e2, e3, e4⟩ := px_layNames (held := held) (left := left) (fresh := fresh) hF hT hs hd hf hh hy
  unfold pX5_keepOf
  simp (disch := omega) only [pt_lt_, pt_clsome, pt_ck, pt_ckL, pt_cl, pt_clL, pt_cz0, pt_cz1, pt_czi, pt_add, pt_addL, pt_Ladd, pt_mul, pt_mulL, pt_Lmul, pt_sub, pt_subL, pt_Lsub, pt_rem, pt_le, pt_leL, pt_Lle, pt_lt, pt_ltL, pt_Llt, pt_eq, pt_eqL, pt_Leq, pt_m1, pt_lt0, pt_ge0, pt_m1lt0, pt_m1ge0, pt_10, pt_01, pt_00, pt_11, pt_m11, pt_0m1, pt_1m1, pt_ib, pt_ib1, pt_hs, pt_so, pt_ofNat, pt_si, pt_sin, pt_si1, pt_si2, pt_sl, pt_sln, pt_sl0, pt_sl2, pt_sr, pt_srn, pt_sr0, pt_sr1, if_true, if_false, ite_true, ite_false, not_true_eq_false, not_false_eq_true, if_pos, if_neg, e1, e4.2, hc]
  rw [pt_ch hch, ho]
  obtain ⟨κ2, f1, f2⟩ := px_value (hb := hb) (wo := left.toInt64) hw e2 e3
  rw [f1]
  exact ⟨κ2, rfl, e4.tr f2⟩
theorem pm_lawOf {F r d f s : Nat} {hu : hd_T} {κ : kp_K} {H : Nat → Int32} {y till came : Int32} {o : Option Nat} {wo : Int64} (hF : 80 ≤ F) (hT : TW hu) (hM : MT hu κ) (hr : r < 3) (hsr : SR hu κ s o) (hs : s < 12) (hd : d < 4) (hf : f < hu.2.1 1) (hh : HM (hu.2.1 0) r H κ) (hy : κ.1 91 r = y) :
    ∃ κ', pX6_lawOf F κ (nI s) (nI r) (nI d) (nI f) till came wo = some (lawA hu H o y d f (if came = -1 then 0 else y - came) (till - y) (if came = -1 then 1 else 0) wo, κ') ∧ Fr FL κ κ' := by
  obtain ⟨⟨t0, t1, t2, t3, t4, t5⟩, -⟩ := hT
  have hM0 := hM
  obtain ⟨m1, m2, m3, m4, m5, m6, m7, -⟩ := hM
  have hsr0 := hsr
  obtain ⟨a, b, h1, h2, h3, h4, h5⟩ := hsr
  unfold pX6_lawOf pX6_isTold
  simp (disch := omega) only [pt_lt_, pt_clsome, pt_ck, pt_ckL, pt_cl, pt_clL, pt_cz0, pt_cz1, pt_czi, pt_add, pt_addL, pt_Ladd, pt_mul, pt_mulL, pt_Lmul, pt_sub, pt_subL, pt_Lsub, pt_rem, pt_le, pt_leL, pt_Lle, pt_lt, pt_ltL, pt_Llt, pt_eq, pt_eqL, pt_Leq, pt_m1, pt_lt0, pt_ge0, pt_m1lt0, pt_m1ge0, pt_10, pt_01, pt_00, pt_11, pt_m11, pt_0m1, pt_1m1, pt_ib, pt_ib1, pt_hs, pt_so, pt_ofNat, pt_si, pt_sin, pt_si1, pt_si2, pt_sl, pt_sln, pt_sl0, pt_sl2, pt_sr, pt_srn, pt_sr0, pt_sr1, if_true, if_false, ite_true, ite_false, not_true_eq_false, not_false_eq_true, h3, h4]
  cases o with
  | none =>
    dsimp only at h5
    rw [if_pos (by omega)]
    exact ⟨κ, by simp (disch := omega) only [pt_lt_, pt_clsome, pt_ck, pt_ckL, pt_cl, pt_clL, pt_cz0, pt_cz1, pt_czi, pt_add, pt_addL, pt_Ladd, pt_mul, pt_mulL, pt_Lmul, pt_sub, pt_subL, pt_Lsub, pt_rem, pt_le, pt_leL, pt_Lle, pt_lt, pt_ltL, pt_Llt, pt_eq, pt_eqL, pt_Leq, pt_m1, pt_lt0, pt_ge0, pt_m1lt0, pt_m1ge0, pt_10, pt_01, pt_00, pt_11, pt_m11, pt_0m1, pt_1m1, pt_ib, pt_ib1, pt_hs, pt_so, pt_ofNat, pt_si, pt_sin, pt_si1, pt_si2, pt_sl, pt_sln, pt_sl0, pt_sl2, pt_sr, pt_srn, pt_sr0, pt_sr1, if_true, if_false, ite_true, ite_false, not_true_eq_false, not_false_eq_true, if_pos, if_neg]; rfl, Fr.rf⟩
  | some j =>
    obtain ⟨c1, c2, c3, c4⟩ := h5
    have hw := hsr0.sw j rfl
    rw [if_neg (by omega)]
    simp (disch := omega) only [pt_lt_, pt_clsome, pt_ck, pt_ckL, pt_cl, pt_clL, pt_cz0, pt_cz1, pt_czi, pt_add, pt_addL, pt_Ladd, pt_mul, pt_mulL, pt_Lmul, pt_sub, pt_subL, pt_Lsub, pt_rem, pt_le, pt_leL, pt_Lle, pt_lt, pt_ltL, pt_Llt, pt_eq, pt_eqL, pt_Leq, pt_m1, pt_lt0, pt_ge0, pt_m1lt0, pt_m1ge0, pt_10, pt_01, pt_00, pt_11, pt_m11, pt_0m1, pt_1m1, pt_ib, pt_ib1, pt_hs, pt_so, pt_ofNat, pt_si, pt_sin, pt_si1, pt_si2, pt_sl, pt_sln, pt_sl0, pt_sl2, pt_sr, pt_srn, pt_sr0, pt_sr1, if_true, if_false, ite_true, ite_false, not_true_eq_false, not_false_eq_true]
    -- all names but the last laid
    have main : ∀ (held : Int32), ∃ κ', bX6_lawOf_36 F κ (nI s) (nI r) (nI d) (nI f) till came held.toInt64 0 = some (lawA hu H (some j) y d f held (till - y) (if came = -1 then 1 else 0) wo, κ') ∧ Fr FL κ κ' := by
      intro held
      unfold bX6_lawOf_36
      have g1 : Fr FL κ (s_l κ 89 0 held.toInt64) := Fr.sl (Or.inr (Or.inl rfl))
      have g2 : Fr FL κ (s_l (s_l κ 89 0 held.toInt64) 89 1 (till - y).toInt64) := g1.tr (Fr.sl (Or.inr (Or.inl rfl)))
      have g3 : Fr FL κ (s_l (s_l (s_l κ 89 0 held.toInt64) 89 1 (till - y).toInt64) 89 2 (hu.1 11 f).toInt64) := g2.tr (Fr.sl (Or.inr (Or.inl rfl)))
      have e2 : pX6_othersOf F (s_l (s_l (s_l κ 89 0 held.toInt64) 89 1 (till - y).toInt64) 89 2 (hu.1 11 f).toInt64) (nI r) (nI d) (nI f) = some (othF H d (nI f) 0 (hu.2.1 0) 0) := pm_others (κ := s_l (s_l (s_l κ 89 0 held.toInt64) 89 1 (till - y).toInt64) 89 2 (hu.1 11 f).toInt64) (by omega) hr (m1 0 (by omega)) t0 hd (hh.fr g3) (hu.2.1 0) 0 (by omega) F (by omega) 0
      have g4 : Fr FL κ (s_l (s_l (s_l (s_l κ 89 0 held.toInt64) 89 1 (till - y).toInt64) 89 2 (hu.1 11 f).toInt64) 89 3 (othF H d (nI f) 0 (hu.2.1 0) 0).toInt64) := g3.tr (Fr.sl (Or.inr (Or.inl rfl)))
      have e3 : pX6_askedOf F (s_l (s_l (s_l (s_l κ 89 0 held.toInt64) 89 1 (till - y).toInt64) 89 2 (hu.1 11 f).toInt64) 89 3 (othF H d (nI f) 0 (hu.2.1 0) 0).toInt64) (nI r) (nI d) (nI f) = some (askF hu y (nI d) (nI f) 0 (hu.2.1 3) 0) := pm_asked (κ := s_l (s_l (s_l (s_l κ 89 0 held.toInt64) 89 1 (till - y).toInt64) 89 2 (hu.1 11 f).toInt64) 89 3 (othF H d (nI f) 0 (hu.2.1 0) 0).toInt64) hr (m1 3 (by omega)) t3 (fun i hi => ⟨(m7 i hi).1, (m7 i hi).2.1, (m7 i hi).2.2.1⟩) hy (hu.2.1 3) 0 (by omega) F (by omega) 0
      simp (disch := omega) only [pt_lt_, pt_clsome, pt_ck, pt_ckL, pt_cl, pt_clL, pt_cz0, pt_cz1, pt_czi, pt_add, pt_addL, pt_Ladd, pt_mul, pt_mulL, pt_Lmul, pt_sub, pt_subL, pt_Lsub, pt_rem, pt_le, pt_leL, pt_Lle, pt_lt, pt_ltL, pt_Llt, pt_eq, pt_eqL, pt_Leq, pt_m1, pt_lt0, pt_ge0, pt_m1lt0, pt_m1ge0, pt_10, pt_01, pt_00, pt_11, pt_m11, pt_0m1, pt_1m1, pt_ib, pt_ib1, pt_hs, pt_so, pt_ofNat, pt_si, pt_sin, pt_si1, pt_si2, pt_sl, pt_sln, pt_sl0, pt_sl2, pt_sr, pt_srn, pt_sr0, pt_sr1, if_true, if_false, ite_true, ite_false, not_true_eq_false, not_false_eq_true, hy, (m5 f hf).2]
      rw [e2]
      simp (disch := omega) only [pt_lt_, pt_clsome, pt_ck, pt_ckL, pt_cl, pt_clL, pt_cz0, pt_cz1, pt_czi, pt_add, pt_addL, pt_Ladd, pt_mul, pt_mulL, pt_Lmul, pt_sub, pt_subL, pt_Lsub, pt_rem, pt_le, pt_leL, pt_Lle, pt_lt, pt_ltL, pt_Llt, pt_eq, pt_eqL, pt_Leq, pt_m1, pt_lt0, pt_ge0, pt_m1lt0, pt_m1ge0, pt_10, pt_01, pt_00, pt_11, pt_m11, pt_0m1, pt_1m1, pt_ib, pt_ib1, pt_hs, pt_so, pt_ofNat, pt_si, pt_sin, pt_si1, pt_si2, pt_sl, pt_sln, pt_sl0, pt_sl2, pt_sr, pt_srn, pt_sr0, pt_sr1, if_true, if_false, ite_true, ite_false, not_true_eq_false, not_false_eq_true]
      rw [e3]
      simp (disch := omega) only [pt_lt_, pt_clsome, pt_ck, pt_ckL, pt_cl, pt_clL, pt_cz0, pt_cz1, pt_czi, pt_add, pt_addL, pt_Ladd, pt_mul, pt_mulL, pt_Lmul, pt_sub, pt_subL, pt_Lsub, pt_rem, pt_le, pt_leL, pt_Lle, pt_lt, pt_ltL, pt_Llt, pt_eq, pt_eqL, pt_Leq, pt_m1, pt_lt0, pt_ge0, pt_m1lt0, pt_m1ge0, pt_10, pt_01, pt_00, pt_11, pt_m11, pt_0m1, pt_1m1, pt_ib, pt_ib1, pt_hs, pt_so, pt_ofNat, pt_si, pt_sin, pt_si1, pt_si2, pt_sl, pt_sln, pt_sl0, pt_sl2, pt_sr, pt_srn, pt_sr0, pt_sr1, if_true, if_false, ite_true, ite_false, not_true_eq_false, not_false_eq_true]
      have fin : ∀ (fr : Int32), ∃ κ', bX6_lawOf_113 F (s_l (s_l (s_l (s_l (s_l κ 89 0 held.toInt64) 89 1 (till - y).toInt64) 89 2 (hu.1 11 f).toInt64) 89 3 (othF H d (nI f) 0 (hu.2.1 0) 0).toInt64) 89 4 (askF hu y (nI d) (nI f) 0 (hu.2.1 3) 0).toInt64) (nI s) (if fr = 0 then 0 else 1) 5 = some (lawA hu H (some j) y d f held (till - y) (if fr = 0 then 0 else 1) wo, κ') ∧ Fr FL κ κ' := by
        intro fr
        unfold bX6_lawOf_113 lawA
        have ef : (if (if fr = 0 then (0 : Int32) else 1) = 0 then (0 : Int64) else 1) = (if fr = 0 then (0 : Int32) else 1).toInt64 := by
          by_cases q : fr = 0
          · rw [if_pos q, if_pos rfl]; decide +kernel
          · rw [if_neg q, if_neg (by decide)]; decide +kernel
        rw [pm_is, ef]
        generalize (if fr = 0 then (0 : Int32) else 1) = fq
        simp (disch := omega) only [pt_lt_, pt_clsome, pt_ck, pt_ckL, pt_cl, pt_clL, pt_cz0, pt_cz1, pt_czi, pt_add, pt_addL, pt_Ladd, pt_mul, pt_mulL, pt_Lmul, pt_sub, pt_subL, pt_Lsub, pt_rem, pt_le, pt_leL, pt_Lle, pt_lt, pt_ltL, pt_Llt, pt_eq, pt_eqL, pt_Leq, pt_m1, pt_lt0, pt_ge0, pt_m1lt0, pt_m1ge0, pt_10, pt_01, pt_00, pt_11, pt_m11, pt_0m1, pt_1m1, pt_ib, pt_ib1, pt_hs, pt_so, pt_ofNat, pt_si, pt_sin, pt_si1, pt_si2, pt_sl, pt_sln, pt_sl0, pt_sl2, pt_sr, pt_srn, pt_sr0, pt_sr1, if_true, if_false, ite_true, ite_false, not_true_eq_false, not_false_eq_true]
        generalize hκ9 : s_l (s_l (s_l (s_l (s_l (s_l κ 89 0 held.toInt64) 89 1 (till - y).toInt64) 89 2 (hu.1 11 f).toInt64) 89 3 (othF H d (nI f) 0 (hu.2.1 0) 0).toInt64) 89 4 (askF hu y (nI d) (nI f) 0 (hu.2.1 3) 0).toInt64) 89 5 fq.toInt64 = κ9
        have g6 : Fr FL κ κ9 := by
          rw [← hκ9]
          exact (g4.tr (Fr.sl (Or.inr (Or.inl rfl)))).tr (Fr.sl (Or.inr (Or.inl rfl)))
        have hn : ∀ k, k < 6 → κ9.2.1 89 k = nm6 held.toInt64 (till - y).toInt64 (hu.1 11 f).toInt64 (othF H d (nI f) 0 (hu.2.1 0) 0).toInt64 (askF hu y (nI d) (nI f) 0 (hu.2.1 3) 0).toInt64 fq.toInt64 k := by
          intro k hk
          rw [← hκ9]
          match k, hk with
          | 0, _ => simp (disch := omega) only [pt_lt_, pt_clsome, pt_ck, pt_ckL, pt_cl, pt_clL, pt_cz0, pt_cz1, pt_czi, pt_add, pt_addL, pt_Ladd, pt_mul, pt_mulL, pt_Lmul, pt_sub, pt_subL, pt_Lsub, pt_rem, pt_le, pt_leL, pt_Lle, pt_lt, pt_ltL, pt_Llt, pt_eq, pt_eqL, pt_Leq, pt_m1, pt_lt0, pt_ge0, pt_m1lt0, pt_m1ge0, pt_10, pt_01, pt_00, pt_11, pt_m11, pt_0m1, pt_1m1, pt_ib, pt_ib1, pt_hs, pt_so, pt_ofNat, pt_si, pt_sin, pt_si1, pt_si2, pt_sl, pt_sln, pt_sl0, pt_sl2, pt_sr, pt_srn, pt_sr0, pt_sr1, if_true, if_false, ite_true, ite_false, not_true_eq_false, not_false_eq_true, if_pos, if_neg]; rfl
          | 1, _ => simp (disch := omega) only [pt_lt_, pt_clsome, pt_ck, pt_ckL, pt_cl, pt_clL, pt_cz0, pt_cz1, pt_czi, pt_add, pt_addL, pt_Ladd, pt_mul, pt_mulL, pt_Lmul, pt_sub, pt_subL, pt_Lsub, pt_rem, pt_le, pt_leL, pt_Lle, pt_lt, pt_ltL, pt_Llt, pt_eq, pt_eqL, pt_Leq, pt_m1, pt_lt0, pt_ge0, pt_m1lt0, pt_m1ge0, pt_10, pt_01, pt_00, pt_11, pt_m11, pt_0m1, pt_1m1, pt_ib, pt_ib1, pt_hs, pt_so, pt_ofNat, pt_si, pt_sin, pt_si1, pt_si2, pt_sl, pt_sln, pt_sl0, pt_sl2, pt_sr, pt_srn, pt_sr0, pt_sr1, if_true, if_false, ite_true, ite_false, not_true_eq_false, not_false_eq_true, if_pos, if_neg]; rfl
          | 2, _ => simp (disch := omega) only [pt_lt_, pt_clsome, pt_ck, pt_ckL, pt_cl, pt_clL, pt_cz0, pt_cz1, pt_czi, pt_add, pt_addL, pt_Ladd, pt_mul, pt_mulL, pt_Lmul, pt_sub, pt_subL, pt_Lsub, pt_rem, pt_le, pt_leL, pt_Lle, pt_lt, pt_ltL, pt_Llt, pt_eq, pt_eqL, pt_Leq, pt_m1, pt_lt0, pt_ge0, pt_m1lt0, pt_m1ge0, pt_10, pt_01, pt_00, pt_11, pt_m11, pt_0m1, pt_1m1, pt_ib, pt_ib1, pt_hs, pt_so, pt_ofNat, pt_si, pt_sin, pt_si1, pt_si2, pt_sl, pt_sln, pt_sl0, pt_sl2, pt_sr, pt_srn, pt_sr0, pt_sr1, if_true, if_false, ite_true, ite_false, not_true_eq_false, not_false_eq_true, if_pos, if_neg]; rfl
          | 3, _ => simp (disch := omega) only [pt_lt_, pt_clsome, pt_ck, pt_ckL, pt_cl, pt_clL, pt_cz0, pt_cz1, pt_czi, pt_add, pt_addL, pt_Ladd, pt_mul, pt_mulL, pt_Lmul, pt_sub, pt_subL, pt_Lsub, pt_rem, pt_le, pt_leL, pt_Lle, pt_lt, pt_ltL, pt_Llt, pt_eq, pt_eqL, pt_Leq, pt_m1, pt_lt0, pt_ge0, pt_m1lt0, pt_m1ge0, pt_10, pt_01, pt_00, pt_11, pt_m11, pt_0m1, pt_1m1, pt_ib, pt_ib1, pt_hs, pt_so, pt_ofNat, pt_si, pt_sin, pt_si1, pt_si2, pt_sl, pt_sln, pt_sl0, pt_sl2, pt_sr, pt_srn, pt_sr0, pt_sr1, if_true, if_false, ite_true, ite_false, not_true_eq_false, not_false_eq_true, if_pos, if_neg]; rfl
          | 4, _ => simp (disch := omega) only [pt_lt_, pt_clsome, pt_ck, pt_ckL, pt_cl, pt_clL, pt_cz0, pt_cz1, pt_czi, pt_add, pt_addL, pt_Ladd, pt_mul, pt_mulL, pt_Lmul, pt_sub, pt_subL, pt_Lsub, pt_rem, pt_le, pt_leL, pt_Lle, pt_lt, pt_ltL, pt_Llt, pt_eq, pt_eqL, pt_Leq, pt_m1, pt_lt0, pt_ge0, pt_m1lt0, pt_m1ge0, pt_10, pt_01, pt_00, pt_11, pt_m11, pt_0m1, pt_1m1, pt_ib, pt_ib1, pt_hs, pt_so, pt_ofNat, pt_si, pt_sin, pt_si1, pt_si2, pt_sl, pt_sln, pt_sl0, pt_sl2, pt_sr, pt_srn, pt_sr0, pt_sr1, if_true, if_false, ite_true, ite_false, not_true_eq_false, not_false_eq_true, if_pos, if_neg]; rfl
          | 5, _ => simp (disch := omega) only [pt_lt_, pt_clsome, pt_ck, pt_ckL, pt_cl, pt_clL, pt_cz0, pt_cz1, pt_czi, pt_add, pt_addL, pt_Ladd, pt_mul, pt_mulL, pt_Lmul, pt_sub, pt_subL, pt_Lsub, pt_rem, pt_le, pt_leL, pt_Lle, pt_lt, pt_ltL, pt_Llt, pt_eq, pt_eqL, pt_Leq, pt_m1, pt_lt0, pt_ge0, pt_m1lt0, pt_m1ge0, pt_10, pt_01, pt_00, pt_11, pt_m11, pt_0m1, pt_1m1, pt_ib, pt_ib1, pt_hs, pt_so, pt_ofNat, pt_si, pt_sin, pt_si1, pt_si2, pt_sl, pt_sln, pt_sl0, pt_sl2, pt_sr, pt_srn, pt_sr0, pt_sr1, if_true, if_false, ite_true, ite_false, not_true_eq_false, not_false_eq_true, if_pos, if_neg]; rfl
          | k + 6, h => omega
        have gj : ∀ j i, 85 ≤ j → j ≤ 88 → κ9.1 j i = κ.1 j i := fun j i z1 z2 => (g6.1 j i (by unfold FL; omega)).1
        unfold pX6_goes0
        have g7 : Fr FL κ9 (s_i κ9 66 42 0) := Fr.si (Or.inl ⟨rfl, rfl⟩)
        have gk : ∀ j i, 85 ≤ j → j ≤ 88 → (s_i κ9 66 42 0).1 j i = κ.1 j i := fun j i z1 z2 => by rw [(g7.1 j i (by unfold FL; omega)).1]; exact gj j i z1 z2
        simp (disch := omega) only [pt_lt_, pt_clsome, pt_ck, pt_ckL, pt_cl, pt_clL, pt_cz0, pt_cz1, pt_czi, pt_add, pt_addL, pt_Ladd, pt_mul, pt_mulL, pt_Lmul, pt_sub, pt_subL, pt_Lsub, pt_rem, pt_le, pt_leL, pt_Lle, pt_lt, pt_ltL, pt_Llt, pt_eq, pt_eqL, pt_Leq, pt_m1, pt_lt0, pt_ge0, pt_m1lt0, pt_m1ge0, pt_10, pt_01, pt_00, pt_11, pt_m11, pt_0m1, pt_1m1, pt_ib, pt_ib1, pt_hs, pt_so, pt_ofNat, pt_si, pt_sin, pt_si1, pt_si2, pt_sl, pt_sln, pt_sl0, pt_sl2, pt_sr, pt_srn, pt_sr0, pt_sr1, if_true, if_false, ite_true, ite_false, not_true_eq_false, not_false_eq_true, gj, h3]
        have hwst : wst (s_i κ9 66 42 0) [] := ⟨pt_si ⟨rfl, rfl⟩, fun i hi => nomatch hi⟩
        rcases pm_goes0 (F := F) (nm := nm6 held.toInt64 (till - y).toInt64 (hu.1 11 f).toInt64 (othF H d (nI f) 0 (hu.2.1 0) 0).toInt64 (askF hu y (nI d) (nI f) 0 (hu.2.1 3) 0).toInt64 fq.toInt64) nm6_bd (l0 := hu.2.2.2.2.2 j) (a := a) (b := b) (s := s) h2 c2 h1 hs (b - a) 0 (by omega) F (by omega) (s_i κ9 66 42 0) [] 1 (by rw [gk 86 s (by omega) (by omega)]; exact h4) (fun i hi => by rw [gk 87 _ (by omega) (by omega), gk 88 _ (by omega) (by omega)]; exact c4 i hi) hn hwst (fun _ h => nomatch h) (Nat.le_refl _) c3 with ⟨st', κ', e1, e2, e3, e4, e5⟩ | ⟨κ', e1, e2, e3⟩
        · match st', e4 with
          | [v], _ =>
            rw [Nat.add_zero] at e2
            have ev : κ'.2.1 90 0 = v := (wst_cons e3).2
            rw [e2]
            simp (disch := omega) only [pt_lt_, pt_clsome, pt_ck, pt_ckL, pt_cl, pt_clL, pt_cz0, pt_cz1, pt_czi, pt_add, pt_addL, pt_Ladd, pt_mul, pt_mulL, pt_Lmul, pt_sub, pt_subL, pt_Lsub, pt_rem, pt_le, pt_leL, pt_Lle, pt_lt, pt_ltL, pt_Llt, pt_eq, pt_eqL, pt_Leq, pt_m1, pt_lt0, pt_ge0, pt_m1lt0, pt_m1ge0, pt_10, pt_01, pt_00, pt_11, pt_m11, pt_0m1, pt_1m1, pt_ib, pt_ib1, pt_hs, pt_so, pt_ofNat, pt_si, pt_sin, pt_si1, pt_si2, pt_sl, pt_sln, pt_sl0, pt_sl2, pt_sr, pt_srn, pt_sr0, pt_sr1, if_true, if_false, ite_true, ite_false, not_true_eq_false, not_false_eq_true, if_pos, if_neg, ev]
            refine ⟨κ', ?_, (g6.tr g7).tr (e5.mono (fun j i q => ?_))⟩
            · rw [List.drop_zero] at e1
              unfold LV evS
              dsimp only
              rw [e1]
            · unfold FW at q
              unfold FL
              omega
        · rw [Nat.add_zero] at e2
          rw [e2]
          simp (disch := omega) only [pt_lt_, pt_clsome, pt_ck, pt_ckL, pt_cl, pt_clL, pt_cz0, pt_cz1, pt_czi, pt_add, pt_addL, pt_Ladd, pt_mul, pt_mulL, pt_Lmul, pt_sub, pt_subL, pt_Lsub, pt_rem, pt_le, pt_leL, pt_Lle, pt_lt, pt_ltL, pt_Llt, pt_eq, pt_eqL, pt_Leq, pt_m1, pt_lt0, pt_ge0, pt_m1lt0, pt_m1ge0, pt_10, pt_01, pt_00, pt_11, pt_m11, pt_0m1, pt_1m1, pt_ib, pt_ib1, pt_hs, pt_so, pt_ofNat, pt_si, pt_sin, pt_si1, pt_si2, pt_sl, pt_sln, pt_sl0, pt_sl2, pt_sr, pt_srn, pt_sr0, pt_sr1, if_true, if_false, ite_true, ite_false, not_true_eq_false, not_false_eq_true, if_pos, if_neg]
          refine ⟨κ', ?_, (g6.tr g7).tr (e3.mono (fun j i q => ?_))⟩
          · rw [List.drop_zero] at e1
            unfold LV evS
            dsimp only
            rw [e1]
          · unfold FW at q
            unfold FL
            omega
      by_cases q : came = -1
      · rw [if_pos q, if_pos q]
        exact fin 1
      · rw [if_neg q, if_neg q]
        exact fin 0
    by_cases q : came = -1
    · rw [if_pos q]
      have := main 0
      rw [show (0 : Int32).toInt64 = 0 from by decide +kernel] at this
      rw [if_pos q] at this
      rw [if_pos q, if_pos q]
      exact this
    · rw [if_neg q]
      have := main (y - came)
      rw [if_neg q] at this
      rw [if_neg q, if_neg q]
      simp (disch := omega) only [pt_lt_, pt_clsome, pt_ck, pt_ckL, pt_cl, pt_clL, pt_cz0, pt_cz1, pt_czi, pt_add, pt_addL, pt_Ladd, pt_mul, pt_mulL, pt_Lmul, pt_sub, pt_subL, pt_Lsub, pt_rem, pt_le, pt_leL, pt_Lle, pt_lt, pt_ltL, pt_Llt, pt_eq, pt_eqL, pt_Leq, pt_m1, pt_lt0, pt_ge0, pt_m1lt0, pt_m1ge0, pt_10, pt_01, pt_00, pt_11, pt_m11, pt_0m1, pt_1m1, pt_ib, pt_ib1, pt_hs, pt_so, pt_ofNat, pt_si, pt_sin, pt_si1, pt_si2, pt_sl, pt_sln, pt_sl0, pt_sl2, pt_sr, pt_srn, pt_sr0, pt_sr1, if_true, if_false, ite_true, ite_false, not_true_eq_false, not_false_eq_true, hy]
      exact this
