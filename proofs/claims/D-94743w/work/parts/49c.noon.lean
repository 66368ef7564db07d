/-! PURE LAYER: noon, on both sides: its three phases -/
set_option maxRecDepth 100000
theorem rr_layThen {F : Nat} {hu : hd_T} {hb r dy : Nat} {mn : Nat → Nat} {w B : Nat} {H : Nat → Int32} (hF : 80 ≤ F) (hr : r < 3) (h4 : hu.2.1 0 ≤ 4) : ∀ m d, d + m = hu.2.1 0 → ∀ fx fm, m < fx → m < fm → ∀ (κx κm : kp_K), κx.2.2 0 4 = some hb → κm.1 68 0 = nI (hu.2.1 0) → RR hu r dy mn w B κx κm → (∀ e, e < hu.2.1 0 → hNow r mn κm e = H e) → (∀ e, e < d → κx.1 (21 + 14 * r) e = H e ∧ κx.1 (22 + 14 * r) e = nI (mn e) ∧ κm.1 105 e = H e) →
    ∃ κx' κm', bX5_layThen_2 F hb hu r fx κx (nI d) = some κx' ∧ bX6_noon_2 F fm κm (nI r) (nI d) = bX6_noon_37 F F (s_i κm' 66 59 1) (nI r) 0 ∧ (∀ e, e < hu.2.1 0 → κx'.1 (21 + 14 * r) e = H e ∧ κx'.1 (22 + 14 * r) e = nI (mn e) ∧ κm'.1 105 e = H e) ∧ (∀ i, i < 28 → κx'.1 (23 + 14 * r) i = κx.1 (18 + 14 * r) i ∧ κx'.1 (24 + 14 * r) i = κx.1 (19 + 14 * r) i) ∧ Fr (fun j _ => 21 + 14 * r ≤ j ∧ j ≤ 24 + 14 * r) κx κx' ∧ Fr (fun j _ => j = 105) κm κm' := by
  intro m
  induction m with
  | zero =>
    intro d hd fx fm hfx hfm κx κm hs hn h hH hz
    obtain ⟨fx, rfl⟩ : ∃ f', fx = f' + 1 := ⟨fx - 1, by omega⟩
    obtain ⟨fm, rfl⟩ : ∃ f', fm = f' + 1 := ⟨fm - 1, by omega⟩
    rw [bX5_layThen_2, bX6_noon_2]
    unfold pX1_desks
    simp (disch := omega) only [pt_lt_, pt_clsome, pt_ck, pt_ckL, pt_cl, pt_clL, pt_cz0, pt_cz1, pt_czi, pt_add, pt_addL, pt_Ladd, pt_mul, pt_mulL, pt_Lmul, pt_sub, pt_subL, pt_Lsub, pt_rem, pt_le, pt_leL, pt_Lle, pt_lt, pt_ltL, pt_Llt, pt_eq, pt_eqL, pt_Leq, pt_m1, pt_lt0, pt_ge0, pt_m1lt0, pt_m1ge0, pt_10, pt_01, pt_00, pt_11, pt_m11, pt_0m1, pt_1m1, pt_ib, pt_ib1, pt_hs, pt_so, pt_ofNat, pt_si, pt_sin, pt_si1, pt_si2, pt_sl, pt_sln, pt_sl0, pt_sl2, pt_sr, pt_srn, pt_sr0, pt_sr1, if_true, if_false, ite_true, ite_false, not_true_eq_false, not_false_eq_true, if_pos, if_neg, hs, hn]
    refine ⟨_, κm, rfl, rfl, fun e he => ?_, fun i hi => ?_, ?_, Fr.rf⟩
    · obtain ⟨z1, z2, z3⟩ := hz e (by omega)
      simp (disch := omega) only [pt_lt_, pt_clsome, pt_ck, pt_ckL, pt_cl, pt_clL, pt_cz0, pt_cz1, pt_czi, pt_add, pt_addL, pt_Ladd, pt_mul, pt_mulL, pt_Lmul, pt_sub, pt_subL, pt_Lsub, pt_rem, pt_le, pt_leL, pt_Lle, pt_lt, pt_ltL, pt_Llt, pt_eq, pt_eqL, pt_Leq, pt_m1, pt_lt0, pt_ge0, pt_m1lt0, pt_m1ge0, pt_10, pt_01, pt_00, pt_11, pt_m11, pt_0m1, pt_1m1, pt_ib, pt_ib1, pt_hs, pt_so, pt_ofNat, pt_si, pt_sin, pt_si1, pt_si2, pt_sl, pt_sln, pt_sl0, pt_sl2, pt_sr, pt_srn, pt_sr0, pt_sr1, if_true, if_false, ite_true, ite_false, not_true_eq_false, not_false_eq_true, if_pos, if_neg, pt_scn]
      exact ⟨z1, z2, z3⟩
    · simp (disch := omega) only [pt_lt_, pt_clsome, pt_ck, pt_ckL, pt_cl, pt_clL, pt_cz0, pt_cz1, pt_czi, pt_add, pt_addL, pt_Ladd, pt_mul, pt_mulL, pt_Lmul, pt_sub, pt_subL, pt_Lsub, pt_rem, pt_le, pt_leL, pt_Lle, pt_lt, pt_ltL, pt_Llt, pt_eq, pt_eqL, pt_Leq, pt_m1, pt_lt0, pt_ge0, pt_m1lt0, pt_m1ge0, pt_10, pt_01, pt_00, pt_11, pt_m11, pt_0m1, pt_1m1, pt_ib, pt_ib1, pt_hs, pt_so, pt_ofNat, pt_si, pt_sin, pt_si1, pt_si2, pt_sl, pt_sln, pt_sl0, pt_sl2, pt_sr, pt_srn, pt_sr0, pt_sr1, if_true, if_false, ite_true, ite_false, not_true_eq_false, not_false_eq_true, if_pos, if_neg, pt_scn, pt_sc]
      exact ⟨trivial, trivial⟩
    · exact (Fr.sc (fun i => by omega)).tr (Fr.sc (fun i => by omega))
  | succ m ih =>
    intro d hd fx fm hfx hfm κx κm hs hn h hH hz
    obtain ⟨fx, rfl⟩ : ∃ f', fx = f' + 1 := ⟨fx - 1, by omega⟩
    obtain ⟨fm, rfl⟩ : ∃ f', fm = f' + 1 := ⟨fm - 1, by omega⟩
    have hd4 : d < 4 := by omega
    obtain ⟨c1, c2, c3⟩ := h.2.2.1 d hd4
    obtain ⟨e1, e2⟩ := rr_held h (by omega : 20 ≤ F) hr hd4
    have e0 : setF (fun j => κm.1 93 (28 * r + 7 * d + j)) 0 (mn d) 0 = H d := hH d (by omega)
    rw [e0] at e1 e2
    rw [bX5_layThen_2, bX6_noon_2]
    unfold pX1_desks
    simp (disch := omega) only [pt_lt_, pt_clsome, pt_ck, pt_ckL, pt_cl, pt_clL, pt_cz0, pt_cz1, pt_czi, pt_add, pt_addL, pt_Ladd, pt_mul, pt_mulL, pt_Lmul, pt_sub, pt_subL, pt_Lsub, pt_rem, pt_le, pt_leL, pt_Lle, pt_lt, pt_ltL, pt_Llt, pt_eq, pt_eqL, pt_Leq, pt_m1, pt_lt0, pt_ge0, pt_m1lt0, pt_m1ge0, pt_10, pt_01, pt_00, pt_11, pt_m11, pt_0m1, pt_1m1, pt_ib, pt_ib1, pt_hs, pt_so, pt_ofNat, pt_si, pt_sin, pt_si1, pt_si2, pt_sl, pt_sln, pt_sl0, pt_sl2, pt_sr, pt_srn, pt_sr0, pt_sr1, if_true, if_false, ite_true, ite_false, not_true_eq_false, not_false_eq_true, if_pos, if_neg, hs, hn, e1, e2, c1]
    have h' : RR hu r dy mn w B (s_i (s_i κx (21 + 14 * r) d (H d)) (22 + 14 * r) d (nI (mn d))) (s_i κm 105 d (H d)) := h.same (fun j i a b c d e => by simp (disch := omega) only [pt_lt_, pt_clsome, pt_ck, pt_ckL, pt_cl, pt_clL, pt_cz0, pt_cz1, pt_czi, pt_add, pt_addL, pt_Ladd, pt_mul, pt_mulL, pt_Lmul, pt_sub, pt_subL, pt_Lsub, pt_rem, pt_le, pt_leL, pt_Lle, pt_lt, pt_ltL, pt_Llt, pt_eq, pt_eqL, pt_Leq, pt_m1, pt_lt0, pt_ge0, pt_m1lt0, pt_m1ge0, pt_10, pt_01, pt_00, pt_11, pt_m11, pt_0m1, pt_1m1, pt_ib, pt_ib1, pt_hs, pt_so, pt_ofNat, pt_si, pt_sin, pt_si1, pt_si2, pt_sl, pt_sln, pt_sl0, pt_sl2, pt_sr, pt_srn, pt_sr0, pt_sr1, if_true, if_false, ite_true, ite_false, not_true_eq_false, not_false_eq_true, if_pos, if_neg]) (fun j i a b c => by simp (disch := omega) only [pt_lt_, pt_clsome, pt_ck, pt_ckL, pt_cl, pt_clL, pt_cz0, pt_cz1, pt_czi, pt_add, pt_addL, pt_Ladd, pt_mul, pt_mulL, pt_Lmul, pt_sub, pt_subL, pt_Lsub, pt_rem, pt_le, pt_leL, pt_Lle, pt_lt, pt_ltL, pt_Llt, pt_eq, pt_eqL, pt_Leq, pt_m1, pt_lt0, pt_ge0, pt_m1lt0, pt_m1ge0, pt_10, pt_01, pt_00, pt_11, pt_m11, pt_0m1, pt_1m1, pt_ib, pt_ib1, pt_hs, pt_so, pt_ofNat, pt_si, pt_sin, pt_si1, pt_si2, pt_sl, pt_sln, pt_sl0, pt_sl2, pt_sr, pt_srn, pt_sr0, pt_sr1, if_true, if_false, ite_true, ite_false, not_true_eq_false, not_false_eq_true, if_pos, if_neg])
    obtain ⟨κx', κm', f1, f2, f3, f4, f5, f6⟩ := ih (d + 1) (by omega) fx fm (by omega) (by omega) _ _ (by simp (disch := omega) only [pt_lt_, pt_clsome, pt_ck, pt_ckL, pt_cl, pt_clL, pt_cz0, pt_cz1, pt_czi, pt_add, pt_addL, pt_Ladd, pt_mul, pt_mulL, pt_Lmul, pt_sub, pt_subL, pt_Lsub, pt_rem, pt_le, pt_leL, pt_Lle, pt_lt, pt_ltL, pt_Llt, pt_eq, pt_eqL, pt_Leq, pt_m1, pt_lt0, pt_ge0, pt_m1lt0, pt_m1ge0, pt_10, pt_01, pt_00, pt_11, pt_m11, pt_0m1, pt_1m1, pt_ib, pt_ib1, pt_hs, pt_so, pt_ofNat, pt_si, pt_sin, pt_si1, pt_si2, pt_sl, pt_sln, pt_sl0, pt_sl2, pt_sr, pt_srn, pt_sr0, pt_sr1, if_true, if_false, ite_true, ite_false, not_true_eq_false, not_false_eq_true, if_pos, if_neg]; exact hs) (by simp (disch := omega) only [pt_lt_, pt_clsome, pt_ck, pt_ckL, pt_cl, pt_clL, pt_cz0, pt_cz1, pt_czi, pt_add, pt_addL, pt_Ladd, pt_mul, pt_mulL, pt_Lmul, pt_sub, pt_subL, pt_Lsub, pt_rem, pt_le, pt_leL, pt_Lle, pt_lt, pt_ltL, pt_Llt, pt_eq, pt_eqL, pt_Leq, pt_m1, pt_lt0, pt_ge0, pt_m1lt0, pt_m1ge0, pt_10, pt_01, pt_00, pt_11, pt_m11, pt_0m1, pt_1m1, pt_ib, pt_ib1, pt_hs, pt_so, pt_ofNat, pt_si, pt_sin, pt_si1, pt_si2, pt_sl, pt_sln, pt_sl0, pt_sl2, pt_sr, pt_srn, pt_sr0, pt_sr1, if_true, if_false, ite_true, ite_false, not_true_eq_false, not_false_eq_true, if_pos, if_neg]; exact hn) h' (fun e he => by
      rw [← hH e he]
      exact setF_congr _ _ _ (fun j _ _ => by simp (disch := omega) only [pt_lt_, pt_clsome, pt_ck, pt_ckL, pt_cl, pt_clL, pt_cz0, pt_cz1, pt_czi, pt_add, pt_addL, pt_Ladd, pt_mul, pt_mulL, pt_Lmul, pt_sub, pt_subL, pt_Lsub, pt_rem, pt_le, pt_leL, pt_Lle, pt_lt, pt_ltL, pt_Llt, pt_eq, pt_eqL, pt_Leq, pt_m1, pt_lt0, pt_ge0, pt_m1lt0, pt_m1ge0, pt_10, pt_01, pt_00, pt_11, pt_m11, pt_0m1, pt_1m1, pt_ib, pt_ib1, pt_hs, pt_so, pt_ofNat, pt_si, pt_sin, pt_si1, pt_si2, pt_sl, pt_sln, pt_sl0, pt_sl2, pt_sr, pt_srn, pt_sr0, pt_sr1, if_true, if_false, ite_true, ite_false, not_true_eq_false, not_false_eq_true, if_pos, if_neg])) (fun e he => by
      by_cases hed : e = d
      · subst hed
        simp (disch := omega) only [pt_lt_, pt_clsome, pt_ck, pt_ckL, pt_cl, pt_clL, pt_cz0, pt_cz1, pt_czi, pt_add, pt_addL, pt_Ladd, pt_mul, pt_mulL, pt_Lmul, pt_sub, pt_subL, pt_Lsub, pt_rem, pt_le, pt_leL, pt_Lle, pt_lt, pt_ltL, pt_Llt, pt_eq, pt_eqL, pt_Leq, pt_m1, pt_lt0, pt_ge0, pt_m1lt0, pt_m1ge0, pt_10, pt_01, pt_00, pt_11, pt_m11, pt_0m1, pt_1m1, pt_ib, pt_ib1, pt_hs, pt_so, pt_ofNat, pt_si, pt_sin, pt_si1, pt_si2, pt_sl, pt_sln, pt_sl0, pt_sl2, pt_sr, pt_srn, pt_sr0, pt_sr1, if_true, if_false, ite_true, ite_false, not_true_eq_false, not_false_eq_true, if_pos, if_neg]
        exact ⟨trivial, trivial, trivial⟩
      · simp (disch := omega) only [pt_lt_, pt_clsome, pt_ck, pt_ckL, pt_cl, pt_clL, pt_cz0, pt_cz1, pt_czi, pt_add, pt_addL, pt_Ladd, pt_mul, pt_mulL, pt_Lmul, pt_sub, pt_subL, pt_Lsub, pt_rem, pt_le, pt_leL, pt_Lle, pt_lt, pt_ltL, pt_Llt, pt_eq, pt_eqL, pt_Leq, pt_m1, pt_lt0, pt_ge0, pt_m1lt0, pt_m1ge0, pt_10, pt_01, pt_00, pt_11, pt_m11, pt_0m1, pt_1m1, pt_ib, pt_ib1, pt_hs, pt_so, pt_ofNat, pt_si, pt_sin, pt_si1, pt_si2, pt_sl, pt_sln, pt_sl0, pt_sl2, pt_sr, pt_srn, pt_sr0, pt_sr1, if_true, if_false, ite_true, ite_false, not_true_eq_false, not_false_eq_true, if_pos, if_neg]
        exact hz e (by omega))
    refine ⟨κx', κm', f1, f2, f3, fun i hi => ?_, ?_, ?_⟩
    · obtain ⟨g1, g2⟩ := f4 i hi
      rw [g1, g2]
      simp (disch := omega) only [pt_lt_, pt_clsome, pt_ck, pt_ckL, pt_cl, pt_clL, pt_cz0, pt_cz1, pt_czi, pt_add, pt_addL, pt_Ladd, pt_mul, pt_mulL, pt_Lmul, pt_sub, pt_subL, pt_Lsub, pt_rem, pt_le, pt_leL, pt_Lle, pt_lt, pt_ltL, pt_Llt, pt_eq, pt_eqL, pt_Leq, pt_m1, pt_lt0, pt_ge0, pt_m1lt0, pt_m1ge0, pt_10, pt_01, pt_00, pt_11, pt_m11, pt_0m1, pt_1m1, pt_ib, pt_ib1, pt_hs, pt_so, pt_ofNat, pt_si, pt_sin, pt_si1, pt_si2, pt_sl, pt_sln, pt_sl0, pt_sl2, pt_sr, pt_srn, pt_sr0, pt_sr1, if_true, if_false, ite_true, ite_false, not_true_eq_false, not_false_eq_true, if_pos, if_neg]
      exact ⟨trivial, trivial⟩
    · exact ((Fr.si (by omega)).tr (Fr.si (by omega))).tr f5
    · exact Fr.tr (κ1 := s_i κm 105 d (H d)) (Fr.si rfl) f6
/-- a desk's wish, as the reference lays it down -/
def wsh (hu : hd_T) (H : Nat → Int32) (dy : Nat) (mn : Nat → Nat) (F0 T0 : Nat → Nat → Int32) (tw ta : Int32) (d : Nat) (κ : kp_K) : Prop :=
  (askV tw ta (hu.1 2 d) d = -1 → κ.1 106 d = -1) ∧
  (∀ e, askV tw ta (hu.1 2 d) d = nI e → e < hu.2.1 0 → κ.1 106 d = gF F0 e (wnt (wV hu H dy d F0 T0 e) (wS H d F0 e) 0 (mn e) none 0) ∧ ∀ k', wnt (wV hu H dy d F0 T0 e) (wS H d F0 e) 0 (mn e) none 0 = some k' → κ.1 107 d = T0 e k')
def FB (j i : Nat) : Prop := FL j i ∨ j = 106 ∨ j = 107
theorem pm_noon37 {F : Nat} {hu : hd_T} {r dy : Nat} {mn : Nat → Nat} {F0 T0 : Nat → Nat → Int32} {H : Nat → Int32} {tw ta : Int32} (hF : 80 ≤ F) (hr : r < 3) (hT : TW hu) (hS : SN (hu.2.1 0) (hu.2.1 1) mn F0 T0) : ∀ m d, d + m = hu.2.1 0 → ∀ f, m < f → ∀ (κ : kp_K), MT hu κ → HM (hu.2.1 0) r H κ → ¬ κ.1 66 59 = 0 → κ.1 91 r = nI dy → κ.1 66 37 = tw → κ.1 66 38 = ta → (∀ e, e < hu.2.1 0 → κ.1 92 (4 * r + e) = nI (mn e) ∧ (∀ k, k < mn e → κ.1 93 (28 * r + 7 * e + k) = F0 e k ∧ κ.1 94 (28 * r + 7 * e + k) = T0 e k) ∧ κ.1 105 e = H e) → (∀ e, e < d → wsh hu H dy mn F0 T0 tw ta e κ) →
    ∃ κ', bX6_noon_37 F f κ (nI r) (nI d) = bX6_noon_82 F F κ' (nI r) 0 ∧ (∀ e, e < hu.2.1 0 → wsh hu H dy mn F0 T0 tw ta e κ') ∧ Fr FB κ κ' := by
  intro m
  induction m with
  | zero =>
    intro d hd f hf κ hM hm hn hy ht1 ht2 hl hw
    obtain ⟨f, rfl⟩ : ∃ f', f = f' + 1 := ⟨f - 1, by omega⟩
    have hn4 := hT.1.1
    rw [bX6_noon_37]
    simp (disch := omega) only [pt_lt_, pt_clsome, pt_ck, pt_ckL, pt_cl, pt_clL, pt_cz0, pt_cz1, pt_czi, pt_add, pt_addL, pt_Ladd, pt_mul, pt_mulL, pt_Lmul, pt_sub, pt_subL, pt_Lsub, pt_rem, pt_le, pt_leL, pt_Lle, pt_lt, pt_ltL, pt_Llt, pt_eq, pt_eqL, pt_Leq, pt_m1, pt_lt0, pt_ge0, pt_m1lt0, pt_m1ge0, pt_10, pt_01, pt_00, pt_11, pt_m11, pt_0m1, pt_1m1, pt_ib, pt_ib1, pt_hs, pt_so, pt_ofNat, pt_si, pt_sin, pt_si1, pt_si2, pt_sl, pt_sln, pt_sl0, pt_sl2, pt_sr, pt_srn, pt_sr0, pt_sr1, if_true, if_false, ite_true, ite_false, not_true_eq_false, not_false_eq_true, if_pos, if_neg, hM.1 0 (by omega)]
    exact ⟨κ, rfl, fun e he => hw e (by omega), Fr.rf⟩
  | succ m ih =>
    intro d hd f hf κ hM hm hn hy ht1 ht2 hl hw
    obtain ⟨f, rfl⟩ : ∃ f', f = f' + 1 := ⟨f - 1, by omega⟩
    have hn4 := hT.1.1
    have hdn : d < hu.2.1 0 := by omega
    rw [bX6_noon_37]
    have e0 : Fr FB κ (s_i κ 106 d (-1)) := Fr.si (Or.inr (Or.inl rfl))
    have hfr : ∀ κ' : kp_K, Fr FB κ κ' → MT hu κ' ∧ HM (hu.2.1 0) r H κ' ∧ ¬ κ'.1 66 59 = 0 ∧ κ'.1 91 r = nI dy ∧ κ'.1 66 37 = tw ∧ κ'.1 66 38 = ta ∧ (∀ e, e < hu.2.1 0 → κ'.1 92 (4 * r + e) = nI (mn e) ∧ (∀ k, k < mn e → κ'.1 93 (28 * r + 7 * e + k) = F0 e k ∧ κ'.1 94 (28 * r + 7 * e + k) = T0 e k) ∧ κ'.1 105 e = H e) := by
      intro κ' g
      have gg : ∀ j i, ¬ FB j i → κ'.1 j i = κ.1 j i := fun j i q => (g.1 j i q).1
      refine ⟨hM.same (fun j i a b => gg j i (by unfold FB FL; omega)), ?_, by rw [gg _ _ (by unfold FB FL; omega)]; exact hn, by rw [gg _ _ (by unfold FB FL; omega)]; exact hy, by rw [gg _ _ (by unfold FB FL; omega)]; exact ht1, by rw [gg _ _ (by unfold FB FL; omega)]; exact ht2, fun e he => ?_⟩
      · rcases hm with ⟨z1, z2⟩ | ⟨z1, z2⟩
        · exact absurd z1 hn
        · exact Or.inr ⟨by rw [gg _ _ (by unfold FB FL; omega)]; exact z1, fun e' he' => by rw [gg _ _ (by unfold FB FL; omega)]; exact z2 e' he'⟩
      · obtain ⟨z1, z2, z3⟩ := hl e he
        refine ⟨by rw [gg _ _ (by unfold FB FL; omega)]; exact z1, fun k hk => ?_, by rw [gg _ _ (by unfold FB FL; omega)]; exact z3⟩
        rw [gg _ _ (by unfold FB FL; omega), gg _ _ (by unfold FB FL; omega)]
        exact z2 k hk
    obtain ⟨k1, k2, k3, k4, k5, k6, k7⟩ := hfr _ e0
    have ew := pm_whomOf k1 hdn hn4
    rw [k5, k6] at ew
    simp (disch := omega) only [pt_lt_, pt_clsome, pt_ck, pt_ckL, pt_cl, pt_clL, pt_cz0, pt_cz1, pt_czi, pt_add, pt_addL, pt_Ladd, pt_mul, pt_mulL, pt_Lmul, pt_sub, pt_subL, pt_Lsub, pt_rem, pt_le, pt_leL, pt_Lle, pt_lt, pt_ltL, pt_Llt, pt_eq, pt_eqL, pt_Leq, pt_m1, pt_lt0, pt_ge0, pt_m1lt0, pt_m1ge0, pt_10, pt_01, pt_00, pt_11, pt_m11, pt_0m1, pt_1m1, pt_ib, pt_ib1, pt_hs, pt_so, pt_ofNat, pt_si, pt_sin, pt_si1, pt_si2, pt_sl, pt_sln, pt_sl0, pt_sl2, pt_sr, pt_srn, pt_sr0, pt_sr1, if_true, if_false, ite_true, ite_false, not_true_eq_false, not_false_eq_true, if_pos, if_neg, hM.1 0 (by omega)]
    rw [ew]
    simp (disch := omega) only [pt_lt_, pt_clsome, pt_ck, pt_ckL, pt_cl, pt_clL, pt_cz0, pt_cz1, pt_czi, pt_add, pt_addL, pt_Ladd, pt_mul, pt_mulL, pt_Lmul, pt_sub, pt_subL, pt_Lsub, pt_rem, pt_le, pt_leL, pt_Lle, pt_lt, pt_ltL, pt_Llt, pt_eq, pt_eqL, pt_Leq, pt_m1, pt_lt0, pt_ge0, pt_m1lt0, pt_m1ge0, pt_10, pt_01, pt_00, pt_11, pt_m11, pt_0m1, pt_1m1, pt_ib, pt_ib1, pt_hs, pt_so, pt_ofNat, pt_si, pt_sin, pt_si1, pt_si2, pt_sl, pt_sln, pt_sl0, pt_sl2, pt_sr, pt_srn, pt_sr0, pt_sr1, if_true, if_false, ite_true, ite_false, not_true_eq_false, not_false_eq_true, if_pos, if_neg]
    rcases askV_ok hT (tw := tw) (ta := ta) hdn with q | ⟨e, he, q⟩
    · rw [q]
      simp (disch := omega) only [pt_lt_, pt_clsome, pt_ck, pt_ckL, pt_cl, pt_clL, pt_cz0, pt_cz1, pt_czi, pt_add, pt_addL, pt_Ladd, pt_mul, pt_mulL, pt_Lmul, pt_sub, pt_subL, pt_Lsub, pt_rem, pt_le, pt_leL, pt_Lle, pt_lt, pt_ltL, pt_Llt, pt_eq, pt_eqL, pt_Leq, pt_m1, pt_lt0, pt_ge0, pt_m1lt0, pt_m1ge0, pt_10, pt_01, pt_00, pt_11, pt_m11, pt_0m1, pt_1m1, pt_ib, pt_ib1, pt_hs, pt_so, pt_ofNat, pt_si, pt_sin, pt_si1, pt_si2, pt_sl, pt_sln, pt_sl0, pt_sl2, pt_sr, pt_srn, pt_sr0, pt_sr1, if_true, if_false, ite_true, ite_false, not_true_eq_false, not_false_eq_true, if_pos, if_neg]
      obtain ⟨κ', r1, r2, r3⟩ := ih (d + 1) (by omega) f (by omega) _ k1 k2 k3 k4 k5 k6 k7 (fun e he => by
        by_cases hed : e = d
        · subst hed
          exact ⟨fun _ => by simp (disch := omega) only [pt_lt_, pt_clsome, pt_ck, pt_ckL, pt_cl, pt_clL, pt_cz0, pt_cz1, pt_czi, pt_add, pt_addL, pt_Ladd, pt_mul, pt_mulL, pt_Lmul, pt_sub, pt_subL, pt_Lsub, pt_rem, pt_le, pt_leL, pt_Lle, pt_lt, pt_ltL, pt_Llt, pt_eq, pt_eqL, pt_Leq, pt_m1, pt_lt0, pt_ge0, pt_m1lt0, pt_m1ge0, pt_10, pt_01, pt_00, pt_11, pt_m11, pt_0m1, pt_1m1, pt_ib, pt_ib1, pt_hs, pt_so, pt_ofNat, pt_si, pt_sin, pt_si1, pt_si2, pt_sl, pt_sln, pt_sl0, pt_sl2, pt_sr, pt_srn, pt_sr0, pt_sr1, if_true, if_false, ite_true, ite_false, not_true_eq_false, not_false_eq_true, if_pos, if_neg], fun e' he' hlt => by rw [q] at he'; exact absurd he'.symm (by rw [pt_m1 (by omega)]; exact not_false)⟩
        · have hwe := hw e (by omega)
          unfold wsh at hwe ⊢
          simp (disch := omega) only [pt_lt_, pt_clsome, pt_ck, pt_ckL, pt_cl, pt_clL, pt_cz0, pt_cz1, pt_czi, pt_add, pt_addL, pt_Ladd, pt_mul, pt_mulL, pt_Lmul, pt_sub, pt_subL, pt_Lsub, pt_rem, pt_le, pt_leL, pt_Lle, pt_lt, pt_ltL, pt_Llt, pt_eq, pt_eqL, pt_Leq, pt_m1, pt_lt0, pt_ge0, pt_m1lt0, pt_m1ge0, pt_10, pt_01, pt_00, pt_11, pt_m11, pt_0m1, pt_1m1, pt_ib, pt_ib1, pt_hs, pt_so, pt_ofNat, pt_si, pt_sin, pt_si1, pt_si2, pt_sl, pt_sln, pt_sl0, pt_sl2, pt_sr, pt_srn, pt_sr0, pt_sr1, if_true, if_false, ite_true, ite_false, not_true_eq_false, not_false_eq_true, if_pos, if_neg]
          exact hwe)
      exact ⟨κ', r1, r2, e0.tr r3⟩
    · rw [q]
      have hne : (nI e = -1) = False := pt_m1 (by omega)
      simp (disch := omega) only [pt_lt_, pt_clsome, pt_ck, pt_ckL, pt_cl, pt_clL, pt_cz0, pt_cz1, pt_czi, pt_add, pt_addL, pt_Ladd, pt_mul, pt_mulL, pt_Lmul, pt_sub, pt_subL, pt_Lsub, pt_rem, pt_le, pt_leL, pt_Lle, pt_lt, pt_ltL, pt_Llt, pt_eq, pt_eqL, pt_Leq, pt_m1, pt_lt0, pt_ge0, pt_m1lt0, pt_m1ge0, pt_10, pt_01, pt_00, pt_11, pt_m11, pt_0m1, pt_1m1, pt_ib, pt_ib1, pt_hs, pt_so, pt_ofNat, pt_si, pt_sin, pt_si1, pt_si2, pt_sl, pt_sln, pt_sl0, pt_sl2, pt_sr, pt_srn, pt_sr0, pt_sr1, if_true, if_false, ite_true, ite_false, not_true_eq_false, not_false_eq_true, if_pos, if_neg]
      obtain ⟨z1, z2, z3⟩ := k7 e he
      obtain ⟨κ1, w1, w2, w3, w4⟩ := pm_wants (d := d) (e := e) hF hr hT hdn he hS (mn e) 0 (by omega) F (by have := (hS e he).1; omega) (s_i κ 106 d (-1)) none 0 k1 k2 k3 k4 z1 z2 (k7 d hdn).2.2 (by simp (disch := omega) only [pt_lt_, pt_clsome, pt_ck, pt_ckL, pt_cl, pt_clL, pt_cz0, pt_cz1, pt_czi, pt_add, pt_addL, pt_Ladd, pt_mul, pt_mulL, pt_Lmul, pt_sub, pt_subL, pt_Lsub, pt_rem, pt_le, pt_leL, pt_Lle, pt_lt, pt_ltL, pt_Llt, pt_eq, pt_eqL, pt_Leq, pt_m1, pt_lt0, pt_ge0, pt_m1lt0, pt_m1ge0, pt_10, pt_01, pt_00, pt_11, pt_m11, pt_0m1, pt_1m1, pt_ib, pt_ib1, pt_hs, pt_so, pt_ofNat, pt_si, pt_sin, pt_si1, pt_si2, pt_sl, pt_sln, pt_sl0, pt_sl2, pt_sr, pt_srn, pt_sr0, pt_sr1, if_true, if_false, ite_true, ite_false, not_true_eq_false, not_false_eq_true, if_pos, if_neg]; rfl) (fun k hk => by cases hk)
      have w1' : pX6_wants F (s_i κ 106 d (-1)) (nI r) (nI d) (nI e) = some κ1 := w1
      rw [w1']
      simp (disch := omega) only [pt_lt_, pt_clsome, pt_ck, pt_ckL, pt_cl, pt_clL, pt_cz0, pt_cz1, pt_czi, pt_add, pt_addL, pt_Ladd, pt_mul, pt_mulL, pt_Lmul, pt_sub, pt_subL, pt_Lsub, pt_rem, pt_le, pt_leL, pt_Lle, pt_lt, pt_ltL, pt_Llt, pt_eq, pt_eqL, pt_Leq, pt_m1, pt_lt0, pt_ge0, pt_m1lt0, pt_m1ge0, pt_10, pt_01, pt_00, pt_11, pt_m11, pt_0m1, pt_1m1, pt_ib, pt_ib1, pt_hs, pt_so, pt_ofNat, pt_si, pt_sin, pt_si1, pt_si2, pt_sl, pt_sln, pt_sl0, pt_sl2, pt_sr, pt_srn, pt_sr0, pt_sr1, if_true, if_false, ite_true, ite_false, not_true_eq_false, not_false_eq_true, if_pos, if_neg]
      have e1 : Fr FB κ κ1 := e0.tr (w4.mono (fun j i q => q.elim Or.inl (fun q => Or.inr q.1)))
      obtain ⟨j1, j2, j3, j4, j5, j6, j7⟩ := hfr _ e1
      obtain ⟨κ', r1, r2, r3⟩ := ih (d + 1) (by omega) f (by omega) κ1 j1 j2 j3 j4 j5 j6 j7 (fun e' he' => by
        by_cases hed : e' = d
        · subst hed
          refine ⟨fun h => by rw [q, hne] at h; exact h.elim, fun e2 he2 hlt => ?_⟩
          rw [q, pt_eq (by omega) (by omega)] at he2
          subst he2
          exact ⟨w2, w3⟩
        · have hwe := hw e' (by omega)
          have g1 : κ1.1 106 e' = κ.1 106 e' := by
            rw [(w4.1 106 e' (by unfold FL; omega)).1]
            simp (disch := omega) only [pt_lt_, pt_clsome, pt_ck, pt_ckL, pt_cl, pt_clL, pt_cz0, pt_cz1, pt_czi, pt_add, pt_addL, pt_Ladd, pt_mul, pt_mulL, pt_Lmul, pt_sub, pt_subL, pt_Lsub, pt_rem, pt_le, pt_leL, pt_Lle, pt_lt, pt_ltL, pt_Llt, pt_eq, pt_eqL, pt_Leq, pt_m1, pt_lt0, pt_ge0, pt_m1lt0, pt_m1ge0, pt_10, pt_01, pt_00, pt_11, pt_m11, pt_0m1, pt_1m1, pt_ib, pt_ib1, pt_hs, pt_so, pt_ofNat, pt_si, pt_sin, pt_si1, pt_si2, pt_sl, pt_sln, pt_sl0, pt_sl2, pt_sr, pt_srn, pt_sr0, pt_sr1, if_true, if_false, ite_true, ite_false, not_true_eq_false, not_false_eq_true, if_pos, if_neg]
          have g2 : κ1.1 107 e' = κ.1 107 e' := by
            rw [(w4.1 107 e' (by unfold FL; omega)).1]
            simp (disch := omega) only [pt_lt_, pt_clsome, pt_ck, pt_ckL, pt_cl, pt_clL, pt_cz0, pt_cz1, pt_czi, pt_add, pt_addL, pt_Ladd, pt_mul, pt_mulL, pt_Lmul, pt_sub, pt_subL, pt_Lsub, pt_rem, pt_le, pt_leL, pt_Lle, pt_lt, pt_ltL, pt_Llt, pt_eq, pt_eqL, pt_Leq, pt_m1, pt_lt0, pt_ge0, pt_m1lt0, pt_m1ge0, pt_10, pt_01, pt_00, pt_11, pt_m11, pt_0m1, pt_1m1, pt_ib, pt_ib1, pt_hs, pt_so, pt_ofNat, pt_si, pt_sin, pt_si1, pt_si2, pt_sl, pt_sln, pt_sl0, pt_sl2, pt_sr, pt_srn, pt_sr0, pt_sr1, if_true, if_false, ite_true, ite_false, not_true_eq_false, not_false_eq_true, if_pos, if_neg]
          unfold wsh at hwe ⊢
          rw [g1, g2]
          exact hwe)
      exact ⟨κ', r1, r2, e1.tr r3⟩
theorem rr_noonC {F : Nat} {hu : hd_T} {hb r ch dy : Nat} {mn0 : Nat → Nat} {F0 T0 : Nat → Nat → Int32} {H : Nat → Int32} {tw ta : Int32} {B : Nat} (hF : 80 ≤ F) (hr : r < 3) (hB : B ≤ 400) (hS : SN (hu.2.1 0) (hu.2.1 1) mn0 F0 T0) : ∀ m d, d + m = hu.2.1 0 → ∀ fx fm, m < fx → m < fm → ∀ (mn : Nat → Nat) (w : Nat) (κx κm : kp_K), CTX hu hb r ch κx κm → NX (hu.2.1 0) r mn0 F0 T0 H κx → HM (hu.2.1 0) r H κm → ¬ κm.1 66 59 = 0 → κm.1 66 37 = tw → κm.1 66 38 = ta → RR hu r dy mn w (B + d) κx κm → LG (hu.2.1 0) r κx κm → (∀ e, e < hu.2.1 0 → wsh hu H dy mn0 F0 T0 tw ta e κm) →
    ∃ κx' κm' mn' w', bX5_noon_11 F hb hu r fx κx (nI d) = some κx' ∧ bX6_noon_82 F fm κm (nI r) (nI d) = some κm' ∧ RR hu r dy mn' w' (B + hu.2.1 0) κx' κm' ∧ LG (hu.2.1 0) r κx' κm' ∧ κx'.1 (13 + 14 * r) 13 = 0 ∧ κm'.1 66 59 = 0 ∧ Fr (PX r) κx κx' ∧ Fr (PM r) κm κm' := by
  intro m
  induction m with
  | zero =>
    intro d hd fx fm hfx hfm mn w κx κm C hN hm hn ht1 ht2 h hg hw
    obtain ⟨fx, rfl⟩ : ∃ f', fx = f' + 1 := ⟨fx - 1, by omega⟩
    obtain ⟨fm, rfl⟩ : ∃ f', fm = f' + 1 := ⟨fm - 1, by omega⟩
    have hn4 := C.1.1.1
    rw [bX5_noon_11, bX6_noon_82]
    unfold pX1_desks
    simp (disch := omega) only [pt_lt_, pt_clsome, pt_ck, pt_ckL, pt_cl, pt_clL, pt_cz0, pt_cz1, pt_czi, pt_add, pt_addL, pt_Ladd, pt_mul, pt_mulL, pt_Lmul, pt_sub, pt_subL, pt_Lsub, pt_rem, pt_le, pt_leL, pt_Lle, pt_lt, pt_ltL, pt_Llt, pt_eq, pt_eqL, pt_Leq, pt_m1, pt_lt0, pt_ge0, pt_m1lt0, pt_m1ge0, pt_10, pt_01, pt_00, pt_11, pt_m11, pt_0m1, pt_1m1, pt_ib, pt_ib1, pt_hs, pt_so, pt_ofNat, pt_si, pt_sin, pt_si1, pt_si2, pt_sl, pt_sln, pt_sl0, pt_sl2, pt_sr, pt_srn, pt_sr0, pt_sr1, if_true, if_false, ite_true, ite_false, not_true_eq_false, not_false_eq_true, if_pos, if_neg, C.2.2.1, C.2.1.1 0 (by omega)]
    refine ⟨_, _, mn, w, rfl, rfl, ?_, fun e he => ?_, by simp (disch := omega) only [pt_lt_, pt_clsome, pt_ck, pt_ckL, pt_cl, pt_clL, pt_cz0, pt_cz1, pt_czi, pt_add, pt_addL, pt_Ladd, pt_mul, pt_mulL, pt_Lmul, pt_sub, pt_subL, pt_Lsub, pt_rem, pt_le, pt_leL, pt_Lle, pt_lt, pt_ltL, pt_Llt, pt_eq, pt_eqL, pt_Leq, pt_m1, pt_lt0, pt_ge0, pt_m1lt0, pt_m1ge0, pt_10, pt_01, pt_00, pt_11, pt_m11, pt_0m1, pt_1m1, pt_ib, pt_ib1, pt_hs, pt_so, pt_ofNat, pt_si, pt_sin, pt_si1, pt_si2, pt_sl, pt_sln, pt_sl0, pt_sl2, pt_sr, pt_srn, pt_sr0, pt_sr1, if_true, if_false, ite_true, ite_false, not_true_eq_false, not_false_eq_true, if_pos, if_neg], by simp (disch := omega) only [pt_lt_, pt_clsome, pt_ck, pt_ckL, pt_cl, pt_clL, pt_cz0, pt_cz1, pt_czi, pt_add, pt_addL, pt_Ladd, pt_mul, pt_mulL, pt_Lmul, pt_sub, pt_subL, pt_Lsub, pt_rem, pt_le, pt_leL, pt_Lle, pt_lt, pt_ltL, pt_Llt, pt_eq, pt_eqL, pt_Leq, pt_m1, pt_lt0, pt_ge0, pt_m1lt0, pt_m1ge0, pt_10, pt_01, pt_00, pt_11, pt_m11, pt_0m1, pt_1m1, pt_ib, pt_ib1, pt_hs, pt_so, pt_ofNat, pt_si, pt_sin, pt_si1, pt_si2, pt_sl, pt_sln, pt_sl0, pt_sl2, pt_sr, pt_srn, pt_sr0, pt_sr1, if_true, if_false, ite_true, ite_false, not_true_eq_false, not_false_eq_true, if_pos, if_neg], Fr.si (by unfold PX; omega), Fr.si (by unfold PM; omega)⟩
    · rw [show hu.2.1 0 = d from by omega]
      exact h.same (fun j i a b c e f => by simp (disch := omega) only [pt_lt_, pt_clsome, pt_ck, pt_ckL, pt_cl, pt_clL, pt_cz0, pt_cz1, pt_czi, pt_add, pt_addL, pt_Ladd, pt_mul, pt_mulL, pt_Lmul, pt_sub, pt_subL, pt_Lsub, pt_rem, pt_le, pt_leL, pt_Lle, pt_lt, pt_ltL, pt_Llt, pt_eq, pt_eqL, pt_Leq, pt_m1, pt_lt0, pt_ge0, pt_m1lt0, pt_m1ge0, pt_10, pt_01, pt_00, pt_11, pt_m11, pt_0m1, pt_1m1, pt_ib, pt_ib1, pt_hs, pt_so, pt_ofNat, pt_si, pt_sin, pt_si1, pt_si2, pt_sl, pt_sln, pt_sl0, pt_sl2, pt_sr, pt_srn, pt_sr0, pt_sr1, if_true, if_false, ite_true, ite_false, not_true_eq_false, not_false_eq_true, if_pos, if_neg]) (fun j i a b c => by simp (disch := omega) only [pt_lt_, pt_clsome, pt_ck, pt_ckL, pt_cl, pt_clL, pt_cz0, pt_cz1, pt_czi, pt_add, pt_addL, pt_Ladd, pt_mul, pt_mulL, pt_Lmul, pt_sub, pt_subL, pt_Lsub, pt_rem, pt_le, pt_leL, pt_Lle, pt_lt, pt_ltL, pt_Llt, pt_eq, pt_eqL, pt_Leq, pt_m1, pt_lt0, pt_ge0, pt_m1lt0, pt_m1ge0, pt_10, pt_01, pt_00, pt_11, pt_m11, pt_0m1, pt_1m1, pt_ib, pt_ib1, pt_hs, pt_so, pt_ofNat, pt_si, pt_sin, pt_si1, pt_si2, pt_sl, pt_sln, pt_sl0, pt_sl2, pt_sr, pt_srn, pt_sr0, pt_sr1, if_true, if_false, ite_true, ite_false, not_true_eq_false, not_false_eq_true, if_pos, if_neg])
    · simp (disch := omega) only [pt_lt_, pt_clsome, pt_ck, pt_ckL, pt_cl, pt_clL, pt_cz0, pt_cz1, pt_czi, pt_add, pt_addL, pt_Ladd, pt_mul, pt_mulL, pt_Lmul, pt_sub, pt_subL, pt_Lsub, pt_rem, pt_le, pt_leL, pt_Lle, pt_lt, pt_ltL, pt_Llt, pt_eq, pt_eqL, pt_Leq, pt_m1, pt_lt0, pt_ge0, pt_m1lt0, pt_m1ge0, pt_10, pt_01, pt_00, pt_11, pt_m11, pt_0m1, pt_1m1, pt_ib, pt_ib1, pt_hs, pt_so, pt_ofNat, pt_si, pt_sin, pt_si1, pt_si2, pt_sl, pt_sln, pt_sl0, pt_sl2, pt_sr, pt_srn, pt_sr0, pt_sr1, if_true, if_false, ite_true, ite_false, not_true_eq_false, not_false_eq_true, if_pos, if_neg]
      exact hg e he
  | succ m ih =>
    intro d hd fx fm hfx hfm mn w κx κm C hN hm hn ht1 ht2 h hg hw
    obtain ⟨fx, rfl⟩ : ∃ f', fx = f' + 1 := ⟨fx - 1, by omega⟩
    obtain ⟨fm, rfl⟩ : ∃ f', fm = f' + 1 := ⟨fm - 1, by omega⟩
    have hn4 := C.1.1.1
    have hdn : d < hu.2.1 0 := by omega
    have ea := px_asks C hdn
    rw [ht1, ht2] at ea
    obtain ⟨u1, u2⟩ := hw d hdn
    rw [bX5_noon_11, bX6_noon_82]
    unfold pX1_desks
    simp (disch := omega) only [pt_lt_, pt_clsome, pt_ck, pt_ckL, pt_cl, pt_clL, pt_cz0, pt_cz1, pt_czi, pt_add, pt_addL, pt_Ladd, pt_mul, pt_mulL, pt_Lmul, pt_sub, pt_subL, pt_Lsub, pt_rem, pt_le, pt_leL, pt_Lle, pt_lt, pt_ltL, pt_Llt, pt_eq, pt_eqL, pt_Leq, pt_m1, pt_lt0, pt_ge0, pt_m1lt0, pt_m1ge0, pt_10, pt_01, pt_00, pt_11, pt_m11, pt_0m1, pt_1m1, pt_ib, pt_ib1, pt_hs, pt_so, pt_ofNat, pt_si, pt_sin, pt_si1, pt_si2, pt_sl, pt_sln, pt_sl0, pt_sl2, pt_sr, pt_srn, pt_sr0, pt_sr1, if_true, if_false, ite_true, ite_false, not_true_eq_false, not_false_eq_true, if_pos, if_neg, C.2.2.1, C.2.1.1 0 (by omega)]
    rw [ea]
    simp (disch := omega) only [pt_lt_, pt_clsome, pt_ck, pt_ckL, pt_cl, pt_clL, pt_cz0, pt_cz1, pt_czi, pt_add, pt_addL, pt_Ladd, pt_mul, pt_mulL, pt_Lmul, pt_sub, pt_subL, pt_Lsub, pt_rem, pt_le, pt_leL, pt_Lle, pt_lt, pt_ltL, pt_Llt, pt_eq, pt_eqL, pt_Leq, pt_m1, pt_lt0, pt_ge0, pt_m1lt0, pt_m1ge0, pt_10, pt_01, pt_00, pt_11, pt_m11, pt_0m1, pt_1m1, pt_ib, pt_ib1, pt_hs, pt_so, pt_ofNat, pt_si, pt_sin, pt_si1, pt_si2, pt_sl, pt_sln, pt_sl0, pt_sl2, pt_sr, pt_srn, pt_sr0, pt_sr1, if_true, if_false, ite_true, ite_false, not_true_eq_false, not_false_eq_true, if_pos, if_neg]
    rcases askV_ok C.1 (tw := tw) (ta := ta) hdn with q | ⟨e, he, q⟩
    · rw [q]
      simp (disch := omega) only [pt_lt_, pt_clsome, pt_ck, pt_ckL, pt_cl, pt_clL, pt_cz0, pt_cz1, pt_czi, pt_add, pt_addL, pt_Ladd, pt_mul, pt_mulL, pt_Lmul, pt_sub, pt_subL, pt_Lsub, pt_rem, pt_le, pt_leL, pt_Lle, pt_lt, pt_ltL, pt_Llt, pt_eq, pt_eqL, pt_Leq, pt_m1, pt_lt0, pt_ge0, pt_m1lt0, pt_m1ge0, pt_10, pt_01, pt_00, pt_11, pt_m11, pt_0m1, pt_1m1, pt_ib, pt_ib1, pt_hs, pt_so, pt_ofNat, pt_si, pt_sin, pt_si1, pt_si2, pt_sl, pt_sln, pt_sl0, pt_sl2, pt_sr, pt_srn, pt_sr0, pt_sr1, if_true, if_false, ite_true, ite_false, not_true_eq_false, not_false_eq_true, if_pos, if_neg, u1 q]
      exact ih (d + 1) (by omega) fx fm (by omega) (by omega) mn w κx κm C hN hm hn ht1 ht2 (h.mono (by omega)) hg hw
    · rw [q]
      obtain ⟨v1, v2⟩ := u2 e q he
      obtain ⟨κ1, a1, a2⟩ := px_asksAt (F := F) (hb := hb) (r := r) (dy := dy) (H := H) hF hr C.1 C.2.1.2.2.2.2.2.2.2.2.2.2.1.sw hdn he hS (mn0 e) 0 (by omega) F (by have := (hS e he).1; omega) κx none 0 C.2.2.1 hN h.1.1 (fun j hj => by cases hj)
      have a1' : pX5_asksAt F hb hu r κx (nI d) (nI e) = (match wnt (wV hu H dy d F0 T0 e) (wS H d F0 e) 0 (mn0 e) none 0 with
        | none => some κ1
        | some k' => p_cl (pX5_comes F hb hu r κ1 (nI d) (F0 e k') (T0 e k')) fun z => some z) := by
        unfold pX5_asksAt
        simp (disch := omega) only [pt_lt_, pt_clsome, pt_ck, pt_ckL, pt_cl, pt_clL, pt_cz0, pt_cz1, pt_czi, pt_add, pt_addL, pt_Ladd, pt_mul, pt_mulL, pt_Lmul, pt_sub, pt_subL, pt_Lsub, pt_rem, pt_le, pt_leL, pt_Lle, pt_lt, pt_ltL, pt_Llt, pt_eq, pt_eqL, pt_Leq, pt_m1, pt_lt0, pt_ge0, pt_m1lt0, pt_m1ge0, pt_10, pt_01, pt_00, pt_11, pt_m11, pt_0m1, pt_1m1, pt_ib, pt_ib1, pt_hs, pt_so, pt_ofNat, pt_si, pt_sin, pt_si1, pt_si2, pt_sl, pt_sln, pt_sl0, pt_sl2, pt_sr, pt_srn, pt_sr0, pt_sr1, if_true, if_false, ite_true, ite_false, not_true_eq_false, not_false_eq_true, if_pos, if_neg]
        exact a1
      simp (disch := omega) only [pt_lt_, pt_clsome, pt_ck, pt_ckL, pt_cl, pt_clL, pt_cz0, pt_cz1, pt_czi, pt_add, pt_addL, pt_Ladd, pt_mul, pt_mulL, pt_Lmul, pt_sub, pt_subL, pt_Lsub, pt_rem, pt_le, pt_leL, pt_Lle, pt_lt, pt_ltL, pt_Llt, pt_eq, pt_eqL, pt_Leq, pt_m1, pt_lt0, pt_ge0, pt_m1lt0, pt_m1ge0, pt_10, pt_01, pt_00, pt_11, pt_m11, pt_0m1, pt_1m1, pt_ib, pt_ib1, pt_hs, pt_so, pt_ofNat, pt_si, pt_sin, pt_si1, pt_si2, pt_sl, pt_sln, pt_sl0, pt_sl2, pt_sr, pt_srn, pt_sr0, pt_sr1, if_true, if_false, ite_true, ite_false, not_true_eq_false, not_false_eq_true, if_pos, if_neg]
      rw [a1']
      have C1 : CTX hu hb r ch κ1 κm := C.fr (a2.mono (fun j i q => by unfold PX9 at q; unfold PX; omega)) Fr.rf
      have N1 := hN.fr (a2.mono (fun j i q => by unfold PX9 at q; unfold PXc; omega))
      have h1 : RR hu r dy mn w (B + d) κ1 κm := h.fr a2 Fr.rf
      have g1 : LG (hu.2.1 0) r κ1 κm := fun e' he' => by rw [(a2.1 _ _ (by unfold PX9; omega)).1]; exact hg e' he'
      have a3 : Fr (PX r) κx κ1 := a2.mono (fun j i q => by unfold PX9 at q; unfold PX; omega)
      cases hwn : wnt (wV hu H dy d F0 T0 e) (wS H d F0 e) 0 (mn0 e) none 0 with
      | none =>
        rw [hwn] at v1
        have v1' : κm.1 106 d = -1 := v1
        simp (disch := omega) only [pt_lt_, pt_clsome, pt_ck, pt_ckL, pt_cl, pt_clL, pt_cz0, pt_cz1, pt_czi, pt_add, pt_addL, pt_Ladd, pt_mul, pt_mulL, pt_Lmul, pt_sub, pt_subL, pt_Lsub, pt_rem, pt_le, pt_leL, pt_Lle, pt_lt, pt_ltL, pt_Llt, pt_eq, pt_eqL, pt_Leq, pt_m1, pt_lt0, pt_ge0, pt_m1lt0, pt_m1ge0, pt_10, pt_01, pt_00, pt_11, pt_m11, pt_0m1, pt_1m1, pt_ib, pt_ib1, pt_hs, pt_so, pt_ofNat, pt_si, pt_sin, pt_si1, pt_si2, pt_sl, pt_sln, pt_sl0, pt_sl2, pt_sr, pt_srn, pt_sr0, pt_sr1, if_true, if_false, ite_true, ite_false, not_true_eq_false, not_false_eq_true, if_pos, if_neg, v1']
        obtain ⟨κx', κm', mn', w', r1, r2, r3, r4, r5, r6, r7, r8⟩ := ih (d + 1) (by omega) fx fm (by omega) (by omega) mn w κ1 κm C1 N1 hm hn ht1 ht2 (h1.mono (by omega)) g1 hw
        exact ⟨κx', κm', mn', w', r1, r2, r3, r4, r5, r6, a3.tr r7, r8⟩
      | some k' =>
        have hk' := wnt_lt (mn0 e) 0 none 0 (by omega : 0 + mn0 e = mn0 e) (fun j hj => by cases hj) hwn
        obtain ⟨f2, hf2, hF2⟩ := (hS e he).2 k' hk'
        rw [hwn] at v1
        have v1' : κm.1 106 d = nI f2 := v1.trans hF2
        have v2' := v2 k' hwn
        have f7 := C.1.1.2.1
        obtain ⟨κx2, κm2, mn2, w2, e1, e2, e3, e4, e5, e6⟩ := rr_comes hF hr hdn hf2 (T0 e k') C1 h1 (by omega) (Or.inr ⟨N1.1, fun e' he' => (N1.2 e' he').1⟩) hm g1
        simp (disch := omega) only [pt_lt_, pt_clsome, pt_ck, pt_ckL, pt_cl, pt_clL, pt_cz0, pt_cz1, pt_czi, pt_add, pt_addL, pt_Ladd, pt_mul, pt_mulL, pt_Lmul, pt_sub, pt_subL, pt_Lsub, pt_rem, pt_le, pt_leL, pt_Lle, pt_lt, pt_ltL, pt_Llt, pt_eq, pt_eqL, pt_Leq, pt_m1, pt_lt0, pt_ge0, pt_m1lt0, pt_m1ge0, pt_10, pt_01, pt_00, pt_11, pt_m11, pt_0m1, pt_1m1, pt_ib, pt_ib1, pt_hs, pt_so, pt_ofNat, pt_si, pt_sin, pt_si1, pt_si2, pt_sl, pt_sln, pt_sl0, pt_sl2, pt_sr, pt_srn, pt_sr0, pt_sr1, if_true, if_false, ite_true, ite_false, not_true_eq_false, not_false_eq_true, if_pos, if_neg, v1', v2', hF2, e1, e2]
        have C2 : CTX hu hb r ch κx2 κm2 := C1.fr (e5.mono (fun j i q => q.px)) (e6.mono (fun j i q => q.pm))
        have gg : ∀ j i, ¬ PMc r j i → κm2.1 j i = κm.1 j i := fun j i q => (e6.1 j i q).1
        have hm2 : HM (hu.2.1 0) r H κm2 := by
          rcases hm with ⟨z1, z2⟩ | ⟨z1, z2⟩
          · exact absurd z1 hn
          · exact Or.inr ⟨by rw [gg _ _ (by unfold PMc; omega)]; exact z1, fun e' he' => by rw [gg _ _ (by unfold PMc; omega)]; exact z2 e' he'⟩
        obtain ⟨κx', κm', mn', w', r1, r2, r3, r4, r5, r6, r7, r8⟩ := ih (d + 1) (by omega) fx fm (by omega) (by omega) mn2 w2 κx2 κm2 C2 (N1.fr e5) hm2 (by rw [gg _ _ (by unfold PMc; omega)]; exact hn) (by rw [gg _ _ (by unfold PMc; omega)]; exact ht1) (by rw [gg _ _ (by unfold PMc; omega)]; exact ht2) e3 e4 (fun e' he' => by
          have hwe := hw e' he'
          unfold wsh at hwe ⊢
          rw [gg 106 e' (by unfold PMc; omega), gg 107 e' (by unfold PMc; omega)]
          exact hwe)
        exact ⟨κx', κm', mn', w', r1, r2, r3, r4, r5, r6, (a3.tr (e5.mono (fun j i q => q.px))).tr r7, (e6.mono (fun j i q => q.pm)).tr r8⟩
theorem rr_noon {F : Nat} {hu : hd_T} {hb r ch dy : Nat} {mn : Nat → Nat} {w B : Nat} {κx κm : kp_K} (hF : 80 ≤ F) (hr : r < 3) (hB : B ≤ 400) (C : CTX hu hb r ch κx κm) (h : RR hu r dy mn w B κx κm) (hg : LG (hu.2.1 0) r κx κm) :
    ∃ κx' κm' mn' w', pX5_noon F hb hu r κx = some κx' ∧ pX6_noon F κm (nI r) = some κm' ∧ RR hu r dy mn' w' (B + hu.2.1 0) κx' κm' ∧ κx'.1 (13 + 14 * r) 13 = 0 ∧ κm'.1 66 59 = 0 ∧ Fr (PX r) κx κx' ∧ Fr (PM r) κm κm' := by
  have hn4 := C.1.1.1
  obtain ⟨κx1, κm1, a1, a2, a3, a4, a5, a6⟩ := rr_layThen (H := hNow r mn κm) hF hr hn4 (hu.2.1 0) 0 (by omega) F F (by omega) (by omega) κx κm C.2.2.1 (C.2.1.1 0 (by omega)) h (fun _ _ => rfl) (fun e he => by omega)
  have a1' : pX5_layThen F hb hu r κx = some κx1 := a1
  unfold pX5_noon
  rw [a1']
  simp (disch := omega) only [pt_lt_, pt_clsome, pt_ck, pt_ckL, pt_cl, pt_clL, pt_cz0, pt_cz1, pt_czi, pt_add, pt_addL, pt_Ladd, pt_mul, pt_mulL, pt_Lmul, pt_sub, pt_subL, pt_Lsub, pt_rem, pt_le, pt_leL, pt_Lle, pt_lt, pt_ltL, pt_Llt, pt_eq, pt_eqL, pt_Leq, pt_m1, pt_lt0, pt_ge0, pt_m1lt0, pt_m1ge0, pt_10, pt_01, pt_00, pt_11, pt_m11, pt_0m1, pt_1m1, pt_ib, pt_ib1, pt_hs, pt_so, pt_ofNat, pt_si, pt_sin, pt_si1, pt_si2, pt_sl, pt_sln, pt_sl0, pt_sl2, pt_sr, pt_srn, pt_sr0, pt_sr1, if_true, if_false, ite_true, ite_false, not_true_eq_false, not_false_eq_true, if_pos, if_neg]
  have q1 : Fr (PX r) κx (s_i κx1 (13 + 14 * r) 13 1) := (a5.mono (fun j i q => by unfold PX; omega)).tr (Fr.si (by unfold PX; omega))
  have q2 : Fr (PM r) κm (s_i κm1 66 59 1) := (a6.mono (fun j i q => by unfold PM; omega)).tr (Fr.si (by unfold PM; omega))
  have C1 := C.fr q1 q2
  have gx : ∀ j i, ¬ (21 + 14 * r ≤ j ∧ j ≤ 24 + 14 * r) → κx1.1 j i = κx.1 j i := fun j i q => (a5.1 j i q).1
  have gm : ∀ j i, ¬ j = 105 → κm1.1 j i = κm.1 j i := fun j i q => (a6.1 j i q).1
  have h1 : RR hu r dy mn w B (s_i κx1 (13 + 14 * r) 13 1) (s_i κm1 66 59 1) := h.same (fun j i a b c d e => by simp (disch := omega) only [pt_lt_, pt_clsome, pt_ck, pt_ckL, pt_cl, pt_clL, pt_cz0, pt_cz1, pt_czi, pt_add, pt_addL, pt_Ladd, pt_mul, pt_mulL, pt_Lmul, pt_sub, pt_subL, pt_Lsub, pt_rem, pt_le, pt_leL, pt_Lle, pt_lt, pt_ltL, pt_Llt, pt_eq, pt_eqL, pt_Leq, pt_m1, pt_lt0, pt_ge0, pt_m1lt0, pt_m1ge0, pt_10, pt_01, pt_00, pt_11, pt_m11, pt_0m1, pt_1m1, pt_ib, pt_ib1, pt_hs, pt_so, pt_ofNat, pt_si, pt_sin, pt_si1, pt_si2, pt_sl, pt_sln, pt_sl0, pt_sl2, pt_sr, pt_srn, pt_sr0, pt_sr1, if_true, if_false, ite_true, ite_false, not_true_eq_false, not_false_eq_true, if_pos, if_neg]; exact gx j i d) (fun j i a b c => by simp (disch := omega) only [pt_lt_, pt_clsome, pt_ck, pt_ckL, pt_cl, pt_clL, pt_cz0, pt_cz1, pt_czi, pt_add, pt_addL, pt_Ladd, pt_mul, pt_mulL, pt_Lmul, pt_sub, pt_subL, pt_Lsub, pt_rem, pt_le, pt_leL, pt_Lle, pt_lt, pt_ltL, pt_Llt, pt_eq, pt_eqL, pt_Leq, pt_m1, pt_lt0, pt_ge0, pt_m1lt0, pt_m1ge0, pt_10, pt_01, pt_00, pt_11, pt_m11, pt_0m1, pt_1m1, pt_ib, pt_ib1, pt_hs, pt_so, pt_ofNat, pt_si, pt_sin, pt_si1, pt_si2, pt_sl, pt_sln, pt_sl0, pt_sl2, pt_sr, pt_srn, pt_sr0, pt_sr1, if_true, if_false, ite_true, ite_false, not_true_eq_false, not_false_eq_true, if_pos, if_neg]; exact gm j i (by omega))
  have hg1 : LG (hu.2.1 0) r (s_i κx1 (13 + 14 * r) 13 1) (s_i κm1 66 59 1) := fun e he => by
    simp (disch := omega) only [pt_lt_, pt_clsome, pt_ck, pt_ckL, pt_cl, pt_clL, pt_cz0, pt_cz1, pt_czi, pt_add, pt_addL, pt_Ladd, pt_mul, pt_mulL, pt_Lmul, pt_sub, pt_subL, pt_Lsub, pt_rem, pt_le, pt_leL, pt_Lle, pt_lt, pt_ltL, pt_Llt, pt_eq, pt_eqL, pt_Leq, pt_m1, pt_lt0, pt_ge0, pt_m1lt0, pt_m1ge0, pt_10, pt_01, pt_00, pt_11, pt_m11, pt_0m1, pt_1m1, pt_ib, pt_ib1, pt_hs, pt_so, pt_ofNat, pt_si, pt_sin, pt_si1, pt_si2, pt_sl, pt_sln, pt_sl0, pt_sl2, pt_sr, pt_srn, pt_sr0, pt_sr1, if_true, if_false, ite_true, ite_false, not_true_eq_false, not_false_eq_true, if_pos, if_neg]
    rw [gx _ _ (by omega), gm _ _ (by omega)]
    exact hg e he
  have hS : SN (hu.2.1 0) (hu.2.1 1) mn (fun e k => κm.1 93 (28 * r + 7 * e + k)) (fun e k => κm.1 94 (28 * r + 7 * e + k)) := fun e he => ⟨(h.2.2.1 e (by omega)).2.2, fun k hk => (h.2.2.2.2.1 e k (by omega) hk).2.2.2.1⟩
  have hN : NX (hu.2.1 0) r mn (fun e k => κm.1 93 (28 * r + 7 * e + k)) (fun e k => κm.1 94 (28 * r + 7 * e + k)) (hNow r mn κm) (s_i κx1 (13 + 14 * r) 13 1) := by
    refine ⟨by simp (disch := omega) only [pt_lt_, pt_clsome, pt_ck, pt_ckL, pt_cl, pt_clL, pt_cz0, pt_cz1, pt_czi, pt_add, pt_addL, pt_Ladd, pt_mul, pt_mulL, pt_Lmul, pt_sub, pt_subL, pt_Lsub, pt_rem, pt_le, pt_leL, pt_Lle, pt_lt, pt_ltL, pt_Llt, pt_eq, pt_eqL, pt_Leq, pt_m1, pt_lt0, pt_ge0, pt_m1lt0, pt_m1ge0, pt_10, pt_01, pt_00, pt_11, pt_m11, pt_0m1, pt_1m1, pt_ib, pt_ib1, pt_hs, pt_so, pt_ofNat, pt_si, pt_sin, pt_si1, pt_si2, pt_sl, pt_sln, pt_sl0, pt_sl2, pt_sr, pt_srn, pt_sr0, pt_sr1, if_true, if_false, ite_true, ite_false, not_true_eq_false, not_false_eq_true, if_pos, if_neg], fun e he => ?_⟩
    obtain ⟨z1, z2, z3⟩ := a3 e he
    refine ⟨by simp (disch := omega) only [pt_lt_, pt_clsome, pt_ck, pt_ckL, pt_cl, pt_clL, pt_cz0, pt_cz1, pt_czi, pt_add, pt_addL, pt_Ladd, pt_mul, pt_mulL, pt_Lmul, pt_sub, pt_subL, pt_Lsub, pt_rem, pt_le, pt_leL, pt_Lle, pt_lt, pt_ltL, pt_Llt, pt_eq, pt_eqL, pt_Leq, pt_m1, pt_lt0, pt_ge0, pt_m1lt0, pt_m1ge0, pt_10, pt_01, pt_00, pt_11, pt_m11, pt_0m1, pt_1m1, pt_ib, pt_ib1, pt_hs, pt_so, pt_ofNat, pt_si, pt_sin, pt_si1, pt_si2, pt_sl, pt_sln, pt_sl0, pt_sl2, pt_sr, pt_srn, pt_sr0, pt_sr1, if_true, if_false, ite_true, ite_false, not_true_eq_false, not_false_eq_true, if_pos, if_neg]; exact z1, by simp (disch := omega) only [pt_lt_, pt_clsome, pt_ck, pt_ckL, pt_cl, pt_clL, pt_cz0, pt_cz1, pt_czi, pt_add, pt_addL, pt_Ladd, pt_mul, pt_mulL, pt_Lmul, pt_sub, pt_subL, pt_Lsub, pt_rem, pt_le, pt_leL, pt_Lle, pt_lt, pt_ltL, pt_Llt, pt_eq, pt_eqL, pt_Leq, pt_m1, pt_lt0, pt_ge0, pt_m1lt0, pt_m1ge0, pt_10, pt_01, pt_00, pt_11, pt_m11, pt_0m1, pt_1m1, pt_ib, pt_ib1, pt_hs, pt_so, pt_ofNat, pt_si, pt_sin, pt_si1, pt_si2, pt_sl, pt_sln, pt_sl0, pt_sl2, pt_sr, pt_srn, pt_sr0, pt_sr1, if_true, if_false, ite_true, ite_false, not_true_eq_false, not_false_eq_true, if_pos, if_neg]; exact z2, fun k hk => ?_⟩
    have hk7 := (h.2.2.1 e (by omega)).2.2
    obtain ⟨y1, y2⟩ := a4 (7 * e + k) (by omega)
    obtain ⟨x1, x2, -⟩ := h.2.2.2.2.1 e k (by omega) hk
    simp (disch := omega) only [pt_lt_, pt_clsome, pt_ck, pt_ckL, pt_cl, pt_clL, pt_cz0, pt_cz1, pt_czi, pt_add, pt_addL, pt_Ladd, pt_mul, pt_mulL, pt_Lmul, pt_sub, pt_subL, pt_Lsub, pt_rem, pt_le, pt_leL, pt_Lle, pt_lt, pt_ltL, pt_Llt, pt_eq, pt_eqL, pt_Leq, pt_m1, pt_lt0, pt_ge0, pt_m1lt0, pt_m1ge0, pt_10, pt_01, pt_00, pt_11, pt_m11, pt_0m1, pt_1m1, pt_ib, pt_ib1, pt_hs, pt_so, pt_ofNat, pt_si, pt_sin, pt_si1, pt_si2, pt_sl, pt_sln, pt_sl0, pt_sl2, pt_sr, pt_srn, pt_sr0, pt_sr1, if_true, if_false, ite_true, ite_false, not_true_eq_false, not_false_eq_true, if_pos, if_neg]
    rw [y1, y2, x1, x2]
    exact ⟨rfl, rfl⟩
  have hM1 : HM (hu.2.1 0) r (hNow r mn κm) (s_i κm1 66 59 1) := Or.inr ⟨by simp (disch := omega) only [pt_lt_, pt_clsome, pt_ck, pt_ckL, pt_cl, pt_clL, pt_cz0, pt_cz1, pt_czi, pt_add, pt_addL, pt_Ladd, pt_mul, pt_mulL, pt_Lmul, pt_sub, pt_subL, pt_Lsub, pt_rem, pt_le, pt_leL, pt_Lle, pt_lt, pt_ltL, pt_Llt, pt_eq, pt_eqL, pt_Leq, pt_m1, pt_lt0, pt_ge0, pt_m1lt0, pt_m1ge0, pt_10, pt_01, pt_00, pt_11, pt_m11, pt_0m1, pt_1m1, pt_ib, pt_ib1, pt_hs, pt_so, pt_ofNat, pt_si, pt_sin, pt_si1, pt_si2, pt_sl, pt_sln, pt_sl0, pt_sl2, pt_sr, pt_srn, pt_sr0, pt_sr1, if_true, if_false, ite_true, ite_false, not_true_eq_false, not_false_eq_true, if_pos, if_neg], fun e he => by simp (disch := omega) only [pt_lt_, pt_clsome, pt_ck, pt_ckL, pt_cl, pt_clL, pt_cz0, pt_cz1, pt_czi, pt_add, pt_addL, pt_Ladd, pt_mul, pt_mulL, pt_Lmul, pt_sub, pt_subL, pt_Lsub, pt_rem, pt_le, pt_leL, pt_Lle, pt_lt, pt_ltL, pt_Llt, pt_eq, pt_eqL, pt_Leq, pt_m1, pt_lt0, pt_ge0, pt_m1lt0, pt_m1ge0, pt_10, pt_01, pt_00, pt_11, pt_m11, pt_0m1, pt_1m1, pt_ib, pt_ib1, pt_hs, pt_so, pt_ofNat, pt_si, pt_sin, pt_si1, pt_si2, pt_sl, pt_sln, pt_sl0, pt_sl2, pt_sr, pt_srn, pt_sr0, pt_sr1, if_true, if_false, ite_true, ite_false, not_true_eq_false, not_false_eq_true, if_pos, if_neg]; exact (a3 e he).2.2⟩
  obtain ⟨κm2, b1, b2, b3⟩ := pm_noon37 (dy := dy) (tw := κm.1 66 37) (ta := κm.1 66 38) hF hr C.1 hS (hu.2.1 0) 0 (by omega) F (by omega) (s_i κm1 66 59 1) C1.2.1 hM1 (by simp (disch := omega) only [pt_lt_, pt_clsome, pt_ck, pt_ckL, pt_cl, pt_clL, pt_cz0, pt_cz1, pt_czi, pt_add, pt_addL, pt_Ladd, pt_mul, pt_mulL, pt_Lmul, pt_sub, pt_subL, pt_Lsub, pt_rem, pt_le, pt_leL, pt_Lle, pt_lt, pt_ltL, pt_Llt, pt_eq, pt_eqL, pt_Leq, pt_m1, pt_lt0, pt_ge0, pt_m1lt0, pt_m1ge0, pt_10, pt_01, pt_00, pt_11, pt_m11, pt_0m1, pt_1m1, pt_ib, pt_ib1, pt_hs, pt_so, pt_ofNat, pt_si, pt_sin, pt_si1, pt_si2, pt_sl, pt_sln, pt_sl0, pt_sl2, pt_sr, pt_srn, pt_sr0, pt_sr1, if_true, if_false, ite_true, ite_false, not_true_eq_false, not_false_eq_true, if_pos, if_neg]) h1.1.2.1 (by simp (disch := omega) only [pt_lt_, pt_clsome, pt_ck, pt_ckL, pt_cl, pt_clL, pt_cz0, pt_cz1, pt_czi, pt_add, pt_addL, pt_Ladd, pt_mul, pt_mulL, pt_Lmul, pt_sub, pt_subL, pt_Lsub, pt_rem, pt_le, pt_leL, pt_Lle, pt_lt, pt_ltL, pt_Llt, pt_eq, pt_eqL, pt_Leq, pt_m1, pt_lt0, pt_ge0, pt_m1lt0, pt_m1ge0, pt_10, pt_01, pt_00, pt_11, pt_m11, pt_0m1, pt_1m1, pt_ib, pt_ib1, pt_hs, pt_so, pt_ofNat, pt_si, pt_sin, pt_si1, pt_si2, pt_sl, pt_sln, pt_sl0, pt_sl2, pt_sr, pt_srn, pt_sr0, pt_sr1, if_true, if_false, ite_true, ite_false, not_true_eq_false, not_false_eq_true, if_pos, if_neg]; exact gm _ _ (by omega)) (by simp (disch := omega) only [pt_lt_, pt_clsome, pt_ck, pt_ckL, pt_cl, pt_clL, pt_cz0, pt_cz1, pt_czi, pt_add, pt_addL, pt_Ladd, pt_mul, pt_mulL, pt_Lmul, pt_sub, pt_subL, pt_Lsub, pt_rem, pt_le, pt_leL, pt_Lle, pt_lt, pt_ltL, pt_Llt, pt_eq, pt_eqL, pt_Leq, pt_m1, pt_lt0, pt_ge0, pt_m1lt0, pt_m1ge0, pt_10, pt_01, pt_00, pt_11, pt_m11, pt_0m1, pt_1m1, pt_ib, pt_ib1, pt_hs, pt_so, pt_ofNat, pt_si, pt_sin, pt_si1, pt_si2, pt_sl, pt_sln, pt_sl0, pt_sl2, pt_sr, pt_srn, pt_sr0, pt_sr1, if_true, if_false, ite_true, ite_false, not_true_eq_false, not_false_eq_true, if_pos, if_neg]; exact gm _ _ (by omega)) (fun e he => by
    have z := h.2.2.1 e (by omega)
    simp (disch := omega) only [pt_lt_, pt_clsome, pt_ck, pt_ckL, pt_cl, pt_clL, pt_cz0, pt_cz1, pt_czi, pt_add, pt_addL, pt_Ladd, pt_mul, pt_mulL, pt_Lmul, pt_sub, pt_subL, pt_Lsub, pt_rem, pt_le, pt_leL, pt_Lle, pt_lt, pt_ltL, pt_Llt, pt_eq, pt_eqL, pt_Leq, pt_m1, pt_lt0, pt_ge0, pt_m1lt0, pt_m1ge0, pt_10, pt_01, pt_00, pt_11, pt_m11, pt_0m1, pt_1m1, pt_ib, pt_ib1, pt_hs, pt_so, pt_ofNat, pt_si, pt_sin, pt_si1, pt_si2, pt_sl, pt_sln, pt_sl0, pt_sl2, pt_sr, pt_srn, pt_sr0, pt_sr1, if_true, if_false, ite_true, ite_false, not_true_eq_false, not_false_eq_true, if_pos, if_neg]
    refine ⟨by rw [gm _ _ (by omega)]; exact z.2.1, fun k hk => ?_, (a3 e he).2.2⟩
    rw [gm _ _ (by omega), gm _ _ (by omega)]
    exact ⟨rfl, rfl⟩) (fun e he => by omega)
  have q3 : Fr (PM r) (s_i κm1 66 59 1) κm2 := b3.mono (fun j i q => by unfold FB FL at q; unfold PM; omega)
  have gb : ∀ j i, ¬ FB j i → κm2.1 j i = (s_i κm1 66 59 1).1 j i := fun j i q => (b3.1 j i q).1
  have C2 : CTX hu hb r ch (s_i κx1 (13 + 14 * r) 13 1) κm2 := C1.fr Fr.rf q3
  have h2 : RR hu r dy mn w B (s_i κx1 (13 + 14 * r) 13 1) κm2 := h1.same (fun _ _ _ _ _ _ _ => rfl) (fun j i a b c => gb j i (by unfold FB FL; omega))
  have hM2 : HM (hu.2.1 0) r (hNow r mn κm) κm2 := Or.inr ⟨by rw [gb _ _ (by unfold FB FL; omega)]; simp (disch := omega) only [pt_lt_, pt_clsome, pt_ck, pt_ckL, pt_cl, pt_clL, pt_cz0, pt_cz1, pt_czi, pt_add, pt_addL, pt_Ladd, pt_mul, pt_mulL, pt_Lmul, pt_sub, pt_subL, pt_Lsub, pt_rem, pt_le, pt_leL, pt_Lle, pt_lt, pt_ltL, pt_Llt, pt_eq, pt_eqL, pt_Leq, pt_m1, pt_lt0, pt_ge0, pt_m1lt0, pt_m1ge0, pt_10, pt_01, pt_00, pt_11, pt_m11, pt_0m1, pt_1m1, pt_ib, pt_ib1, pt_hs, pt_so, pt_ofNat, pt_si, pt_sin, pt_si1, pt_si2, pt_sl, pt_sln, pt_sl0, pt_sl2, pt_sr, pt_srn, pt_sr0, pt_sr1, if_true, if_false, ite_true, ite_false, not_true_eq_false, not_false_eq_true, if_pos, if_neg], fun e he => by rw [gb _ _ (by unfold FB FL; omega)]; simp (disch := omega) only [pt_lt_, pt_clsome, pt_ck, pt_ckL, pt_cl, pt_clL, pt_cz0, pt_cz1, pt_czi, pt_add, pt_addL, pt_Ladd, pt_mul, pt_mulL, pt_Lmul, pt_sub, pt_subL, pt_Lsub, pt_rem, pt_le, pt_leL, pt_Lle, pt_lt, pt_ltL, pt_Llt, pt_eq, pt_eqL, pt_Leq, pt_m1, pt_lt0, pt_ge0, pt_m1lt0, pt_m1ge0, pt_10, pt_01, pt_00, pt_11, pt_m11, pt_0m1, pt_1m1, pt_ib, pt_ib1, pt_hs, pt_so, pt_ofNat, pt_si, pt_sin, pt_si1, pt_si2, pt_sl, pt_sln, pt_sl0, pt_sl2, pt_sr, pt_srn, pt_sr0, pt_sr1, if_true, if_false, ite_true, ite_false, not_true_eq_false, not_false_eq_true, if_pos, if_neg]; exact (a3 e he).2.2⟩
  obtain ⟨κx', κm', mn', w', r1, r2, r3, r4, r5, r6, r7, r8⟩ := rr_noonC (tw := κm.1 66 37) (ta := κm.1 66 38) hF hr hB hS (hu.2.1 0) 0 (by omega) F F (by omega) (by omega) mn w _ κm2 C2 hN hM2 (by rw [gb _ _ (by unfold FB FL; omega)]; simp (disch := omega) only [pt_lt_, pt_clsome, pt_ck, pt_ckL, pt_cl, pt_clL, pt_cz0, pt_cz1, pt_czi, pt_add, pt_addL, pt_Ladd, pt_mul, pt_mulL, pt_Lmul, pt_sub, pt_subL, pt_Lsub, pt_rem, pt_le, pt_leL, pt_Lle, pt_lt, pt_ltL, pt_Llt, pt_eq, pt_eqL, pt_Leq, pt_m1, pt_lt0, pt_ge0, pt_m1lt0, pt_m1ge0, pt_10, pt_01, pt_00, pt_11, pt_m11, pt_0m1, pt_1m1, pt_ib, pt_ib1, pt_hs, pt_so, pt_ofNat, pt_si, pt_sin, pt_si1, pt_si2, pt_sl, pt_sln, pt_sl0, pt_sl2, pt_sr, pt_srn, pt_sr0, pt_sr1, if_true, if_false, ite_true, ite_false, not_true_eq_false, not_false_eq_true, if_pos, if_neg]) (by rw [gb _ _ (by unfold FB FL; omega)]; simp (disch := omega) only [pt_lt_, pt_clsome, pt_ck, pt_ckL, pt_cl, pt_clL, pt_cz0, pt_cz1, pt_czi, pt_add, pt_addL, pt_Ladd, pt_mul, pt_mulL, pt_Lmul, pt_sub, pt_subL, pt_Lsub, pt_rem, pt_le, pt_leL, pt_Lle, pt_lt, pt_ltL, pt_Llt, pt_eq, pt_eqL, pt_Leq, pt_m1, pt_lt0, pt_ge0, pt_m1lt0, pt_m1ge0, pt_10, pt_01, pt_00, pt_11, pt_m11, pt_0m1, pt_1m1, pt_ib, pt_ib1, pt_hs, pt_so, pt_ofNat, pt_si, pt_sin, pt_si1, pt_si2, pt_sl, pt_sln, pt_sl0, pt_sl2, pt_sr, pt_srn, pt_sr0, pt_sr1, if_true, if_false, ite_true, ite_false, not_true_eq_false, not_false_eq_true, if_pos, if_neg]; exact gm _ _ (by omega)) (by rw [gb _ _ (by unfold FB FL; omega)]; simp (disch := omega) only [pt_lt_, pt_clsome, pt_ck, pt_ckL, pt_cl, pt_clL, pt_cz0, pt_cz1, pt_czi, pt_add, pt_addL, pt_Ladd, pt_mul, pt_mulL, pt_Lmul, pt_sub, pt_subL, pt_Lsub, pt_rem, pt_le, pt_leL, pt_Lle, pt_lt, pt_ltL, pt_Llt, pt_eq, pt_eqL, pt_Leq, pt_m1, pt_lt0, pt_ge0, pt_m1lt0, pt_m1ge0, pt_10, pt_01, pt_00, pt_11, pt_m11, pt_0m1, pt_1m1, pt_ib, pt_ib1, pt_hs, pt_so, pt_ofNat, pt_si, pt_sin, pt_si1, pt_si2, pt_sl, pt_sln, pt_sl0, pt_sl2, pt_sr, pt_srn, pt_sr0, pt_sr1, if_true, if_false, ite_true, ite_false, not_true_eq_false, not_false_eq_true, if_pos, if_neg]; exact gm _ _ (by omega)) h2 (fun e he => by rw [gb _ _ (by unfold FB FL; omega)]; exact hg1 e he) b2
  refine ⟨κx', κm', mn', w', r1, ?_, r3, r5, r6, q1.tr r7, (q2.tr q3).tr r8⟩
  unfold pX6_noon
  have a2' : bX6_noon_2 F F κm (nI r) 0 = bX6_noon_37 F F (s_i κm1 66 59 1) (nI r) 0 := a2
  rw [a2']
  have b1' : bX6_noon_37 F F (s_i κm1 66 59 1) (nI r) 0 = bX6_noon_82 F F κm2 (nI r) 0 := b1
  rw [b1']
  exact r2
