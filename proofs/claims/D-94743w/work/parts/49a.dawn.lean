/-! PURE LAYER: dawn and morning, on both sides -/
set_option maxRecDepth 100000
theorem rr_dawnIn {F : Nat} {hu : hd_T} {hb r dy : Nat} {B : Nat} (hF : 80 ≤ F) (hr : r < 3) (hB : B ≤ 500) (h7 : hu.2.1 1 ≤ 7) {d : Nat} (hd : d < 4) (Kx : kp_K → Int32 → Option kp_K) (Km : kp_K → Int32 → Int32 → Int32 → Option kp_K) : ∀ m k (mn : Nat → Nat) (w : Nat), k + m = mn d → ∀ fx fm, m < fx → m < fm → ∀ (κx κm : kp_K), RR hu r dy mn w B κx κm →
    ∃ κx' κm' mn' w', bX5_dawn_22 F hb hu r Kx fx κx (nI d) (nI k) = Kx κx' (nI (d + 1)) ∧ bX6_passes_33 F Km fm κm (nI r) (nI dy) (nI d) (nI k) = Km κm' (nI r) (nI dy) (nI (d + 1)) ∧ RR hu r dy mn' w' B κx' κm' ∧ Fr (fun j i => PXc r j i ∧ ¬ j = 17 + 14 * r) κx κx' ∧ Fr (fun j i => PMc r j i ∧ ¬ j = 98) κm κm' := by
  intro m
  induction m with
  | zero =>
    intro k mn w hk fx fm hfx hfm κx κm h
    obtain ⟨fx, rfl⟩ : ∃ f', fx = f' + 1 := ⟨fx - 1, by omega⟩
    obtain ⟨fm, rfl⟩ : ∃ f', fm = f' + 1 := ⟨fm - 1, by omega⟩
    obtain ⟨c1, c2, c3⟩ := h.2.2.1 d hd
    rw [bX5_dawn_22, bX6_passes_33]
    simp (disch := omega) only [pt_lt_, pt_clsome, pt_ck, pt_ckL, pt_cl, pt_clL, pt_cz0, pt_cz1, pt_czi, pt_add, pt_addL, pt_Ladd, pt_mul, pt_mulL, pt_Lmul, pt_sub, pt_subL, pt_Lsub, pt_rem, pt_le, pt_leL, pt_Lle, pt_lt, pt_ltL, pt_Llt, pt_eq, pt_eqL, pt_Leq, pt_m1, pt_lt0, pt_ge0, pt_m1lt0, pt_m1ge0, pt_10, pt_01, pt_00, pt_11, pt_m11, pt_0m1, pt_1m1, pt_ib, pt_ib1, pt_hs, pt_so, pt_ofNat, pt_si, pt_sin, pt_si1, pt_si2, pt_sl, pt_sln, pt_sl0, pt_sl2, pt_sr, pt_srn, pt_sr0, pt_sr1, if_true, if_false, ite_true, ite_false, not_true_eq_false, not_false_eq_true, if_pos, if_neg, c1, c2]
    exact ⟨κx, κm, mn, w, rfl, rfl, h, Fr.rf, Fr.rf⟩
  | succ m ih =>
    intro k mn w hk fx fm hfx hfm κx κm h
    obtain ⟨fx, rfl⟩ : ∃ f', fx = f' + 1 := ⟨fx - 1, by omega⟩
    obtain ⟨fm, rfl⟩ : ∃ f', fm = f' + 1 := ⟨fm - 1, by omega⟩
    obtain ⟨c1, c2, c3⟩ := h.2.2.1 d hd
    obtain ⟨l1, l2, l3, ⟨f2, l4, l5⟩, -⟩ := h.2.2.2.2.1 d k hd (by omega)
    rw [bX5_dawn_22, bX6_passes_33]
    simp (disch := omega) only [pt_lt_, pt_clsome, pt_ck, pt_ckL, pt_cl, pt_clL, pt_cz0, pt_cz1, pt_czi, pt_add, pt_addL, pt_Ladd, pt_mul, pt_mulL, pt_Lmul, pt_sub, pt_subL, pt_Lsub, pt_rem, pt_le, pt_leL, pt_Lle, pt_lt, pt_ltL, pt_Llt, pt_eq, pt_eqL, pt_Leq, pt_m1, pt_lt0, pt_ge0, pt_m1lt0, pt_m1ge0, pt_10, pt_01, pt_00, pt_11, pt_m11, pt_0m1, pt_1m1, pt_ib, pt_ib1, pt_hs, pt_so, pt_ofNat, pt_si, pt_sin, pt_si1, pt_si2, pt_sl, pt_sln, pt_sl0, pt_sl2, pt_sr, pt_srn, pt_sr0, pt_sr1, if_true, if_false, ite_true, ite_false, not_true_eq_false, not_false_eq_true, if_pos, if_neg, c1, c2, l1, l2, l5, pm_slot, h.1.1]
    by_cases q : κm.1 94 (28 * r + 7 * d + k) < nI dy
    · rw [if_pos q, if_pos q]
      obtain ⟨κx2, κm2, x1, m1, r1, x2, m2⟩ := rr_goes h hr (by omega) hd (by omega : f2 < 7) (by omega : 0 < 4)
      have x1' : pX5_goes r κx (nI d) (nI f2) 0 = some κx2 := x1
      have m1' : pX6_notes κm (nI r) (nI d) (nI f2) 0 = some κm2 := m1
      obtain ⟨κx3, κm3, y1, n1, r2, y2, n2⟩ := rr_strike r1 (by omega : 20 ≤ F) hr hd (by omega : k < mn d)
      simp (disch := omega) only [pt_lt_, pt_clsome, pt_ck, pt_ckL, pt_cl, pt_clL, pt_cz0, pt_cz1, pt_czi, pt_add, pt_addL, pt_Ladd, pt_mul, pt_mulL, pt_Lmul, pt_sub, pt_subL, pt_Lsub, pt_rem, pt_le, pt_leL, pt_Lle, pt_lt, pt_ltL, pt_Llt, pt_eq, pt_eqL, pt_Leq, pt_m1, pt_lt0, pt_ge0, pt_m1lt0, pt_m1ge0, pt_10, pt_01, pt_00, pt_11, pt_m11, pt_0m1, pt_1m1, pt_ib, pt_ib1, pt_hs, pt_so, pt_ofNat, pt_si, pt_sin, pt_si1, pt_si2, pt_sl, pt_sln, pt_sl0, pt_sl2, pt_sr, pt_srn, pt_sr0, pt_sr1, if_true, if_false, ite_true, ite_false, not_true_eq_false, not_false_eq_true, if_pos, if_neg, x1', m1', y1, n1]
      obtain ⟨κx', κm', mn', w', e1, e2, e3, e4, e5⟩ := ih k (mnS mn d (mn d - 1)) (w + 1) (by rw [mnS_eq]; omega) fx fm (by omega) (by omega) κx3 κm3 r2
      refine ⟨κx', κm', mn', w', e1, e2, e3, ?_, ?_⟩
      · exact (x2.mono (fun j i q => by unfold PXc; omega)).tr ((y2.mono (fun j i q => by unfold PXc; omega)).tr e4)
      · exact (m2.mono (fun j i q => by unfold PMc; omega)).tr ((n2.mono (fun j i q => by unfold PMc; omega)).tr e5)
    · rw [if_neg q, if_neg q]
      exact ih (k + 1) mn w (by omega) fx fm (by omega) (by omega) κx κm h
theorem rr_dawn {F : Nat} {hu : hd_T} {hb r dy : Nat} {B : Nat} (hF : 80 ≤ F) (hr : r < 3) (hB : B ≤ 500) (h7 : hu.2.1 1 ≤ 7) (h4 : hu.2.1 0 ≤ 4) : ∀ m d, d + m = hu.2.1 0 → ∀ fx fm, m < fx → m < fm → ∀ (mn : Nat → Nat) (w : Nat) (κx κm : kp_K), κx.2.2 0 4 = some hb → κm.1 68 0 = nI (hu.2.1 0) → RR hu r dy mn w B κx κm → (∀ e, e < d → κx.1 (17 + 14 * r) e = 0 ∧ κm.1 98 (4 * r + e) = 0) →
    ∃ κx' κm' mn' w', bX5_dawn_2 F hb hu r fx κx (nI d) = some κx' ∧ bX6_passes_9 F fm κm (nI r) (nI dy) (nI d) = bX6_passes_108 F F κm' (nI r) (nI dy) 0 ∧ RR hu r dy mn' w' B κx' κm' ∧ LG (hu.2.1 0) r κx' κm' ∧ Fr (PXc r) κx κx' ∧ Fr (PMc r) κm κm' := by
  intro m
  induction m with
  | zero =>
    intro d hd fx fm hfx hfm mn w κx κm hs hn h hz
    obtain ⟨fx, rfl⟩ : ∃ f', fx = f' + 1 := ⟨fx - 1, by omega⟩
    obtain ⟨fm, rfl⟩ : ∃ f', fm = f' + 1 := ⟨fm - 1, by omega⟩
    rw [bX5_dawn_2, bX6_passes_9]
    unfold pX1_desks
    simp (disch := omega) only [pt_lt_, pt_clsome, pt_ck, pt_ckL, pt_cl, pt_clL, pt_cz0, pt_cz1, pt_czi, pt_add, pt_addL, pt_Ladd, pt_mul, pt_mulL, pt_Lmul, pt_sub, pt_subL, pt_Lsub, pt_rem, pt_le, pt_leL, pt_Lle, pt_lt, pt_ltL, pt_Llt, pt_eq, pt_eqL, pt_Leq, pt_m1, pt_lt0, pt_ge0, pt_m1lt0, pt_m1ge0, pt_10, pt_01, pt_00, pt_11, pt_m11, pt_0m1, pt_1m1, pt_ib, pt_ib1, pt_hs, pt_so, pt_ofNat, pt_si, pt_sin, pt_si1, pt_si2, pt_sl, pt_sln, pt_sl0, pt_sl2, pt_sr, pt_srn, pt_sr0, pt_sr1, if_true, if_false, ite_true, ite_false, not_true_eq_false, not_false_eq_true, if_pos, if_neg, hs, hn]
    exact ⟨κx, κm, mn, w, rfl, rfl, h, fun e he => by rw [(hz e (by omega)).1, (hz e (by omega)).2]; exact ⟨rfl, Or.inl rfl⟩, Fr.rf, Fr.rf⟩
  | succ m ih =>
    intro d hd fx fm hfx hfm mn w κx κm hs hn h hz
    obtain ⟨fx, rfl⟩ : ∃ f', fx = f' + 1 := ⟨fx - 1, by omega⟩
    obtain ⟨fm, rfl⟩ : ∃ f', fm = f' + 1 := ⟨fm - 1, by omega⟩
    rw [bX5_dawn_2, bX6_passes_9]
    unfold pX1_desks
    simp (disch := omega) only [pt_lt_, pt_clsome, pt_ck, pt_ckL, pt_cl, pt_clL, pt_cz0, pt_cz1, pt_czi, pt_add, pt_addL, pt_Ladd, pt_mul, pt_mulL, pt_Lmul, pt_sub, pt_subL, pt_Lsub, pt_rem, pt_le, pt_leL, pt_Lle, pt_lt, pt_ltL, pt_Llt, pt_eq, pt_eqL, pt_Leq, pt_m1, pt_lt0, pt_ge0, pt_m1lt0, pt_m1ge0, pt_10, pt_01, pt_00, pt_11, pt_m11, pt_0m1, pt_1m1, pt_ib, pt_ib1, pt_hs, pt_so, pt_ofNat, pt_si, pt_sin, pt_si1, pt_si2, pt_sl, pt_sln, pt_sl0, pt_sl2, pt_sr, pt_srn, pt_sr0, pt_sr1, if_true, if_false, ite_true, ite_false, not_true_eq_false, not_false_eq_true, if_pos, if_neg, hs, hn]
    have h1 : RR hu r dy mn w B (s_i κx (17 + 14 * r) d 0) (s_i κm 98 (4 * r + d) 0) := h.same (fun j i a b c _ _ => by simp (disch := omega) only [pt_lt_, pt_clsome, pt_ck, pt_ckL, pt_cl, pt_clL, pt_cz0, pt_cz1, pt_czi, pt_add, pt_addL, pt_Ladd, pt_mul, pt_mulL, pt_Lmul, pt_sub, pt_subL, pt_Lsub, pt_rem, pt_le, pt_leL, pt_Lle, pt_lt, pt_ltL, pt_Llt, pt_eq, pt_eqL, pt_Leq, pt_m1, pt_lt0, pt_ge0, pt_m1lt0, pt_m1ge0, pt_10, pt_01, pt_00, pt_11, pt_m11, pt_0m1, pt_1m1, pt_ib, pt_ib1, pt_hs, pt_so, pt_ofNat, pt_si, pt_sin, pt_si1, pt_si2, pt_sl, pt_sln, pt_sl0, pt_sl2, pt_sr, pt_srn, pt_sr0, pt_sr1, if_true, if_false, ite_true, ite_false, not_true_eq_false, not_false_eq_true, if_pos, if_neg]) (fun j i a b c => by simp (disch := omega) only [pt_lt_, pt_clsome, pt_ck, pt_ckL, pt_cl, pt_clL, pt_cz0, pt_cz1, pt_czi, pt_add, pt_addL, pt_Ladd, pt_mul, pt_mulL, pt_Lmul, pt_sub, pt_subL, pt_Lsub, pt_rem, pt_le, pt_leL, pt_Lle, pt_lt, pt_ltL, pt_Llt, pt_eq, pt_eqL, pt_Leq, pt_m1, pt_lt0, pt_ge0, pt_m1lt0, pt_m1ge0, pt_10, pt_01, pt_00, pt_11, pt_m11, pt_0m1, pt_1m1, pt_ib, pt_ib1, pt_hs, pt_so, pt_ofNat, pt_si, pt_sin, pt_si1, pt_si2, pt_sl, pt_sln, pt_sl0, pt_sl2, pt_sr, pt_srn, pt_sr0, pt_sr1, if_true, if_false, ite_true, ite_false, not_true_eq_false, not_false_eq_true, if_pos, if_neg])
    have h9 := (h.2.2.1 d (by omega)).2.2
    have ei := rr_dawnIn (F := F) (hb := hb) hF hr hB h7 (by omega : d < 4) (bX5_dawn_2 F hb hu r fx) (bX6_passes_9 F fm) (mn d) 0 mn w (by omega) F F (by omega) (by omega) _ _ h1
    obtain ⟨κx2, κm2, mn2, w2, e1, e2, e3, e4, e5⟩ := ei
    have e1' : bX5_dawn_22 F hb hu r (bX5_dawn_2 F hb hu r fx) F (s_i κx (17 + 14 * r) d 0) (nI d) 0 = bX5_dawn_2 F hb hu r fx κx2 (nI (d + 1)) := e1
    have e2' : bX6_passes_33 F (bX6_passes_9 F fm) F (s_i κm 98 (4 * r + d) 0) (nI r) (nI dy) (nI d) 0 = bX6_passes_9 F fm κm2 (nI r) (nI dy) (nI (d + 1)) := e2
    rw [e1', e2']
    obtain ⟨κx', κm', mn', w', f1, f2, f3, f4, f5, f6⟩ := ih (d + 1) (by omega) fx fm (by omega) (by omega) mn2 w2 κx2 κm2 (by rw [e4.2]; exact hs) (by rw [(e5.1 68 0 (by unfold PMc; omega)).1]; simp (disch := omega) only [pt_lt_, pt_clsome, pt_ck, pt_ckL, pt_cl, pt_clL, pt_cz0, pt_cz1, pt_czi, pt_add, pt_addL, pt_Ladd, pt_mul, pt_mulL, pt_Lmul, pt_sub, pt_subL, pt_Lsub, pt_rem, pt_le, pt_leL, pt_Lle, pt_lt, pt_ltL, pt_Llt, pt_eq, pt_eqL, pt_Leq, pt_m1, pt_lt0, pt_ge0, pt_m1lt0, pt_m1ge0, pt_10, pt_01, pt_00, pt_11, pt_m11, pt_0m1, pt_1m1, pt_ib, pt_ib1, pt_hs, pt_so, pt_ofNat, pt_si, pt_sin, pt_si1, pt_si2, pt_sl, pt_sln, pt_sl0, pt_sl2, pt_sr, pt_srn, pt_sr0, pt_sr1, if_true, if_false, ite_true, ite_false, not_true_eq_false, not_false_eq_true, if_pos, if_neg]; exact hn) e3 (fun e he => by
      rw [(e4.1 (17 + 14 * r) e (by omega)).1, (e5.1 98 _ (by omega)).1]
      by_cases hed : e = d
      · subst hed
        simp (disch := omega) only [pt_lt_, pt_clsome, pt_ck, pt_ckL, pt_cl, pt_clL, pt_cz0, pt_cz1, pt_czi, pt_add, pt_addL, pt_Ladd, pt_mul, pt_mulL, pt_Lmul, pt_sub, pt_subL, pt_Lsub, pt_rem, pt_le, pt_leL, pt_Lle, pt_lt, pt_ltL, pt_Llt, pt_eq, pt_eqL, pt_Leq, pt_m1, pt_lt0, pt_ge0, pt_m1lt0, pt_m1ge0, pt_10, pt_01, pt_00, pt_11, pt_m11, pt_0m1, pt_1m1, pt_ib, pt_ib1, pt_hs, pt_so, pt_ofNat, pt_si, pt_sin, pt_si1, pt_si2, pt_sl, pt_sln, pt_sl0, pt_sl2, pt_sr, pt_srn, pt_sr0, pt_sr1, if_true, if_false, ite_true, ite_false, not_true_eq_false, not_false_eq_true, if_pos, if_neg]
        exact ⟨trivial, trivial⟩
      · simp (disch := omega) only [pt_lt_, pt_clsome, pt_ck, pt_ckL, pt_cl, pt_clL, pt_cz0, pt_cz1, pt_czi, pt_add, pt_addL, pt_Ladd, pt_mul, pt_mulL, pt_Lmul, pt_sub, pt_subL, pt_Lsub, pt_rem, pt_le, pt_leL, pt_Lle, pt_lt, pt_ltL, pt_Llt, pt_eq, pt_eqL, pt_Leq, pt_m1, pt_lt0, pt_ge0, pt_m1lt0, pt_m1ge0, pt_10, pt_01, pt_00, pt_11, pt_m11, pt_0m1, pt_1m1, pt_ib, pt_ib1, pt_hs, pt_so, pt_ofNat, pt_si, pt_sin, pt_si1, pt_si2, pt_sl, pt_sln, pt_sl0, pt_sl2, pt_sr, pt_srn, pt_sr0, pt_sr1, if_true, if_false, ite_true, ite_false, not_true_eq_false, not_false_eq_true, if_pos, if_neg]
        exact hz e (by omega))
    refine ⟨κx', κm', mn', w', f1, f2, f3, f4, ?_, ?_⟩
    · exact Fr.tr (κ1 := s_i κx (17 + 14 * r) d 0) (Fr.si (by unfold PXc; omega)) ((e4.mono (fun j i q => q.1)).tr f5)
    · exact Fr.tr (κ1 := s_i κm 98 (4 * r + d) 0) (Fr.si (by unfold PMc; omega)) ((e5.mono (fun j i q => q.1)).tr f6)
/-- how many come on a day -/
def cD (p : Nat → Bool) : Nat → Nat
  | 0 => 0
  | n + 1 => cD p n + (if p n then 1 else 0)
theorem cD_le {p : Nat → Bool} : ∀ n, cD p n ≤ n := by
  intro n
  induction n with
  | zero => exact Nat.le_refl _
  | succ n ih => unfold cD; split <;> omega
theorem cD_add {p q s : Nat → Bool} : ∀ n, (∀ i, i < n → (if s i then 1 else 0) = (if p i then 1 else 0) + (if q i then 1 else 0)) → cD s n = cD p n + cD q n := by
  intro n
  induction n with
  | zero => intro _; rfl
  | succ n ih =>
    intro h
    have := ih (fun i hi => h i (by omega))
    have := h n (by omega)
    unfold cD
    omega
def onDay (hu : hd_T) (dy : Nat) (c : Nat) : Bool := decide (hu.1 20 c = nI dy)
theorem rr_morning {F : Nat} {hu : hd_T} {hb r ch dy : Nat} {B : Nat} (hF : 80 ≤ F) (hr : r < 3) (hB : B ≤ 400) : ∀ m c, c + m = hu.2.1 2 → ∀ fx fm, m < fx → m < fm → ∀ (mn : Nat → Nat) (w : Nat) (κx κm : kp_K), CTX hu hb r ch κx κm → κx.1 (13 + 14 * r) 13 = 0 → κm.1 66 59 = 0 → RR hu r dy mn w (B + cD (onDay hu dy) c) κx κm → LG (hu.2.1 0) r κx κm →
    ∃ κx' κm' mn' w', bX5_morning_2 F hb hu r fx κx (nI c) = some κx' ∧ bX6_passes_108 F fm κm (nI r) (nI dy) (nI c) = (p_cl (pX6_noon F κm' (nI r)) fun k => bX6_passes_172 F F k (nI r) (nI dy) 0) ∧ RR hu r dy mn' w' (B + cD (onDay hu dy) (hu.2.1 2)) κx' κm' ∧ LG (hu.2.1 0) r κx' κm' ∧ Fr (PXc r) κx κx' ∧ Fr (PMc r) κm κm' := by
  intro m
  induction m with
  | zero =>
    intro c hc fx fm hfx hfm mn w κx κm C n1 n2 h hg
    obtain ⟨fx, rfl⟩ : ∃ f', fx = f' + 1 := ⟨fx - 1, by omega⟩
    obtain ⟨fm, rfl⟩ : ∃ f', fm = f' + 1 := ⟨fm - 1, by omega⟩
    have t2 := C.1.1.2.2.1
    have hn := C.2.1.1 2 (by omega)
    rw [bX5_morning_2, bX6_passes_108]
    simp (disch := omega) only [pt_lt_, pt_clsome, pt_ck, pt_ckL, pt_cl, pt_clL, pt_cz0, pt_cz1, pt_czi, pt_add, pt_addL, pt_Ladd, pt_mul, pt_mulL, pt_Lmul, pt_sub, pt_subL, pt_Lsub, pt_rem, pt_le, pt_leL, pt_Lle, pt_lt, pt_ltL, pt_Llt, pt_eq, pt_eqL, pt_Leq, pt_m1, pt_lt0, pt_ge0, pt_m1lt0, pt_m1ge0, pt_10, pt_01, pt_00, pt_11, pt_m11, pt_0m1, pt_1m1, pt_ib, pt_ib1, pt_hs, pt_so, pt_ofNat, pt_si, pt_sin, pt_si1, pt_si2, pt_sl, pt_sln, pt_sl0, pt_sl2, pt_sr, pt_srn, pt_sr0, pt_sr1, if_true, if_false, ite_true, ite_false, not_true_eq_false, not_false_eq_true, if_pos, if_neg, C.2.2.1, hn]
    rw [show hu.2.1 2 = c from by omega]
    exact ⟨κx, κm, mn, w, rfl, rfl, h, hg, Fr.rf, Fr.rf⟩
  | succ m ih =>
    intro c hc fx fm hfx hfm mn w κx κm C n1 n2 h hg
    obtain ⟨fx, rfl⟩ : ∃ f', fx = f' + 1 := ⟨fx - 1, by omega⟩
    obtain ⟨fm, rfl⟩ : ∃ f', fm = f' + 1 := ⟨fm - 1, by omega⟩
    have t2 := C.1.1.2.2.1
    have hn4 := C.1.1.1
    have hn := C.2.1.1 2 (by omega)
    obtain ⟨y, d, f, z, w1, w2, w3, w4, w5, w6, w7, w8, w9⟩ := C.1.2.2.2.1 c (by omega)
    obtain ⟨v1, v2, v3, v4⟩ := C.2.1.2.2.2.2.2.1 c (by omega)
    obtain ⟨h1, h2, h3, h4, q1, q2, q3, q4, q5, q6, q7, -⟩ := id C
    rw [bX5_morning_2, bX6_passes_108]
    simp (disch := omega) only [pt_lt_, pt_clsome, pt_ck, pt_ckL, pt_cl, pt_clL, pt_cz0, pt_cz1, pt_czi, pt_add, pt_addL, pt_Ladd, pt_mul, pt_mulL, pt_Lmul, pt_sub, pt_subL, pt_Lsub, pt_rem, pt_le, pt_leL, pt_Lle, pt_lt, pt_ltL, pt_Llt, pt_eq, pt_eqL, pt_Leq, pt_m1, pt_lt0, pt_ge0, pt_m1lt0, pt_m1ge0, pt_10, pt_01, pt_00, pt_11, pt_m11, pt_0m1, pt_1m1, pt_ib, pt_ib1, pt_hs, pt_so, pt_ofNat, pt_si, pt_sin, pt_si1, pt_si2, pt_sl, pt_sln, pt_sl0, pt_sl2, pt_sr, pt_srn, pt_sr0, pt_sr1, if_true, if_false, ite_true, ite_false, not_true_eq_false, not_false_eq_true, if_pos, if_neg, h3, hn, v1, v2, v3, v4, h.1.1, h4, pt_ch q1]
    by_cases qd : hu.1 20 c = nI dy
    · rw [if_pos qd, if_pos qd]
      have hcd : cD (onDay hu dy) (c + 1) = cD (onDay hu dy) c + 1 := by
        have hb9 : onDay hu dy c = true := decide_eq_true qd
        show cD (onDay hu dy) c + (if onDay hu dy c = true then 1 else 0) = _
        rw [hb9]
        rfl
      by_cases qc : nI c = κx.1 ch 6
      · rw [if_pos qc]
        have q7' := (q7 c (by omega)).mp qc.symm
        have e0 : pX6_isComing κm (nI c) = some 0 := by
          unfold pX6_isComing
          rw [if_pos q7'.1, if_pos q7'.2]
        rw [e0]
        simp (disch := omega) only [pt_lt_, pt_clsome, pt_ck, pt_ckL, pt_cl, pt_clL, pt_cz0, pt_cz1, pt_czi, pt_add, pt_addL, pt_Ladd, pt_mul, pt_mulL, pt_Lmul, pt_sub, pt_subL, pt_Lsub, pt_rem, pt_le, pt_leL, pt_Lle, pt_lt, pt_ltL, pt_Llt, pt_eq, pt_eqL, pt_Leq, pt_m1, pt_lt0, pt_ge0, pt_m1lt0, pt_m1ge0, pt_10, pt_01, pt_00, pt_11, pt_m11, pt_0m1, pt_1m1, pt_ib, pt_ib1, pt_hs, pt_so, pt_ofNat, pt_si, pt_sin, pt_si1, pt_si2, pt_sl, pt_sln, pt_sl0, pt_sl2, pt_sr, pt_srn, pt_sr0, pt_sr1, if_true, if_false, ite_true, ite_false, not_true_eq_false, not_false_eq_true, if_pos, if_neg]
        exact ih (c + 1) (by omega) fx fm (by omega) (by omega) mn w κx κm C n1 n2 (h.mono (by omega)) hg
      · rw [if_neg qc]
        have e0 : pX6_isComing κm (nI c) = some 1 := by
          unfold pX6_isComing
          by_cases z5 : κm.1 66 37 = 5
          · rw [if_pos z5]
            by_cases z6 : κm.1 66 38 = nI c
            · exact absurd ((q7 c (by omega)).mpr ⟨z5, z6⟩).symm qc
            · rw [if_neg z6]
          · rw [if_neg z5]
        rw [e0]
        simp (disch := omega) only [pt_lt_, pt_clsome, pt_ck, pt_ckL, pt_cl, pt_clL, pt_cz0, pt_cz1, pt_czi, pt_add, pt_addL, pt_Ladd, pt_mul, pt_mulL, pt_Lmul, pt_sub, pt_subL, pt_Lsub, pt_rem, pt_le, pt_leL, pt_Lle, pt_lt, pt_ltL, pt_Llt, pt_eq, pt_eqL, pt_Leq, pt_m1, pt_lt0, pt_ge0, pt_m1lt0, pt_m1ge0, pt_10, pt_01, pt_00, pt_11, pt_m11, pt_0m1, pt_1m1, pt_ib, pt_ib1, pt_hs, pt_so, pt_ofNat, pt_si, pt_sin, pt_si1, pt_si2, pt_sl, pt_sln, pt_sl0, pt_sl2, pt_sr, pt_srn, pt_sr0, pt_sr1, if_true, if_false, ite_true, ite_false, not_true_eq_false, not_false_eq_true, if_pos, if_neg]
        have hcl := cD_le (p := onDay hu dy) c
        obtain ⟨κx2, κm2, mn2, ww2, e1, e2, e3, e4, e5, e6⟩ := rr_comes hF hr w2 w3 (hu.1 23 c) C h (by omega) (h.hx hn4 n1) (h.hm hn4 n2) hg
        rw [w7, w8]
        rw [e1, e2]
        simp (disch := omega) only [pt_lt_, pt_clsome, pt_ck, pt_ckL, pt_cl, pt_clL, pt_cz0, pt_cz1, pt_czi, pt_add, pt_addL, pt_Ladd, pt_mul, pt_mulL, pt_Lmul, pt_sub, pt_subL, pt_Lsub, pt_rem, pt_le, pt_leL, pt_Lle, pt_lt, pt_ltL, pt_Llt, pt_eq, pt_eqL, pt_Leq, pt_m1, pt_lt0, pt_ge0, pt_m1lt0, pt_m1ge0, pt_10, pt_01, pt_00, pt_11, pt_m11, pt_0m1, pt_1m1, pt_ib, pt_ib1, pt_hs, pt_so, pt_ofNat, pt_si, pt_sin, pt_si1, pt_si2, pt_sl, pt_sln, pt_sl0, pt_sl2, pt_sr, pt_srn, pt_sr0, pt_sr1, if_true, if_false, ite_true, ite_false, not_true_eq_false, not_false_eq_true, if_pos, if_neg]
        have C2 : CTX hu hb r ch κx2 κm2 := C.fr (e5.mono (fun j i q => q.px)) (e6.mono (fun j i q => q.pm))
        obtain ⟨κx', κm', mn', w', f1, f2, f3, f4, f5, f6⟩ := ih (c + 1) (by omega) fx fm (by omega) (by omega) mn2 ww2 κx2 κm2 C2 (by rw [(e5.1 _ _ (by unfold PXc; omega)).1]; exact n1) (by rw [(e6.1 _ _ (by unfold PMc; omega)).1]; exact n2) (e3.mono (by omega)) e4
        exact ⟨κx', κm', mn', w', f1, f2, f3, f4, e5.tr f5, e6.tr f6⟩
    · rw [if_neg qd, if_neg qd]
      have hcd : cD (onDay hu dy) (c + 1) = cD (onDay hu dy) c := by
        have hb9 : onDay hu dy c = false := decide_eq_false qd
        show cD (onDay hu dy) c + (if onDay hu dy c = true then 1 else 0) = _
        rw [hb9]
        rfl
      exact ih (c + 1) (by omega) fx fm (by omega) (by omega) mn w κx κm C n1 n2 (by rw [hcd]; exact h) hg
