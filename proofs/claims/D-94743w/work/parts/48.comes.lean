/-! PURE LAYER: a fact comes to a desk, on both sides -/
set_option maxRecDepth 100000
theorem pm_keepOf {F r d f s : Nat} {hu : hd_T} {κ : kp_K} {H : Nat → Int32} {y till came : Int32} {o : Option Nat} (hF : 80 ≤ F) (hT : TW hu) (hM : MT hu κ) (hr : r < 3) (hs : s < 12) (hk : κ.1 66 39 = nI s) (hsr : SR hu κ s o) (hd : d < 4) (hf : f < hu.2.1 1) (hh : HM (hu.2.1 0) r H κ) (hy : κ.1 91 r = y) :
    ∃ κ', pX6_keepOf F κ (nI r) (nI d) (nI f) till came = some (lawA hu H o y d f (if came = -1 then 0 else y - came) (till - y) (if came = -1 then 1 else 0) (till - y).toInt64, κ') ∧ Fr FL κ κ' := by
  obtain ⟨κ', e1, e2⟩ := pm_lawOf (till := till) (came := came) (wo := (till - y).toInt64) hF hT hM hr hsr hs hd hf hh hy
  unfold pX6_keepOf
  simp (disch := omega) only [pt_lt_, pt_clsome, pt_ck, pt_ckL, pt_cl, pt_clL, pt_cz0, pt_cz1, pt_czi, pt_add, pt_addL, pt_Ladd, pt_mul, pt_mulL, pt_Lmul, pt_sub, pt_subL, pt_Lsub, pt_rem, pt_le, pt_leL, pt_Lle, pt_lt, pt_ltL, pt_Llt, pt_eq, pt_eqL, pt_Leq, pt_m1, pt_lt0, pt_ge0, pt_m1lt0, pt_m1ge0, pt_10, pt_01, pt_00, pt_11, pt_m11, pt_0m1, pt_1m1, pt_ib, pt_ib1, pt_hs, pt_so, pt_ofNat, pt_si, pt_sin, pt_si1, pt_si2, pt_sl, pt_sln, pt_sl0, pt_sl2, pt_sr, pt_srn, pt_sr0, pt_sr1, if_true, if_false, ite_true, ite_false, not_true_eq_false, not_false_eq_true, if_pos, if_neg, hk, hy]
  rw [e1]
  exact ⟨κ', rfl, e2⟩
/-- one law for a line, both sides -/
theorem rr_keep {F : Nat} {hu : hd_T} {hb r ch dy : Nat} {mn : Nat → Nat} {w B : Nat} {κx κm : kp_K} {H : Nat → Int32} (C : CTX hu hb r ch κx κm) (h : RR hu r dy mn w B κx κm) (hF : 80 ≤ F) (hr : r < 3) {d f : Nat} (hd : d < 4) (hf : f < hu.2.1 1) (hx : HX (hu.2.1 0) r H κx) (hm : HM (hu.2.1 0) r H κm) (till came : Int32) :
    ∃ v κx' κm', pX5_keepOf F hb hu r κx (nI d) (nI f) (if came = -1 then 0 else nI dy - came) (till - nI dy) (if came = -1 then 1 else 0) = some (v, κx') ∧ pX6_keepOf F κm (nI r) (nI d) (nI f) till came = some (v, κm') ∧ Fr (fun j _ => j = 9 ∨ j = 10) κx κx' ∧ Fr FL κm κm' := by
  obtain ⟨h1, h2, h3, h4, c1, c2, c3, c4, c5, c6, c7, s, c8, c9, ca⟩ := C
  obtain ⟨κm', m1, m2⟩ := pm_keepOf (till := till) (came := came) hF h1 h2 hr c8 c9 ca hd hf hm h.1.2.1
  obtain ⟨κx', x1, x2⟩ := px_keepOf (held := if came = -1 then 0 else nI dy - came) (left := till - nI dy) (fresh := if came = -1 then 1 else 0) (by omega : 20 ≤ F) h1 h3 h4 c1 rfl ca.sw hd hf hx h.1.1
  exact ⟨_, κx', κm', x1, m1, x2, m2⟩
def PX9 (j _i : Nat) : Prop := j = 9 ∨ j = 10
/-- the line that goes: from the second line on -/
theorem rr_worst1 {F : Nat} {hu : hd_T} {hb r ch dy : Nat} {mn : Nat → Nat} {w B : Nat} {H : Nat → Int32} (hF : 80 ≤ F) (hr : r < 3) {d f : Nat} (hd : d < 4) (hf : f < hu.2.1 1) (t : Int32) : ∀ m k, k + m = mn d → 1 ≤ k → ∀ fx fm, m < fx → m < fm → ∀ (κx κm : kp_K) (j : Nat) (ls : Int64), CTX hu hb r ch κx κm → RR hu r dy mn w B κx κm → HX (hu.2.1 0) r H κx → HM (hu.2.1 0) r H κm → j < k →
    ∃ (res : Option Nat) (κx' κm' : kp_K), bX5_worst_26 F hb hu r fx κx (nI d) (nI f) t (nI j) ls (nI k) = some (nI (res.getD (mn d)), κx') ∧ bX6_leastOf_9 F fm κm (nI r) (nI d) (nI f) t (nI j) ls (nI k) = some (oI res, κm') ∧ (∀ i, res = some i → i < mn d) ∧ Fr PX9 κx κx' ∧ Fr FL κm κm' := by
  intro m
  induction m with
  | zero =>
    intro k hk hk1 fx fm hfx hfm κx κm j ls C h hx hm hj
    obtain ⟨fx, rfl⟩ : ∃ f', fx = f' + 1 := ⟨fx - 1, by omega⟩
    obtain ⟨fm, rfl⟩ : ∃ f', fm = f' + 1 := ⟨fm - 1, by omega⟩
    obtain ⟨c1, c2, c3⟩ := h.2.2.1 d hd
    obtain ⟨v, κx', κm', e1, e2, e3, e4⟩ := rr_keep C h hF hr hd hf hx hm t (-1)
    rw [bX5_worst_26, bX6_leastOf_9]
    rw [if_pos rfl, if_pos rfl] at e1
    simp (disch := omega) only [pt_lt_, pt_clsome, pt_ck, pt_ckL, pt_cl, pt_clL, pt_cz0, pt_cz1, pt_czi, pt_add, pt_addL, pt_Ladd, pt_mul, pt_mulL, pt_Lmul, pt_sub, pt_subL, pt_Lsub, pt_rem, pt_le, pt_leL, pt_Lle, pt_lt, pt_ltL, pt_Llt, pt_eq, pt_eqL, pt_Leq, pt_m1, pt_lt0, pt_ge0, pt_m1lt0, pt_m1ge0, pt_10, pt_01, pt_00, pt_11, pt_m11, pt_0m1, pt_1m1, pt_ib, pt_ib1, pt_hs, pt_so, pt_ofNat, pt_si, pt_sin, pt_si1, pt_si2, pt_sl, pt_sln, pt_sl0, pt_sl2, pt_sr, pt_srn, pt_sr0, pt_sr1, if_true, if_false, ite_true, ite_false, not_true_eq_false, not_false_eq_true, if_pos, if_neg, c1, c2, h.1.1]
    rw [e1, e2]
    simp (disch := omega) only [pt_lt_, pt_clsome, pt_ck, pt_ckL, pt_cl, pt_clL, pt_cz0, pt_cz1, pt_czi, pt_add, pt_addL, pt_Ladd, pt_mul, pt_mulL, pt_Lmul, pt_sub, pt_subL, pt_Lsub, pt_rem, pt_le, pt_leL, pt_Lle, pt_lt, pt_ltL, pt_Llt, pt_eq, pt_eqL, pt_Leq, pt_m1, pt_lt0, pt_ge0, pt_m1lt0, pt_m1ge0, pt_10, pt_01, pt_00, pt_11, pt_m11, pt_0m1, pt_1m1, pt_ib, pt_ib1, pt_hs, pt_so, pt_ofNat, pt_si, pt_sin, pt_si1, pt_si2, pt_sl, pt_sln, pt_sl0, pt_sl2, pt_sr, pt_srn, pt_sr0, pt_sr1, if_true, if_false, ite_true, ite_false, not_true_eq_false, not_false_eq_true, if_pos, if_neg, lg_cmp_ge]
    have g1 : κx'.1 (14 + 14 * r) d = nI (mn d) := by rw [(e3.1 _ _ (by omega)).1]; exact c1
    by_cases q : ls ≤ v
    · rw [if_pos q, if_pos q]
      exact ⟨some j, κx', κm', rfl, rfl, fun i hi => (by cases hi; omega), e3, e4⟩
    · rw [if_neg q, if_neg q, g1]
      exact ⟨none, κx', κm', rfl, rfl, fun i hi => (by cases hi), e3, e4⟩
  | succ m ih =>
    intro k hk hk1 fx fm hfx hfm κx κm j ls C h hx hm hj
    obtain ⟨fx, rfl⟩ : ∃ f', fx = f' + 1 := ⟨fx - 1, by omega⟩
    obtain ⟨fm, rfl⟩ : ∃ f', fm = f' + 1 := ⟨fm - 1, by omega⟩
    obtain ⟨c1, c2, c3⟩ := h.2.2.1 d hd
    obtain ⟨l1, l2, l3, ⟨f2, l4, l5⟩, ⟨z, l6, l7⟩⟩ := h.2.2.2.2.1 d k hd (by omega)
    obtain ⟨v, κx', κm', e1, e2, e3, e4⟩ := rr_keep C h hF hr hd l4 hx hm (κm.1 94 (28 * r + 7 * d + k)) (nI z)
    have hz : ¬ nI z = -1 := fun q => by rw [pt_m1 (by omega)] at q; exact q
    rw [if_neg hz, if_neg hz] at e1
    rw [bX5_worst_26, bX6_leastOf_9]
    simp (disch := omega) only [pt_lt_, pt_clsome, pt_ck, pt_ckL, pt_cl, pt_clL, pt_cz0, pt_cz1, pt_czi, pt_add, pt_addL, pt_Ladd, pt_mul, pt_mulL, pt_Lmul, pt_sub, pt_subL, pt_Lsub, pt_rem, pt_le, pt_leL, pt_Lle, pt_lt, pt_ltL, pt_Llt, pt_eq, pt_eqL, pt_Leq, pt_m1, pt_lt0, pt_ge0, pt_m1lt0, pt_m1ge0, pt_10, pt_01, pt_00, pt_11, pt_m11, pt_0m1, pt_1m1, pt_ib, pt_ib1, pt_hs, pt_so, pt_ofNat, pt_si, pt_sin, pt_si1, pt_si2, pt_sl, pt_sln, pt_sl0, pt_sl2, pt_sr, pt_srn, pt_sr0, pt_sr1, if_true, if_false, ite_true, ite_false, not_true_eq_false, not_false_eq_true, if_pos, if_neg, c1, c2, h.1.1, pm_slot, l1, l2, l3, l5, l7]
    rw [e1, e2]
    simp (disch := omega) only [pt_lt_, pt_clsome, pt_ck, pt_ckL, pt_cl, pt_clL, pt_cz0, pt_cz1, pt_czi, pt_add, pt_addL, pt_Ladd, pt_mul, pt_mulL, pt_Lmul, pt_sub, pt_subL, pt_Lsub, pt_rem, pt_le, pt_leL, pt_Lle, pt_lt, pt_ltL, pt_Llt, pt_eq, pt_eqL, pt_Leq, pt_m1, pt_lt0, pt_ge0, pt_m1lt0, pt_m1ge0, pt_10, pt_01, pt_00, pt_11, pt_m11, pt_0m1, pt_1m1, pt_ib, pt_ib1, pt_hs, pt_so, pt_ofNat, pt_si, pt_sin, pt_si1, pt_si2, pt_sl, pt_sln, pt_sl0, pt_sl2, pt_sr, pt_srn, pt_sr0, pt_sr1, if_true, if_false, ite_true, ite_false, not_true_eq_false, not_false_eq_true, if_pos, if_neg, lg_cmp_lt]
    have g1 : κx'.1 (14 + 14 * r) d = nI (mn d) := by rw [(e3.1 _ _ (by omega)).1]; exact c1
    have C' : CTX hu hb r ch κx' κm' := C.fr (e3.mono (fun j i q => by unfold PX; omega)) (e4.mono (fun j i q => by unfold FL at q; unfold PM; omega))
    have h' := h.fr e3 e4
    have hx' := hx.fr e3
    have hm' := hm.fr e4
    simp (disch := omega) only [pt_lt_, pt_clsome, pt_ck, pt_ckL, pt_cl, pt_clL, pt_cz0, pt_cz1, pt_czi, pt_add, pt_addL, pt_Ladd, pt_mul, pt_mulL, pt_Lmul, pt_sub, pt_subL, pt_Lsub, pt_rem, pt_le, pt_leL, pt_Lle, pt_lt, pt_ltL, pt_Llt, pt_eq, pt_eqL, pt_Leq, pt_m1, pt_lt0, pt_ge0, pt_m1lt0, pt_m1ge0, pt_10, pt_01, pt_00, pt_11, pt_m11, pt_0m1, pt_1m1, pt_ib, pt_ib1, pt_hs, pt_so, pt_ofNat, pt_si, pt_sin, pt_si1, pt_si2, pt_sl, pt_sln, pt_sl0, pt_sl2, pt_sr, pt_srn, pt_sr0, pt_sr1, if_true, if_false, ite_true, ite_false, not_true_eq_false, not_false_eq_true, if_pos, if_neg, g1]
    by_cases q : v < ls
    · rw [if_pos q, if_pos q]
      unfold bX5_worst_107 bX6_leastOf_78
      simp (disch := omega) only [pt_lt_, pt_clsome, pt_ck, pt_ckL, pt_cl, pt_clL, pt_cz0, pt_cz1, pt_czi, pt_add, pt_addL, pt_Ladd, pt_mul, pt_mulL, pt_Lmul, pt_sub, pt_subL, pt_Lsub, pt_rem, pt_le, pt_leL, pt_Lle, pt_lt, pt_ltL, pt_Llt, pt_eq, pt_eqL, pt_Leq, pt_m1, pt_lt0, pt_ge0, pt_m1lt0, pt_m1ge0, pt_10, pt_01, pt_00, pt_11, pt_m11, pt_0m1, pt_1m1, pt_ib, pt_ib1, pt_hs, pt_so, pt_ofNat, pt_si, pt_sin, pt_si1, pt_si2, pt_sl, pt_sln, pt_sl0, pt_sl2, pt_sr, pt_srn, pt_sr0, pt_sr1, if_true, if_false, ite_true, ite_false, not_true_eq_false, not_false_eq_true, if_pos, if_neg]
      obtain ⟨res, a, b, r1, r2, r3, r4, r5⟩ := ih (k + 1) (by omega) (by omega) fx fm (by omega) (by omega) κx' κm' k v C' h' hx' hm' (by omega)
      exact ⟨res, a, b, r1, r2, r3, Fr.tr e3 r4, e4.tr r5⟩
    · rw [if_neg q, if_neg q]
      obtain ⟨res, a, b, r1, r2, r3, r4, r5⟩ := ih (k + 1) (by omega) (by omega) fx fm (by omega) (by omega) κx' κm' j ls C' h' hx' hm' (by omega)
      exact ⟨res, a, b, r1, r2, r3, Fr.tr e3 r4, e4.tr r5⟩
/-- the line that goes -/
theorem rr_worst0 {F : Nat} {hu : hd_T} {hb r ch dy : Nat} {mn : Nat → Nat} {w B : Nat} {H : Nat → Int32} (hF : 80 ≤ F) (hr : r < 3) {d f : Nat} (hd : d < 4) (hf : f < hu.2.1 1) (t : Int32) {κx κm : kp_K} (C : CTX hu hb r ch κx κm) (h : RR hu r dy mn w B κx κm) (hx : HX (hu.2.1 0) r H κx) (hm : HM (hu.2.1 0) r H κm) (h1 : 1 ≤ mn d) (fx fm : Nat) (hfx : mn d < fx) (hfm : mn d < fm) :
    ∃ (res : Option Nat) (κx' κm' : kp_K), bX5_worst_26 F hb hu r fx κx (nI d) (nI f) t (nI (mn d)) 0 (nI 0) = some (nI (res.getD (mn d)), κx') ∧ bX6_leastOf_9 F fm κm (nI r) (nI d) (nI f) t (nI 0) 0 (nI 0) = some (oI res, κm') ∧ (∀ i, res = some i → i < mn d) ∧ Fr PX9 κx κx' ∧ Fr FL κm κm' := by
  obtain ⟨fx, rfl⟩ : ∃ f', fx = f' + 1 := ⟨fx - 1, by omega⟩
  obtain ⟨fm, rfl⟩ : ∃ f', fm = f' + 1 := ⟨fm - 1, by omega⟩
  obtain ⟨c1, c2, c3⟩ := h.2.2.1 d hd
  obtain ⟨l1, l2, l3, ⟨f2, l4, l5⟩, ⟨z, l6, l7⟩⟩ := h.2.2.2.2.1 d 0 hd (by omega)
  obtain ⟨v, κx', κm', e1, e2, e3, e4⟩ := rr_keep C h hF hr hd l4 hx hm (κm.1 94 (28 * r + 7 * d + 0)) (nI z)
  have hz : ¬ nI z = -1 := fun q => by rw [pt_m1 (by omega)] at q; exact q
  rw [if_neg hz, if_neg hz] at e1
  rw [bX5_worst_26, bX6_leastOf_9]
  simp (disch := omega) only [pt_lt_, pt_clsome, pt_ck, pt_ckL, pt_cl, pt_clL, pt_cz0, pt_cz1, pt_czi, pt_add, pt_addL, pt_Ladd, pt_mul, pt_mulL, pt_Lmul, pt_sub, pt_subL, pt_Lsub, pt_rem, pt_le, pt_leL, pt_Lle, pt_lt, pt_ltL, pt_Llt, pt_eq, pt_eqL, pt_Leq, pt_m1, pt_lt0, pt_ge0, pt_m1lt0, pt_m1ge0, pt_10, pt_01, pt_00, pt_11, pt_m11, pt_0m1, pt_1m1, pt_ib, pt_ib1, pt_hs, pt_so, pt_ofNat, pt_si, pt_sin, pt_si1, pt_si2, pt_sl, pt_sln, pt_sl0, pt_sl2, pt_sr, pt_srn, pt_sr0, pt_sr1, if_true, if_false, ite_true, ite_false, not_true_eq_false, not_false_eq_true, if_pos, if_neg, c1, c2, h.1.1, pm_slot, l1, l2, l3, l5, l7]
  rw [e1, e2]
  have g1 : κx'.1 (14 + 14 * r) d = nI (mn d) := by rw [(e3.1 _ _ (by omega)).1]; exact c1
  have C' : CTX hu hb r ch κx' κm' := C.fr (e3.mono (fun j i q => by unfold PX; omega)) (e4.mono (fun j i q => by unfold FL at q; unfold PM; omega))
  unfold bX5_worst_107 bX6_leastOf_78
  simp (disch := omega) only [pt_lt_, pt_clsome, pt_ck, pt_ckL, pt_cl, pt_clL, pt_cz0, pt_cz1, pt_czi, pt_add, pt_addL, pt_Ladd, pt_mul, pt_mulL, pt_Lmul, pt_sub, pt_subL, pt_Lsub, pt_rem, pt_le, pt_leL, pt_Lle, pt_lt, pt_ltL, pt_Llt, pt_eq, pt_eqL, pt_Leq, pt_m1, pt_lt0, pt_ge0, pt_m1lt0, pt_m1ge0, pt_10, pt_01, pt_00, pt_11, pt_m11, pt_0m1, pt_1m1, pt_ib, pt_ib1, pt_hs, pt_so, pt_ofNat, pt_si, pt_sin, pt_si1, pt_si2, pt_sl, pt_sln, pt_sl0, pt_sl2, pt_sr, pt_srn, pt_sr0, pt_sr1, if_true, if_false, ite_true, ite_false, not_true_eq_false, not_false_eq_true, if_pos, if_neg, g1]
  obtain ⟨res, a, b, r1, r2, r3, r4, r5⟩ := rr_worst1 hF hr hd hf t (mn d - 1) 1 (by omega) (by omega) fx fm (by omega) (by omega) κx' κm' 0 v C' (h.fr e3 e4) (hx.fr e3) (hm.fr e4) (by omega)
  exact ⟨res, a, b, r1, r2, r3, Fr.tr e3 r4, e4.tr r5⟩
/-- whether one was let go on this day -/
def LG (nd r : Nat) (κx κm : kp_K) : Prop := ∀ d, d < nd → κx.1 (17 + 14 * r) d = κm.1 98 (4 * r + d) ∧ (κm.1 98 (4 * r + d) = 0 ∨ κm.1 98 (4 * r + d) = 1)
/-- a line told anew -/
theorem rr_anew {hu : hd_T} {r dy : Nat} {mn : Nat → Nat} {w B : Nat} {κx κm : kp_K} (h : RR hu r dy mn w B κx κm) (hr : r < 3) {d k f : Nat} (hd : d < 4) (hk : k < mn d) (hf : f < hu.2.1 1) (hkf : κm.1 93 (28 * r + 7 * d + k) = nI f) (t : Int32) :
    ∃ κm', pX6_sets κm (nI r) (nI d) (nI k) (nI f) t = some κm' ∧ RR hu r dy mn w B (s_i (s_i κx (19 + 14 * r) (7 * d + k) t) (20 + 14 * r) (7 * d + k) (nI dy)) κm' ∧ Fr (fun j i => 93 ≤ j ∧ j ≤ 95 ∧ 28 * r + 7 * d ≤ i ∧ i < 28 * r + 7 * d + 7) κm κm' := by
  obtain ⟨⟨a1, a2, a3⟩, ⟨b1, b2⟩, c, d1, e, f1, g, hs⟩ := h
  obtain ⟨c1, c2, c3⟩ := c d hd
  unfold pX6_sets
  simp (disch := omega) only [pt_lt_, pt_clsome, pt_ck, pt_ckL, pt_cl, pt_clL, pt_cz0, pt_cz1, pt_czi, pt_add, pt_addL, pt_Ladd, pt_mul, pt_mulL, pt_Lmul, pt_sub, pt_subL, pt_Lsub, pt_rem, pt_le, pt_leL, pt_Lle, pt_lt, pt_ltL, pt_Llt, pt_eq, pt_eqL, pt_Leq, pt_m1, pt_lt0, pt_ge0, pt_m1lt0, pt_m1ge0, pt_10, pt_01, pt_00, pt_11, pt_m11, pt_0m1, pt_1m1, pt_ib, pt_ib1, pt_hs, pt_so, pt_ofNat, pt_si, pt_sin, pt_si1, pt_si2, pt_sl, pt_sln, pt_sl0, pt_sl2, pt_sr, pt_srn, pt_sr0, pt_sr1, if_true, if_false, ite_true, ite_false, not_true_eq_false, not_false_eq_true, if_pos, if_neg, a2, pm_slot]
  refine ⟨_, rfl, ⟨⟨?_, ?_, a3⟩, ⟨?_, ?_⟩, fun z hz => ?_, fun z hz => ?_, fun z i hz hi => ?_, fun q hq => ?_, fun i hi => ?_, hs⟩, ?_⟩
  · simp (disch := omega) only [pt_lt_, pt_clsome, pt_ck, pt_ckL, pt_cl, pt_clL, pt_cz0, pt_cz1, pt_czi, pt_add, pt_addL, pt_Ladd, pt_mul, pt_mulL, pt_Lmul, pt_sub, pt_subL, pt_Lsub, pt_rem, pt_le, pt_leL, pt_Lle, pt_lt, pt_ltL, pt_Llt, pt_eq, pt_eqL, pt_Leq, pt_m1, pt_lt0, pt_ge0, pt_m1lt0, pt_m1ge0, pt_10, pt_01, pt_00, pt_11, pt_m11, pt_0m1, pt_1m1, pt_ib, pt_ib1, pt_hs, pt_so, pt_ofNat, pt_si, pt_sin, pt_si1, pt_si2, pt_sl, pt_sln, pt_sl0, pt_sl2, pt_sr, pt_srn, pt_sr0, pt_sr1, if_true, if_false, ite_true, ite_false, not_true_eq_false, not_false_eq_true, if_pos, if_neg]; exact a1
  · simp (disch := omega) only [pt_lt_, pt_clsome, pt_ck, pt_ckL, pt_cl, pt_clL, pt_cz0, pt_cz1, pt_czi, pt_add, pt_addL, pt_Ladd, pt_mul, pt_mulL, pt_Lmul, pt_sub, pt_subL, pt_Lsub, pt_rem, pt_le, pt_leL, pt_Lle, pt_lt, pt_ltL, pt_Llt, pt_eq, pt_eqL, pt_Leq, pt_m1, pt_lt0, pt_ge0, pt_m1lt0, pt_m1ge0, pt_10, pt_01, pt_00, pt_11, pt_m11, pt_0m1, pt_1m1, pt_ib, pt_ib1, pt_hs, pt_so, pt_ofNat, pt_si, pt_sin, pt_si1, pt_si2, pt_sl, pt_sln, pt_sl0, pt_sl2, pt_sr, pt_srn, pt_sr0, pt_sr1, if_true, if_false, ite_true, ite_false, not_true_eq_false, not_false_eq_true, if_pos, if_neg]; exact a2
  · simp (disch := omega) only [pt_lt_, pt_clsome, pt_ck, pt_ckL, pt_cl, pt_clL, pt_cz0, pt_cz1, pt_czi, pt_add, pt_addL, pt_Ladd, pt_mul, pt_mulL, pt_Lmul, pt_sub, pt_subL, pt_Lsub, pt_rem, pt_le, pt_leL, pt_Lle, pt_lt, pt_ltL, pt_Llt, pt_eq, pt_eqL, pt_Leq, pt_m1, pt_lt0, pt_ge0, pt_m1lt0, pt_m1ge0, pt_10, pt_01, pt_00, pt_11, pt_m11, pt_0m1, pt_1m1, pt_ib, pt_ib1, pt_hs, pt_so, pt_ofNat, pt_si, pt_sin, pt_si1, pt_si2, pt_sl, pt_sln, pt_sl0, pt_sl2, pt_sr, pt_srn, pt_sr0, pt_sr1, if_true, if_false, ite_true, ite_false, not_true_eq_false, not_false_eq_true, if_pos, if_neg]; exact b1
  · simp (disch := omega) only [pt_lt_, pt_clsome, pt_ck, pt_ckL, pt_cl, pt_clL, pt_cz0, pt_cz1, pt_czi, pt_add, pt_addL, pt_Ladd, pt_mul, pt_mulL, pt_Lmul, pt_sub, pt_subL, pt_Lsub, pt_rem, pt_le, pt_leL, pt_Lle, pt_lt, pt_ltL, pt_Llt, pt_eq, pt_eqL, pt_Leq, pt_m1, pt_lt0, pt_ge0, pt_m1lt0, pt_m1ge0, pt_10, pt_01, pt_00, pt_11, pt_m11, pt_0m1, pt_1m1, pt_ib, pt_ib1, pt_hs, pt_so, pt_ofNat, pt_si, pt_sin, pt_si1, pt_si2, pt_sl, pt_sln, pt_sl0, pt_sl2, pt_sr, pt_srn, pt_sr0, pt_sr1, if_true, if_false, ite_true, ite_false, not_true_eq_false, not_false_eq_true, if_pos, if_neg]; exact b2
  · simp (disch := omega) only [pt_lt_, pt_clsome, pt_ck, pt_ckL, pt_cl, pt_clL, pt_cz0, pt_cz1, pt_czi, pt_add, pt_addL, pt_Ladd, pt_mul, pt_mulL, pt_Lmul, pt_sub, pt_subL, pt_Lsub, pt_rem, pt_le, pt_leL, pt_Lle, pt_lt, pt_ltL, pt_Llt, pt_eq, pt_eqL, pt_Leq, pt_m1, pt_lt0, pt_ge0, pt_m1lt0, pt_m1ge0, pt_10, pt_01, pt_00, pt_11, pt_m11, pt_0m1, pt_1m1, pt_ib, pt_ib1, pt_hs, pt_so, pt_ofNat, pt_si, pt_sin, pt_si1, pt_si2, pt_sl, pt_sln, pt_sl0, pt_sl2, pt_sr, pt_srn, pt_sr0, pt_sr1, if_true, if_false, ite_true, ite_false, not_true_eq_false, not_false_eq_true, if_pos, if_neg]; exact c z hz
  · simp (disch := omega) only [pt_lt_, pt_clsome, pt_ck, pt_ckL, pt_cl, pt_clL, pt_cz0, pt_cz1, pt_czi, pt_add, pt_addL, pt_Ladd, pt_mul, pt_mulL, pt_Lmul, pt_sub, pt_subL, pt_Lsub, pt_rem, pt_le, pt_leL, pt_Lle, pt_lt, pt_ltL, pt_Llt, pt_eq, pt_eqL, pt_Leq, pt_m1, pt_lt0, pt_ge0, pt_m1lt0, pt_m1ge0, pt_10, pt_01, pt_00, pt_11, pt_m11, pt_0m1, pt_1m1, pt_ib, pt_ib1, pt_hs, pt_so, pt_ofNat, pt_si, pt_sin, pt_si1, pt_si2, pt_sl, pt_sln, pt_sl0, pt_sl2, pt_sr, pt_srn, pt_sr0, pt_sr1, if_true, if_false, ite_true, ite_false, not_true_eq_false, not_false_eq_true, if_pos, if_neg]; exact d1 z hz
  · have hz7 := (c z hz).2.2
    by_cases hz2 : z = d ∧ i = k
    · obtain ⟨rfl, rfl⟩ := hz2
      simp (disch := omega) only [pt_lt_, pt_clsome, pt_ck, pt_ckL, pt_cl, pt_clL, pt_cz0, pt_cz1, pt_czi, pt_add, pt_addL, pt_Ladd, pt_mul, pt_mulL, pt_Lmul, pt_sub, pt_subL, pt_Lsub, pt_rem, pt_le, pt_leL, pt_Lle, pt_lt, pt_ltL, pt_Llt, pt_eq, pt_eqL, pt_Leq, pt_m1, pt_lt0, pt_ge0, pt_m1lt0, pt_m1ge0, pt_10, pt_01, pt_00, pt_11, pt_m11, pt_0m1, pt_1m1, pt_ib, pt_ib1, pt_hs, pt_so, pt_ofNat, pt_si, pt_sin, pt_si1, pt_si2, pt_sl, pt_sln, pt_sl0, pt_sl2, pt_sr, pt_srn, pt_sr0, pt_sr1, if_true, if_false, ite_true, ite_false, not_true_eq_false, not_false_eq_true, if_pos, if_neg]
      refine ⟨?_, trivial, trivial, ⟨f, hf, rfl⟩, ⟨dy, a3, rfl⟩⟩
      rw [(e z i hz hi).1]
      exact hkf
    · have hz3 : ¬ 7 * z + i = 7 * d + k := by omega
      simp (disch := omega) only [pt_lt_, pt_clsome, pt_ck, pt_ckL, pt_cl, pt_clL, pt_cz0, pt_cz1, pt_czi, pt_add, pt_addL, pt_Ladd, pt_mul, pt_mulL, pt_Lmul, pt_sub, pt_subL, pt_Lsub, pt_rem, pt_le, pt_leL, pt_Lle, pt_lt, pt_ltL, pt_Llt, pt_eq, pt_eqL, pt_Leq, pt_m1, pt_lt0, pt_ge0, pt_m1lt0, pt_m1ge0, pt_10, pt_01, pt_00, pt_11, pt_m11, pt_0m1, pt_1m1, pt_ib, pt_ib1, pt_hs, pt_so, pt_ofNat, pt_si, pt_sin, pt_si1, pt_si2, pt_sl, pt_sln, pt_sl0, pt_sl2, pt_sr, pt_srn, pt_sr0, pt_sr1, if_true, if_false, ite_true, ite_false, not_true_eq_false, not_false_eq_true, if_pos, if_neg]
      exact e z i hz hi
  · simp (disch := omega) only [pt_lt_, pt_clsome, pt_ck, pt_ckL, pt_cl, pt_clL, pt_cz0, pt_cz1, pt_czi, pt_add, pt_addL, pt_Ladd, pt_mul, pt_mulL, pt_Lmul, pt_sub, pt_subL, pt_Lsub, pt_rem, pt_le, pt_leL, pt_Lle, pt_lt, pt_ltL, pt_Llt, pt_eq, pt_eqL, pt_Leq, pt_m1, pt_lt0, pt_ge0, pt_m1lt0, pt_m1ge0, pt_10, pt_01, pt_00, pt_11, pt_m11, pt_0m1, pt_1m1, pt_ib, pt_ib1, pt_hs, pt_so, pt_ofNat, pt_si, pt_sin, pt_si1, pt_si2, pt_sl, pt_sln, pt_sl0, pt_sl2, pt_sr, pt_srn, pt_sr0, pt_sr1, if_true, if_false, ite_true, ite_false, not_true_eq_false, not_false_eq_true, if_pos, if_neg]; exact f1 q hq
  · simp (disch := omega) only [pt_lt_, pt_clsome, pt_ck, pt_ckL, pt_cl, pt_clL, pt_cz0, pt_cz1, pt_czi, pt_add, pt_addL, pt_Ladd, pt_mul, pt_mulL, pt_Lmul, pt_sub, pt_subL, pt_Lsub, pt_rem, pt_le, pt_leL, pt_Lle, pt_lt, pt_ltL, pt_Llt, pt_eq, pt_eqL, pt_Leq, pt_m1, pt_lt0, pt_ge0, pt_m1lt0, pt_m1ge0, pt_10, pt_01, pt_00, pt_11, pt_m11, pt_0m1, pt_1m1, pt_ib, pt_ib1, pt_hs, pt_so, pt_ofNat, pt_si, pt_sin, pt_si1, pt_si2, pt_sl, pt_sln, pt_sl0, pt_sl2, pt_sr, pt_srn, pt_sr0, pt_sr1, if_true, if_false, ite_true, ite_false, not_true_eq_false, not_false_eq_true, if_pos, if_neg]; exact g i hi
  · exact ⟨fun j9 i9 q9 => by dsimp only at q9; exact ⟨by first | rfl | (simp (disch := omega) only [pt_sin, pt_si1, pt_si2, pt_sln, pt_sl0, pt_sl2, pt_scn, pt_sc1]), by first | rfl | (simp (disch := omega) only [pt_sin, pt_si1, pt_si2, pt_sln, pt_sl0, pt_sl2, pt_scn, pt_sc1])⟩, rfl⟩
theorem rr_comes {F : Nat} {hu : hd_T} {hb r ch dy : Nat} {mn : Nat → Nat} {w B : Nat} {H : Nat → Int32} (hF : 80 ≤ F) (hr : r < 3) {d f : Nat} (hd : d < hu.2.1 0) (hf : f < hu.2.1 1) (t : Int32) {κx κm : kp_K} (C : CTX hu hb r ch κx κm) (h : RR hu r dy mn w B κx κm) (hB : B ≤ 500) (hx : HX (hu.2.1 0) r H κx) (hm : HM (hu.2.1 0) r H κm) (hg : LG (hu.2.1 0) r κx κm) :
    ∃ κx' κm' mn' w', pX5_comes F hb hu r κx (nI d) (nI f) t = some κx' ∧ pX6_arrives F κm (nI r) (nI d) (nI f) t = some κm' ∧ RR hu r dy mn' w' (B + 1) κx' κm' ∧ LG (hu.2.1 0) r κx' κm' ∧ Fr (PXc r) κx κx' ∧ Fr (PMc r) κm κm' := by
  have C0 := C
  obtain ⟨h1, h2, h3, h4, q1, q2, q3, q4, q5, q6, q7, s, q8, q9, qa⟩ := C
  have hn4 : hu.2.1 0 ≤ 4 := h1.1.1
  have hd4 : d < 4 := by omega
  obtain ⟨c1, c2, c3⟩ := h.2.2.1 d hd4
  obtain ⟨lx, lm⟩ := rr_lineOf h (by omega : 20 ≤ F) hr hd4 (nI f)
  unfold pX5_comes pX6_arrives
  simp (disch := omega) only [pt_lt_, pt_clsome, pt_ck, pt_ckL, pt_cl, pt_clL, pt_cz0, pt_cz1, pt_czi, pt_add, pt_addL, pt_Ladd, pt_mul, pt_mulL, pt_Lmul, pt_sub, pt_subL, pt_Lsub, pt_rem, pt_le, pt_leL, pt_Lle, pt_lt, pt_ltL, pt_Llt, pt_eq, pt_eqL, pt_Leq, pt_m1, pt_lt0, pt_ge0, pt_m1lt0, pt_m1ge0, pt_10, pt_01, pt_00, pt_11, pt_m11, pt_0m1, pt_1m1, pt_ib, pt_ib1, pt_hs, pt_so, pt_ofNat, pt_si, pt_sin, pt_si1, pt_si2, pt_sl, pt_sln, pt_sl0, pt_sl2, pt_sr, pt_srn, pt_sr0, pt_sr1, if_true, if_false, ite_true, ite_false, not_true_eq_false, not_false_eq_true]
  rw [lx, lm]
  simp (disch := omega) only [pt_lt_, pt_clsome, pt_ck, pt_ckL, pt_cl, pt_clL, pt_cz0, pt_cz1, pt_czi, pt_add, pt_addL, pt_Ladd, pt_mul, pt_mulL, pt_Lmul, pt_sub, pt_subL, pt_Lsub, pt_rem, pt_le, pt_leL, pt_Lle, pt_lt, pt_ltL, pt_Llt, pt_eq, pt_eqL, pt_Leq, pt_m1, pt_lt0, pt_ge0, pt_m1lt0, pt_m1ge0, pt_10, pt_01, pt_00, pt_11, pt_m11, pt_0m1, pt_1m1, pt_ib, pt_ib1, pt_hs, pt_so, pt_ofNat, pt_si, pt_sin, pt_si1, pt_si2, pt_sl, pt_sln, pt_sl0, pt_sl2, pt_sr, pt_srn, pt_sr0, pt_sr1, if_true, if_false, ite_true, ite_false, not_true_eq_false, not_false_eq_true]
  cases hfn : fnd (fun j => κm.1 93 (28 * r + 7 * d + j)) (nI f) 0 (mn d) with
  | some k =>
    obtain ⟨-, k2, k3⟩ := fnd_some _ _ hfn
    obtain ⟨κm', m1, m2, m3⟩ := rr_anew h hr hd4 (by omega : k < mn d) hf k3 t
    simp only [oI]
    simp (disch := omega) only [pt_lt_, pt_clsome, pt_ck, pt_ckL, pt_cl, pt_clL, pt_cz0, pt_cz1, pt_czi, pt_add, pt_addL, pt_Ladd, pt_mul, pt_mulL, pt_Lmul, pt_sub, pt_subL, pt_Lsub, pt_rem, pt_le, pt_leL, pt_Lle, pt_lt, pt_ltL, pt_Llt, pt_eq, pt_eqL, pt_Leq, pt_m1, pt_lt0, pt_ge0, pt_m1lt0, pt_m1ge0, pt_10, pt_01, pt_00, pt_11, pt_m11, pt_0m1, pt_1m1, pt_ib, pt_ib1, pt_hs, pt_so, pt_ofNat, pt_si, pt_sin, pt_si1, pt_si2, pt_sl, pt_sln, pt_sl0, pt_sl2, pt_sr, pt_srn, pt_sr0, pt_sr1, if_true, if_false, ite_true, ite_false, not_true_eq_false, not_false_eq_true, if_pos, if_neg, h.1.1]
    rw [m1]
    refine ⟨_, κm', mn, w, rfl, rfl, m2.mono (by omega), fun e he => ?_, ?_, m3.mono (fun j i q => by unfold PMc; omega)⟩
    · rw [(m3.1 98 _ (by omega)).1]
      simp (disch := omega) only [pt_lt_, pt_clsome, pt_ck, pt_ckL, pt_cl, pt_clL, pt_cz0, pt_cz1, pt_czi, pt_add, pt_addL, pt_Ladd, pt_mul, pt_mulL, pt_Lmul, pt_sub, pt_subL, pt_Lsub, pt_rem, pt_le, pt_leL, pt_Lle, pt_lt, pt_ltL, pt_Llt, pt_eq, pt_eqL, pt_Leq, pt_m1, pt_lt0, pt_ge0, pt_m1lt0, pt_m1ge0, pt_10, pt_01, pt_00, pt_11, pt_m11, pt_0m1, pt_1m1, pt_ib, pt_ib1, pt_hs, pt_so, pt_ofNat, pt_si, pt_sin, pt_si1, pt_si2, pt_sl, pt_sln, pt_sl0, pt_sl2, pt_sr, pt_srn, pt_sr0, pt_sr1, if_true, if_false, ite_true, ite_false, not_true_eq_false, not_false_eq_true, if_pos, if_neg]
      exact hg e he
    · refine (Fr.si ?_).tr (Fr.si ?_)
      · unfold PXc; omega
      · unfold PXc; omega
  | none =>
    simp only [oI]
    obtain ⟨⟨l, la, lb, lc⟩, -⟩ := h1.2.1 d hd
    have hl : κm.1 70 d = nI l := by rw [(h2.2.2.2.1 d hd).2.1]; exact lc
    have room : ∃ z, z ≤ 7 ∧ 1 ≤ z ∧ pX5_lines hb hu r κx (nI d) = some (nI z) ∧ pX6_roomOf κm (nI d) = some (nI z) := by
      by_cases q : κm.1 66 37 = 2
      · refine ⟨l + 1, by omega, by omega, ?_, ?_⟩
        · unfold pX5_lines
          have n3 : ¬ κx.1 ch 3 = 0 := fun z => q4.mp z q
          simp (disch := omega) only [pt_lt_, pt_clsome, pt_ck, pt_ckL, pt_cl, pt_clL, pt_cz0, pt_cz1, pt_czi, pt_add, pt_addL, pt_Ladd, pt_mul, pt_mulL, pt_Lmul, pt_sub, pt_subL, pt_Lsub, pt_rem, pt_le, pt_leL, pt_Lle, pt_lt, pt_ltL, pt_Llt, pt_eq, pt_eqL, pt_Leq, pt_m1, pt_lt0, pt_ge0, pt_m1lt0, pt_m1ge0, pt_10, pt_01, pt_00, pt_11, pt_m11, pt_0m1, pt_1m1, pt_ib, pt_ib1, pt_hs, pt_so, pt_ofNat, pt_si, pt_sin, pt_si1, pt_si2, pt_sl, pt_sln, pt_sl0, pt_sl2, pt_sr, pt_srn, pt_sr0, pt_sr1, if_true, if_false, ite_true, ite_false, not_true_eq_false, not_false_eq_true, if_pos, if_neg, h3, h4, pt_ch q1, lc]
        · unfold pX6_roomOf
          simp (disch := omega) only [pt_lt_, pt_clsome, pt_ck, pt_ckL, pt_cl, pt_clL, pt_cz0, pt_cz1, pt_czi, pt_add, pt_addL, pt_Ladd, pt_mul, pt_mulL, pt_Lmul, pt_sub, pt_subL, pt_Lsub, pt_rem, pt_le, pt_leL, pt_Lle, pt_lt, pt_ltL, pt_Llt, pt_eq, pt_eqL, pt_Leq, pt_m1, pt_lt0, pt_ge0, pt_m1lt0, pt_m1ge0, pt_10, pt_01, pt_00, pt_11, pt_m11, pt_0m1, pt_1m1, pt_ib, pt_ib1, pt_hs, pt_so, pt_ofNat, pt_si, pt_sin, pt_si1, pt_si2, pt_sl, pt_sln, pt_sl0, pt_sl2, pt_sr, pt_srn, pt_sr0, pt_sr1, if_true, if_false, ite_true, ite_false, not_true_eq_false, not_false_eq_true, if_pos, if_neg, hl]
      · refine ⟨l, by omega, by omega, ?_, ?_⟩
        · unfold pX5_lines
          have n3 : κx.1 ch 3 = 0 := q4.mpr q
          simp (disch := omega) only [pt_lt_, pt_clsome, pt_ck, pt_ckL, pt_cl, pt_clL, pt_cz0, pt_cz1, pt_czi, pt_add, pt_addL, pt_Ladd, pt_mul, pt_mulL, pt_Lmul, pt_sub, pt_subL, pt_Lsub, pt_rem, pt_le, pt_leL, pt_Lle, pt_lt, pt_ltL, pt_Llt, pt_eq, pt_eqL, pt_Leq, pt_m1, pt_lt0, pt_ge0, pt_m1lt0, pt_m1ge0, pt_10, pt_01, pt_00, pt_11, pt_m11, pt_0m1, pt_1m1, pt_ib, pt_ib1, pt_hs, pt_so, pt_ofNat, pt_si, pt_sin, pt_si1, pt_si2, pt_sl, pt_sln, pt_sl0, pt_sl2, pt_sr, pt_srn, pt_sr0, pt_sr1, if_true, if_false, ite_true, ite_false, not_true_eq_false, not_false_eq_true, if_pos, if_neg, h3, h4, pt_ch q1, lc, Nat.add_zero]
        · unfold pX6_roomOf
          simp (disch := omega) only [pt_lt_, pt_clsome, pt_ck, pt_ckL, pt_cl, pt_clL, pt_cz0, pt_cz1, pt_czi, pt_add, pt_addL, pt_Ladd, pt_mul, pt_mulL, pt_Lmul, pt_sub, pt_subL, pt_Lsub, pt_rem, pt_le, pt_leL, pt_Lle, pt_lt, pt_ltL, pt_Llt, pt_eq, pt_eqL, pt_Leq, pt_m1, pt_lt0, pt_ge0, pt_m1lt0, pt_m1ge0, pt_10, pt_01, pt_00, pt_11, pt_m11, pt_0m1, pt_1m1, pt_ib, pt_ib1, pt_hs, pt_so, pt_ofNat, pt_si, pt_sin, pt_si1, pt_si2, pt_sl, pt_sln, pt_sl0, pt_sl2, pt_sr, pt_srn, pt_sr0, pt_sr1, if_true, if_false, ite_true, ite_false, not_true_eq_false, not_false_eq_true, if_pos, if_neg, hl]
    obtain ⟨z, z1, z2, zx, zm⟩ := room
    simp (disch := omega) only [pt_lt_, pt_clsome, pt_ck, pt_ckL, pt_cl, pt_clL, pt_cz0, pt_cz1, pt_czi, pt_add, pt_addL, pt_Ladd, pt_mul, pt_mulL, pt_Lmul, pt_sub, pt_subL, pt_Lsub, pt_rem, pt_le, pt_leL, pt_Lle, pt_lt, pt_ltL, pt_Llt, pt_eq, pt_eqL, pt_Leq, pt_m1, pt_lt0, pt_ge0, pt_m1lt0, pt_m1ge0, pt_10, pt_01, pt_00, pt_11, pt_m11, pt_0m1, pt_1m1, pt_ib, pt_ib1, pt_hs, pt_so, pt_ofNat, pt_si, pt_sin, pt_si1, pt_si2, pt_sl, pt_sln, pt_sl0, pt_sl2, pt_sr, pt_srn, pt_sr0, pt_sr1, if_true, if_false, ite_true, ite_false, not_true_eq_false, not_false_eq_true, zx, zm, c1, c2]
    by_cases hroom : z ≤ mn d
    · -- it is full
      rw [if_pos hroom, if_pos hroom]
      obtain ⟨g1, g2⟩ := hg d hd
      -- the end: what goes
      have fin : ∀ (res : Option Nat) (κx1 κm1 : kp_K), (∀ i, res = some i → i < mn d) → Fr PX9 κx κx1 → Fr FL κm κm1 → (res = none ∨ κm.1 98 (4 * r + d) = 0) →
          ∃ κx' κm' mn' w', bX5_comes_90 F hb hu r κx1 (nI d) (nI f) t (nI (res.getD (mn d))) = some κx' ∧ bX6_arrives_112 F κm1 (nI r) (nI d) (nI f) t (nI (4 * r + d)) (oI res) = some κm' ∧ RR hu r dy mn' w' (B + 1) κx' κm' ∧ LG (hu.2.1 0) r κx' κm' ∧ Fr (PXc r) κx κx' ∧ Fr (PMc r) κm κm' := by
        intro res κx1 κm1 hres fx fm _
        have h' := h.fr fx fm
        obtain ⟨d1, d2, d3⟩ := h'.2.2.1 d hd4
        have hg1 : LG (hu.2.1 0) r κx1 κm1 := fun e he => by
          rw [(fx.1 _ _ (by unfold PX9; omega)).1, (fm.1 98 _ (by unfold FL; omega)).1]
          exact hg e he
        have f7 : f < 7 := by have := h1.1.2.1; omega
        unfold bX5_comes_90 bX6_arrives_112
        cases res with
        | none =>
          obtain ⟨κx', κm', x1, m1, r1, x2, m2⟩ := rr_goes h' hr (by omega) hd4 f7 (by omega : 2 < 4)
          have x1' : pX5_goes r κx1 (nI d) (nI f) 2 = some κx' := x1
          have m1' : pX6_notes κm1 (nI r) (nI d) (nI f) 2 = some κm' := m1
          simp only [oI, Option.getD_none]
          simp (disch := omega) only [pt_lt_, pt_clsome, pt_ck, pt_ckL, pt_cl, pt_clL, pt_cz0, pt_cz1, pt_czi, pt_add, pt_addL, pt_Ladd, pt_mul, pt_mulL, pt_Lmul, pt_sub, pt_subL, pt_Lsub, pt_rem, pt_le, pt_leL, pt_Lle, pt_lt, pt_ltL, pt_Llt, pt_eq, pt_eqL, pt_Leq, pt_m1, pt_lt0, pt_ge0, pt_m1lt0, pt_m1ge0, pt_10, pt_01, pt_00, pt_11, pt_m11, pt_0m1, pt_1m1, pt_ib, pt_ib1, pt_hs, pt_so, pt_ofNat, pt_si, pt_sin, pt_si1, pt_si2, pt_sl, pt_sln, pt_sl0, pt_sl2, pt_sr, pt_srn, pt_sr0, pt_sr1, if_true, if_false, ite_true, ite_false, not_true_eq_false, not_false_eq_true, if_pos, if_neg, d1, x1', m1']
          refine ⟨κx', κm', mn, w + 1, rfl, rfl, r1, fun e he => ?_, (frx fx).tr (x2.mono (fun j i q => by unfold PXc; omega)), (frm fm).tr (m2.mono (fun j i q => by unfold PMc; omega))⟩
          rw [(x2.1 _ _ (by omega)).1, (m2.1 98 _ (by omega)).1]
          exact hg1 e he
        | some k =>
          have hk : k < mn d := hres k rfl
          obtain ⟨l1, l2, l3, ⟨f2, l4, l5⟩, -⟩ := h'.2.2.2.2.1 d k hd4 hk
          have f27 : f2 < 7 := by have := h1.1.2.1; omega
          obtain ⟨κx2, κm2, x1, m1, r1, x2, m2⟩ := rr_goes h' hr (by omega) hd4 f27 (by omega : 1 < 4)
          have x1' : pX5_goes r κx1 (nI d) (nI f2) 1 = some κx2 := x1
          have m1' : pX6_notes κm1 (nI r) (nI d) (nI f2) 1 = some κm2 := m1
          have r1' : RR hu r dy mn (w + 1) (B + 1) (s_i κx2 (17 + 14 * r) d 1) κm2 := r1.same (fun j i a b c _ _ => by simp (disch := omega) only [pt_lt_, pt_clsome, pt_ck, pt_ckL, pt_cl, pt_clL, pt_cz0, pt_cz1, pt_czi, pt_add, pt_addL, pt_Ladd, pt_mul, pt_mulL, pt_Lmul, pt_sub, pt_subL, pt_Lsub, pt_rem, pt_le, pt_leL, pt_Lle, pt_lt, pt_ltL, pt_Llt, pt_eq, pt_eqL, pt_Leq, pt_m1, pt_lt0, pt_ge0, pt_m1lt0, pt_m1ge0, pt_10, pt_01, pt_00, pt_11, pt_m11, pt_0m1, pt_1m1, pt_ib, pt_ib1, pt_hs, pt_so, pt_ofNat, pt_si, pt_sin, pt_si1, pt_si2, pt_sl, pt_sln, pt_sl0, pt_sl2, pt_sr, pt_srn, pt_sr0, pt_sr1, if_true, if_false, ite_true, ite_false, not_true_eq_false, not_false_eq_true, if_pos, if_neg]) (fun j i a b c => rfl)
          obtain ⟨κx3, κm3, y1, n1, r2, y2, n2⟩ := rr_strike r1' (by omega : 20 ≤ F) hr hd4 hk
          have hn3 : mnS mn d (mn d - 1) d < 7 := by rw [mnS_eq]; omega
          obtain ⟨κx4, κm4, w1, w2, w3, w4, w5, w6, w7⟩ := rr_add r2 hr hd4 hf hn3 t
          rw [mnS_eq] at w2 w3 w4 w6
          have e3 : κm3.1 92 (4 * r + d) = nI (mn d - 1) := by have := (r2.2.2.1 d hd4).2.1; rw [mnS_eq] at this; exact this
          simp only [oI, Option.getD_some]
          simp (disch := omega) only [pt_lt_, pt_clsome, pt_ck, pt_ckL, pt_cl, pt_clL, pt_cz0, pt_cz1, pt_czi, pt_add, pt_addL, pt_Ladd, pt_mul, pt_mulL, pt_Lmul, pt_sub, pt_subL, pt_Lsub, pt_rem, pt_le, pt_leL, pt_Lle, pt_lt, pt_ltL, pt_Llt, pt_eq, pt_eqL, pt_Leq, pt_m1, pt_lt0, pt_ge0, pt_m1lt0, pt_m1ge0, pt_10, pt_01, pt_00, pt_11, pt_m11, pt_0m1, pt_1m1, pt_ib, pt_ib1, pt_hs, pt_so, pt_ofNat, pt_si, pt_sin, pt_si1, pt_si2, pt_sl, pt_sln, pt_sl0, pt_sl2, pt_sr, pt_srn, pt_sr0, pt_sr1, if_true, if_false, ite_true, ite_false, not_true_eq_false, not_false_eq_true, if_pos, if_neg, d1, pm_slot, l1, l5, m1', x1', y1, n1, e3, w1, w2, w3]
          refine ⟨κx4, _, _, _, rfl, rfl, w4.same (fun j i a b c _ _ => rfl) (fun j i a b c => by simp (disch := omega) only [pt_lt_, pt_clsome, pt_ck, pt_ckL, pt_cl, pt_clL, pt_cz0, pt_cz1, pt_czi, pt_add, pt_addL, pt_Ladd, pt_mul, pt_mulL, pt_Lmul, pt_sub, pt_subL, pt_Lsub, pt_rem, pt_le, pt_leL, pt_Lle, pt_lt, pt_ltL, pt_Llt, pt_eq, pt_eqL, pt_Leq, pt_m1, pt_lt0, pt_ge0, pt_m1lt0, pt_m1ge0, pt_10, pt_01, pt_00, pt_11, pt_m11, pt_0m1, pt_1m1, pt_ib, pt_ib1, pt_hs, pt_so, pt_ofNat, pt_si, pt_sin, pt_si1, pt_si2, pt_sl, pt_sln, pt_sl0, pt_sl2, pt_sr, pt_srn, pt_sr0, pt_sr1, if_true, if_false, ite_true, ite_false, not_true_eq_false, not_false_eq_true, if_pos, if_neg]), fun e he => ?_, ?_, ?_⟩
          · by_cases hed : e = d
            · subst hed
              simp (disch := omega) only [pt_lt_, pt_clsome, pt_ck, pt_ckL, pt_cl, pt_clL, pt_cz0, pt_cz1, pt_czi, pt_add, pt_addL, pt_Ladd, pt_mul, pt_mulL, pt_Lmul, pt_sub, pt_subL, pt_Lsub, pt_rem, pt_le, pt_leL, pt_Lle, pt_lt, pt_ltL, pt_Llt, pt_eq, pt_eqL, pt_Leq, pt_m1, pt_lt0, pt_ge0, pt_m1lt0, pt_m1ge0, pt_10, pt_01, pt_00, pt_11, pt_m11, pt_0m1, pt_1m1, pt_ib, pt_ib1, pt_hs, pt_so, pt_ofNat, pt_si, pt_sin, pt_si1, pt_si2, pt_sl, pt_sln, pt_sl0, pt_sl2, pt_sr, pt_srn, pt_sr0, pt_sr1, if_true, if_false, ite_true, ite_false, not_true_eq_false, not_false_eq_true, if_pos, if_neg]
              rw [(w5.1 _ _ (by omega)).1, (y2.1 _ _ (by omega)).1]
              simp (disch := omega) only [pt_lt_, pt_clsome, pt_ck, pt_ckL, pt_cl, pt_clL, pt_cz0, pt_cz1, pt_czi, pt_add, pt_addL, pt_Ladd, pt_mul, pt_mulL, pt_Lmul, pt_sub, pt_subL, pt_Lsub, pt_rem, pt_le, pt_leL, pt_Lle, pt_lt, pt_ltL, pt_Llt, pt_eq, pt_eqL, pt_Leq, pt_m1, pt_lt0, pt_ge0, pt_m1lt0, pt_m1ge0, pt_10, pt_01, pt_00, pt_11, pt_m11, pt_0m1, pt_1m1, pt_ib, pt_ib1, pt_hs, pt_so, pt_ofNat, pt_si, pt_sin, pt_si1, pt_si2, pt_sl, pt_sln, pt_sl0, pt_sl2, pt_sr, pt_srn, pt_sr0, pt_sr1, if_true, if_false, ite_true, ite_false, not_true_eq_false, not_false_eq_true, if_pos, if_neg]
              exact ⟨trivial, Or.inr trivial⟩
            · simp (disch := omega) only [pt_lt_, pt_clsome, pt_ck, pt_ckL, pt_cl, pt_clL, pt_cz0, pt_cz1, pt_czi, pt_add, pt_addL, pt_Ladd, pt_mul, pt_mulL, pt_Lmul, pt_sub, pt_subL, pt_Lsub, pt_rem, pt_le, pt_leL, pt_Lle, pt_lt, pt_ltL, pt_Llt, pt_eq, pt_eqL, pt_Leq, pt_m1, pt_lt0, pt_ge0, pt_m1lt0, pt_m1ge0, pt_10, pt_01, pt_00, pt_11, pt_m11, pt_0m1, pt_1m1, pt_ib, pt_ib1, pt_hs, pt_so, pt_ofNat, pt_si, pt_sin, pt_si1, pt_si2, pt_sl, pt_sln, pt_sl0, pt_sl2, pt_sr, pt_srn, pt_sr0, pt_sr1, if_true, if_false, ite_true, ite_false, not_true_eq_false, not_false_eq_true, if_pos, if_neg]
              rw [(w5.1 _ _ (by omega)).1, (y2.1 _ _ (by omega)).1, w7, (n2.1 98 _ (by omega)).1, (m2.1 98 _ (by omega)).1]
              simp (disch := omega) only [pt_lt_, pt_clsome, pt_ck, pt_ckL, pt_cl, pt_clL, pt_cz0, pt_cz1, pt_czi, pt_add, pt_addL, pt_Ladd, pt_mul, pt_mulL, pt_Lmul, pt_sub, pt_subL, pt_Lsub, pt_rem, pt_le, pt_leL, pt_Lle, pt_lt, pt_ltL, pt_Llt, pt_eq, pt_eqL, pt_Leq, pt_m1, pt_lt0, pt_ge0, pt_m1lt0, pt_m1ge0, pt_10, pt_01, pt_00, pt_11, pt_m11, pt_0m1, pt_1m1, pt_ib, pt_ib1, pt_hs, pt_so, pt_ofNat, pt_si, pt_sin, pt_si1, pt_si2, pt_sl, pt_sln, pt_sl0, pt_sl2, pt_sr, pt_srn, pt_sr0, pt_sr1, if_true, if_false, ite_true, ite_false, not_true_eq_false, not_false_eq_true, if_pos, if_neg]
              rw [(x2.1 _ _ (by omega)).1]
              exact hg1 e he
          · refine (frx fx).tr ((x2.mono (fun j i q => by unfold PXc; omega)).tr (Fr.tr (κ1 := s_i κx2 (17 + 14 * r) d 1) (Fr.si (by unfold PXc; omega)) ((y2.mono (fun j i q => by unfold PXc; omega)).tr (w5.mono (fun j i q => by unfold PXc; omega)))))
          · refine (frm fm).tr ((m2.mono (fun j i q => by unfold PMc; omega)).tr ((n2.mono (fun j i q => by unfold PMc; omega)).tr ((w6.mono (fun j i q => by unfold PMc; omega)).tr (Fr.si (by unfold PMc; omega)))))
      rcases g2 with g2 | g2
      · rw [g2] at g1
        simp (disch := omega) only [pt_lt_, pt_clsome, pt_ck, pt_ckL, pt_cl, pt_clL, pt_cz0, pt_cz1, pt_czi, pt_add, pt_addL, pt_Ladd, pt_mul, pt_mulL, pt_Lmul, pt_sub, pt_subL, pt_Lsub, pt_rem, pt_le, pt_leL, pt_Lle, pt_lt, pt_ltL, pt_Llt, pt_eq, pt_eqL, pt_Leq, pt_m1, pt_lt0, pt_ge0, pt_m1lt0, pt_m1ge0, pt_10, pt_01, pt_00, pt_11, pt_m11, pt_0m1, pt_1m1, pt_ib, pt_ib1, pt_hs, pt_so, pt_ofNat, pt_si, pt_sin, pt_si1, pt_si2, pt_sl, pt_sln, pt_sl0, pt_sl2, pt_sr, pt_srn, pt_sr0, pt_sr1, if_true, if_false, ite_true, ite_false, not_true_eq_false, not_false_eq_true, g1, g2]
        unfold pX5_worst
        simp (disch := omega) only [pt_lt_, pt_clsome, pt_ck, pt_ckL, pt_cl, pt_clL, pt_cz0, pt_cz1, pt_czi, pt_add, pt_addL, pt_Ladd, pt_mul, pt_mulL, pt_Lmul, pt_sub, pt_subL, pt_Lsub, pt_rem, pt_le, pt_leL, pt_Lle, pt_lt, pt_ltL, pt_Llt, pt_eq, pt_eqL, pt_Leq, pt_m1, pt_lt0, pt_ge0, pt_m1lt0, pt_m1ge0, pt_10, pt_01, pt_00, pt_11, pt_m11, pt_0m1, pt_1m1, pt_ib, pt_ib1, pt_hs, pt_so, pt_ofNat, pt_si, pt_sin, pt_si1, pt_si2, pt_sl, pt_sln, pt_sl0, pt_sl2, pt_sr, pt_srn, pt_sr0, pt_sr1, if_true, if_false, ite_true, ite_false, not_true_eq_false, not_false_eq_true, h4, pt_ch q1, c1]
        by_cases q : κm.1 66 37 = 3
        · have n4 : ¬ κx.1 ch 4 = 0 := fun z => q5.mp z q
          rw [if_neg n4, if_pos q]
          simp (disch := omega) only [pt_lt_, pt_clsome, pt_ck, pt_ckL, pt_cl, pt_clL, pt_cz0, pt_cz1, pt_czi, pt_add, pt_addL, pt_Ladd, pt_mul, pt_mulL, pt_Lmul, pt_sub, pt_subL, pt_Lsub, pt_rem, pt_le, pt_leL, pt_Lle, pt_lt, pt_ltL, pt_Llt, pt_eq, pt_eqL, pt_Leq, pt_m1, pt_lt0, pt_ge0, pt_m1lt0, pt_m1ge0, pt_10, pt_01, pt_00, pt_11, pt_m11, pt_0m1, pt_1m1, pt_ib, pt_ib1, pt_hs, pt_so, pt_ofNat, pt_si, pt_sin, pt_si1, pt_si2, pt_sl, pt_sln, pt_sl0, pt_sl2, pt_sr, pt_srn, pt_sr0, pt_sr1, if_true, if_false, ite_true, ite_false, not_true_eq_false, not_false_eq_true]
          exact fin (some 0) κx κm (fun i hi => by cases hi; omega) Fr.rf Fr.rf (Or.inr g2)
        · have n4 : κx.1 ch 4 = 0 := q5.mpr q
          rw [if_pos n4, if_neg q]
          obtain ⟨res, κx1, κm1, e1, e2, e3, e4, e5⟩ := rr_worst0 hF hr hd4 hf t C0 h hx hm (by omega) F F (by omega) (by omega)
          have e1' : bX5_worst_26 F hb hu r F κx (nI d) (nI f) t (nI (mn d)) 0 0 = some (nI (res.getD (mn d)), κx1) := e1
          have e2' : pX6_leastOf F κm (nI r) (nI d) (nI f) t = some (oI res, κm1) := e2
          rw [e1', e2']
          simp (disch := omega) only [pt_lt_, pt_clsome, pt_ck, pt_ckL, pt_cl, pt_clL, pt_cz0, pt_cz1, pt_czi, pt_add, pt_addL, pt_Ladd, pt_mul, pt_mulL, pt_Lmul, pt_sub, pt_subL, pt_Lsub, pt_rem, pt_le, pt_leL, pt_Lle, pt_lt, pt_ltL, pt_Llt, pt_eq, pt_eqL, pt_Leq, pt_m1, pt_lt0, pt_ge0, pt_m1lt0, pt_m1ge0, pt_10, pt_01, pt_00, pt_11, pt_m11, pt_0m1, pt_1m1, pt_ib, pt_ib1, pt_hs, pt_so, pt_ofNat, pt_si, pt_sin, pt_si1, pt_si2, pt_sl, pt_sln, pt_sl0, pt_sl2, pt_sr, pt_srn, pt_sr0, pt_sr1, if_true, if_false, ite_true, ite_false, not_true_eq_false, not_false_eq_true]
          exact fin res κx1 κm1 e3 e4 e5 (Or.inr g2)
      · rw [g2] at g1
        simp (disch := omega) only [pt_lt_, pt_clsome, pt_ck, pt_ckL, pt_cl, pt_clL, pt_cz0, pt_cz1, pt_czi, pt_add, pt_addL, pt_Ladd, pt_mul, pt_mulL, pt_Lmul, pt_sub, pt_subL, pt_Lsub, pt_rem, pt_le, pt_leL, pt_Lle, pt_lt, pt_ltL, pt_Llt, pt_eq, pt_eqL, pt_Leq, pt_m1, pt_lt0, pt_ge0, pt_m1lt0, pt_m1ge0, pt_10, pt_01, pt_00, pt_11, pt_m11, pt_0m1, pt_1m1, pt_ib, pt_ib1, pt_hs, pt_so, pt_ofNat, pt_si, pt_sin, pt_si1, pt_si2, pt_sl, pt_sln, pt_sl0, pt_sl2, pt_sr, pt_srn, pt_sr0, pt_sr1, if_true, if_false, ite_true, ite_false, not_true_eq_false, not_false_eq_true, g1, g2]
        exact fin none κx κm (fun i hi => by cases hi) Fr.rf Fr.rf (Or.inl rfl)
    · rw [if_neg hroom, if_neg hroom]
      obtain ⟨κx', κm1, w1, w2, w3, w4, w5, w6, w7⟩ := rr_add h hr hd4 hf (by omega) t
      rw [w1, w2]
      simp (disch := omega) only [pt_lt_, pt_clsome, pt_ck, pt_ckL, pt_cl, pt_clL, pt_cz0, pt_cz1, pt_czi, pt_add, pt_addL, pt_Ladd, pt_mul, pt_mulL, pt_Lmul, pt_sub, pt_subL, pt_Lsub, pt_rem, pt_le, pt_leL, pt_Lle, pt_lt, pt_ltL, pt_Llt, pt_eq, pt_eqL, pt_Leq, pt_m1, pt_lt0, pt_ge0, pt_m1lt0, pt_m1ge0, pt_10, pt_01, pt_00, pt_11, pt_m11, pt_0m1, pt_1m1, pt_ib, pt_ib1, pt_hs, pt_so, pt_ofNat, pt_si, pt_sin, pt_si1, pt_si2, pt_sl, pt_sln, pt_sl0, pt_sl2, pt_sr, pt_srn, pt_sr0, pt_sr1, if_true, if_false, ite_true, ite_false, not_true_eq_false, not_false_eq_true, if_pos, if_neg, w3]
      refine ⟨κx', _, _, _, rfl, rfl, w4, fun e he => ?_, w5.mono (fun j i q => by unfold PXc; omega), w6.mono (fun j i q => by unfold PMc; omega)⟩
      simp (disch := omega) only [pt_lt_, pt_clsome, pt_ck, pt_ckL, pt_cl, pt_clL, pt_cz0, pt_cz1, pt_czi, pt_add, pt_addL, pt_Ladd, pt_mul, pt_mulL, pt_Lmul, pt_sub, pt_subL, pt_Lsub, pt_rem, pt_le, pt_leL, pt_Lle, pt_lt, pt_ltL, pt_Llt, pt_eq, pt_eqL, pt_Leq, pt_m1, pt_lt0, pt_ge0, pt_m1lt0, pt_m1ge0, pt_10, pt_01, pt_00, pt_11, pt_m11, pt_0m1, pt_1m1, pt_ib, pt_ib1, pt_hs, pt_so, pt_ofNat, pt_si, pt_sin, pt_si1, pt_si2, pt_sl, pt_sln, pt_sl0, pt_sl2, pt_sr, pt_srn, pt_sr0, pt_sr1, if_true, if_false, ite_true, ite_false, not_true_eq_false, not_false_eq_true, if_pos, if_neg]
      rw [w7, (w5.1 _ _ (by omega)).1]
      exact hg e he
