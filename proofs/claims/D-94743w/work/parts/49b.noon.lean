/-! PURE LAYER: noon, on both sides -/
set_option maxRecDepth 100000
/-- the best of what a desk may ask for: values V, those that it holds already left out -/
def wnt (V : Nat → Int64) (sk : Nat → Bool) : Nat → Nat → Option Nat → Int64 → Option Nat
  | _, 0, b, _ => b
  | k, n + 1, b, m => if sk k then wnt V sk (k + 1) n b m else if m < V k then wnt V sk (k + 1) n (some k) (V k) else wnt V sk (k + 1) n b m
theorem wnt_lt {V : Nat → Int64} {sk : Nat → Bool} {N i : Nat} : ∀ n k b m, k + n = N → (∀ j, b = some j → j < N) → wnt V sk k n b m = some i → i < N := by
  intro n
  induction n with
  | zero => intro k b m _ hb h; exact hb i h
  | succ n ih =>
    intro k b m hk hb h
    unfold wnt at h
    split at h
    · exact ih (k + 1) b m (by omega) hb h
    · split at h
      · exact ih (k + 1) (some k) _ (by omega) (fun j hj => by cases hj; omega) h
      · exact ih (k + 1) b m (by omega) hb h
/-- what stood at noon: how many, facts, tills, facts as bits, by desks; all facts are facts -/
def SN (nd nf : Nat) (mn : Nat → Nat) (F0 T0 : Nat → Nat → Int32) : Prop := ∀ e, e < nd → mn e ≤ 7 ∧ ∀ k, k < mn e → ∃ f, f < nf ∧ F0 e k = nI f
def NX (nd r : Nat) (mn : Nat → Nat) (F0 T0 : Nat → Nat → Int32) (H : Nat → Int32) (κ : kp_K) : Prop :=
  ¬ κ.1 (13 + 14 * r) 13 = 0 ∧ ∀ e, e < nd → κ.1 (21 + 14 * r) e = H e ∧ κ.1 (22 + 14 * r) e = nI (mn e) ∧ ∀ k, k < mn e → κ.1 (23 + 14 * r) (7 * e + k) = F0 e k ∧ κ.1 (24 + 14 * r) (7 * e + k) = T0 e k
theorem NX.fr {nd r : Nat} {mn : Nat → Nat} {F0 T0 : Nat → Nat → Int32} {H : Nat → Int32} {κ κ' : kp_K} (h : NX nd r mn F0 T0 H κ) (g : Fr (PXc r) κ κ') : NX nd r mn F0 T0 H κ' := by
  have g1 : ∀ j i, ¬ PXc r j i → κ'.1 j i = κ.1 j i := fun j i q => (g.1 j i q).1
  refine ⟨by rw [g1 _ _ (by unfold PXc; omega)]; exact h.1, fun e he => ?_⟩
  obtain ⟨h1, h2, h3⟩ := h.2 e he
  refine ⟨by rw [g1 _ _ (by unfold PXc; omega)]; exact h1, by rw [g1 _ _ (by unfold PXc; omega)]; exact h2, fun k hk => ?_⟩
  rw [g1 _ _ (by unfold PXc; omega), g1 _ _ (by unfold PXc; omega)]
  exact h3 k hk
/-- whom a desk asks -/
def askV (tw ta x : Int32) (d : Nat) : Int32 := if tw = 0 ∨ (tw = 4 ∧ ta = nI d) then -1 else x
theorem askV_ok {hu : hd_T} (hT : TW hu) {tw ta : Int32} {d : Nat} (hd : d < hu.2.1 0) : askV tw ta (hu.1 2 d) d = -1 ∨ ∃ e, e < hu.2.1 0 ∧ askV tw ta (hu.1 2 d) d = nI e := by
  unfold askV
  split
  · exact Or.inl rfl
  · rcases (hT.2.1 d hd).2 with h | ⟨a, h1, -, h2⟩
    · exact Or.inl h
    · exact Or.inr ⟨a, h1, h2⟩
theorem px_asks {hu : hd_T} {hb r ch : Nat} {κx κm : kp_K} (C : CTX hu hb r ch κx κm) {d : Nat} (hd : d < hu.2.1 0) : pX5_asks hb hu r κx (nI d) = some (askV (κm.1 66 37) (κm.1 66 38) (hu.1 2 d) d) := by
  have hn4 := C.1.1.1
  obtain ⟨h1, h2, h3, h4, q1, q2, q3, q4, q5, q6, q7, -⟩ := C
  unfold pX5_asks askV
  simp (disch := omega) only [pt_lt_, pt_clsome, pt_ck, pt_ckL, pt_cl, pt_clL, pt_cz0, pt_cz1, pt_czi, pt_add, pt_addL, pt_Ladd, pt_mul, pt_mulL, pt_Lmul, pt_sub, pt_subL, pt_Lsub, pt_rem, pt_le, pt_leL, pt_Lle, pt_lt, pt_ltL, pt_Llt, pt_eq, pt_eqL, pt_Leq, pt_m1, pt_lt0, pt_ge0, pt_m1lt0, pt_m1ge0, pt_10, pt_01, pt_00, pt_11, pt_m11, pt_0m1, pt_1m1, pt_ib, pt_ib1, pt_hs, pt_so, pt_ofNat, pt_si, pt_sin, pt_si1, pt_si2, pt_sl, pt_sln, pt_sl0, pt_sl2, pt_sr, pt_srn, pt_sr0, pt_sr1, if_true, if_false, ite_true, ite_false, not_true_eq_false, not_false_eq_true, if_pos, if_neg, h4, pt_ch q1, h3]
  by_cases z : κm.1 66 37 = 0
  · rw [if_neg (fun q => q2.mp q z), if_pos (Or.inl z)]
  · rw [if_pos (q2.mpr z)]
    by_cases z2 : κm.1 66 37 = 4 ∧ κm.1 66 38 = nI d
    · rw [if_pos ((q6 d (by omega)).mpr z2), if_pos (Or.inr z2)]
    · rw [if_neg (fun q => z2 ((q6 d (by omega)).mp q)), if_neg (fun q => q.elim z z2)]
theorem pm_whomOf {hu : hd_T} {κ : kp_K} (hM : MT hu κ) {d : Nat} (hd : d < hu.2.1 0) (h4 : hu.2.1 0 ≤ 4) : pX6_whomOf κ (nI d) = some (askV (κ.1 66 37) (κ.1 66 38) (hu.1 2 d) d) := by
  have e := (hM.2.2.2.1 d hd).2.2
  unfold pX6_whomOf bX6_whomOf_27 askV
  simp (disch := omega) only [pt_lt_, pt_clsome, pt_ck, pt_ckL, pt_cl, pt_clL, pt_cz0, pt_cz1, pt_czi, pt_add, pt_addL, pt_Ladd, pt_mul, pt_mulL, pt_Lmul, pt_sub, pt_subL, pt_Lsub, pt_rem, pt_le, pt_leL, pt_Lle, pt_lt, pt_ltL, pt_Llt, pt_eq, pt_eqL, pt_Leq, pt_m1, pt_lt0, pt_ge0, pt_m1lt0, pt_m1ge0, pt_10, pt_01, pt_00, pt_11, pt_m11, pt_0m1, pt_1m1, pt_ib, pt_ib1, pt_hs, pt_so, pt_ofNat, pt_si, pt_sin, pt_si1, pt_si2, pt_sl, pt_sln, pt_sl0, pt_sl2, pt_sr, pt_srn, pt_sr0, pt_sr1, if_true, if_false, ite_true, ite_false, not_true_eq_false, not_false_eq_true, if_pos, if_neg, e]
  by_cases z : κ.1 66 37 = 0
  · rw [if_pos z, if_pos (Or.inl z)]
  · rw [if_neg z]
    by_cases z2 : κ.1 66 37 = 4
    · rw [if_pos z2]
      by_cases z3 : κ.1 66 38 = nI d
      · rw [if_pos z3, if_pos (Or.inr ⟨z2, z3⟩)]
      · rw [if_neg z3, if_neg (fun q => q.elim z (fun q => z3 q.2))]
    · rw [if_neg z2, if_neg (fun q => q.elim z (fun q => z2 q.1))]
/-- a value, as what is wanted has it -/
def wV (hu : hd_T) (H : Nat → Int32) (dy d : Nat) (F0 T0 : Nat → Nat → Int32) (e k : Nat) : Int64 := lawA hu H (hu.2.2.1 7) (nI dy) d (F0 e k).toNatClampNeg 0 (T0 e k - nI dy) 1 (hu.1 11 (F0 e k).toNatClampNeg).toInt64
def wS (H : Nat → Int32) (d : Nat) (F0 : Nat → Nat → Int32) (e k : Nat) : Bool := decide (ob (H d) (F0 e k) = 1)
/-- the reference's wish of a desk -/
def gF (F0 : Nat → Nat → Int32) (e : Nat) (b : Option Nat) : Int32 := match b with
  | none => -1
  | some k => F0 e k
theorem pm_wants {F : Nat} {hu : hd_T} {r dy d e : Nat} {mn : Nat → Nat} {F0 T0 : Nat → Nat → Int32} {H : Nat → Int32} (hF : 80 ≤ F) (hr : r < 3) (hT : TW hu) (hd : d < hu.2.1 0) (he : e < hu.2.1 0) (hS : SN (hu.2.1 0) (hu.2.1 1) mn F0 T0) : ∀ m k, k + m = mn e → ∀ f, m < f → ∀ (κ : kp_K) (b : Option Nat) (ms : Int64), MT hu κ → HM (hu.2.1 0) r H κ → ¬ κ.1 66 59 = 0 → κ.1 91 r = nI dy → κ.1 92 (4 * r + e) = nI (mn e) → (∀ k, k < mn e → κ.1 93 (28 * r + 7 * e + k) = F0 e k ∧ κ.1 94 (28 * r + 7 * e + k) = T0 e k) → κ.1 105 d = H d → κ.1 106 d = gF F0 e b → (∀ k, b = some k → κ.1 107 d = T0 e k) →
    ∃ κ', bX6_wants_6 F f κ (nI r) (nI d) (nI e) ms (nI k) = some κ' ∧ κ'.1 106 d = gF F0 e (wnt (wV hu H dy d F0 T0 e) (wS H d F0 e) k m b ms) ∧ (∀ k', wnt (wV hu H dy d F0 T0 e) (wS H d F0 e) k m b ms = some k' → κ'.1 107 d = T0 e k') ∧ Fr (fun j i => FL j i ∨ ((j = 106 ∨ j = 107) ∧ i = d)) κ κ' := by
  intro m
  induction m with
  | zero =>
    intro k hk f hf κ b ms hM hm hn hy h92 hl h105 h106 h107
    obtain ⟨f, rfl⟩ : ∃ f', f = f' + 1 := ⟨f - 1, by omega⟩
    have hn4 := hT.1.1
    have hme := (hS e he).1
    rw [bX6_wants_6]
    simp (disch := omega) only [pt_lt_, pt_clsome, pt_ck, pt_ckL, pt_cl, pt_clL, pt_cz0, pt_cz1, pt_czi, pt_add, pt_addL, pt_Ladd, pt_mul, pt_mulL, pt_Lmul, pt_sub, pt_subL, pt_Lsub, pt_rem, pt_le, pt_leL, pt_Lle, pt_lt, pt_ltL, pt_Llt, pt_eq, pt_eqL, pt_Leq, pt_m1, pt_lt0, pt_ge0, pt_m1lt0, pt_m1ge0, pt_10, pt_01, pt_00, pt_11, pt_m11, pt_0m1, pt_1m1, pt_ib, pt_ib1, pt_hs, pt_so, pt_ofNat, pt_si, pt_sin, pt_si1, pt_si2, pt_sl, pt_sln, pt_sl0, pt_sl2, pt_sr, pt_srn, pt_sr0, pt_sr1, if_true, if_false, ite_true, ite_false, not_true_eq_false, not_false_eq_true, if_pos, if_neg, h92]
    exact ⟨κ, rfl, h106, h107, Fr.rf⟩
  | succ m ih =>
    intro k hk f hf κ b ms hM hm hn hy h92 hl h105 h106 h107
    obtain ⟨f, rfl⟩ : ∃ f', f = f' + 1 := ⟨f - 1, by omega⟩
    have hn4 := hT.1.1
    have hf7 := hT.1.2.1
    have hme := (hS e he).1
    obtain ⟨f2, g1, g2⟩ := (hS e he).2 k (by omega)
    obtain ⟨l1, l2⟩ := hl k (by omega)
    rw [bX6_wants_6]
    have hob : ((H d >>> (F0 e k &&& 31)) &&& 1) = ob (H d) (F0 e k) := rfl
    have hfr : ∀ κ' : kp_K, Fr (fun j i => FL j i ∨ ((j = 106 ∨ j = 107) ∧ i = d)) κ κ' → MT hu κ' ∧ HM (hu.2.1 0) r H κ' ∧ ¬ κ'.1 66 59 = 0 ∧ κ'.1 91 r = nI dy ∧ κ'.1 92 (4 * r + e) = nI (mn e) ∧ (∀ k, k < mn e → κ'.1 93 (28 * r + 7 * e + k) = F0 e k ∧ κ'.1 94 (28 * r + 7 * e + k) = T0 e k) ∧ κ'.1 105 d = H d := by
      intro κ' g
      have gg : ∀ j i, ¬ (FL j i ∨ ((j = 106 ∨ j = 107) ∧ i = d)) → κ'.1 j i = κ.1 j i := fun j i q => (g.1 j i q).1
      refine ⟨hM.same (fun j i a b => gg j i (by unfold FL; omega)), ?_, by rw [gg _ _ (by unfold FL; omega)]; exact hn, by rw [gg _ _ (by unfold FL; omega)]; exact hy, by rw [gg _ _ (by unfold FL; omega)]; exact h92, fun k hk => ?_, by rw [gg _ _ (by unfold FL; omega)]; exact h105⟩
      · rcases hm with ⟨z1, z2⟩ | ⟨z1, z2⟩
        · exact absurd z1 hn
        · exact Or.inr ⟨by rw [gg _ _ (by unfold FL; omega)]; exact z1, fun e' he' => by rw [gg _ _ (by unfold FL; omega)]; exact z2 e' he'⟩
      · rw [gg _ _ (by unfold FL; omega), gg _ _ (by unfold FL; omega)]
        exact hl k hk
    simp (disch := omega) only [pt_lt_, pt_clsome, pt_ck, pt_ckL, pt_cl, pt_clL, pt_cz0, pt_cz1, pt_czi, pt_add, pt_addL, pt_Ladd, pt_mul, pt_mulL, pt_Lmul, pt_sub, pt_subL, pt_Lsub, pt_rem, pt_le, pt_leL, pt_Lle, pt_lt, pt_ltL, pt_Llt, pt_eq, pt_eqL, pt_Leq, pt_m1, pt_lt0, pt_ge0, pt_m1lt0, pt_m1ge0, pt_10, pt_01, pt_00, pt_11, pt_m11, pt_0m1, pt_1m1, pt_ib, pt_ib1, pt_hs, pt_so, pt_ofNat, pt_si, pt_sin, pt_si1, pt_si2, pt_sl, pt_sln, pt_sl0, pt_sl2, pt_sr, pt_srn, pt_sr0, pt_sr1, if_true, if_false, ite_true, ite_false, not_true_eq_false, not_false_eq_true, if_pos, if_neg, h92, pm_slot, h105, l1, l2, hob]
    unfold wnt
    by_cases q : ob (H d) (F0 e k) = 1
    · have hs : wS H d F0 e k = true := decide_eq_true q
      rw [if_pos q, hs, if_pos rfl]
      exact ih (k + 1) (by omega) f (by omega) κ b ms hM hm hn hy h92 hl h105 h106 h107
    · have hs : wS H d F0 e k = false := decide_eq_false q
      rw [if_neg q, hs, if_neg (by decide)]
      have hw73 : κ.1 73 f2 = hu.1 11 f2 := (hM.2.2.2.2.1 f2 g1).2
      obtain ⟨κ1, e1, e2⟩ := pm_lawOf (s := 1) (d := d) (f := f2) (till := T0 e k) (came := -1) (wo := (hu.1 11 f2).toInt64) hF hT hM hr hM.2.2.2.2.2.2.2.2.2.2.1 (by omega) (by omega) g1 hm hy
      have hv : wV hu H dy d F0 T0 e k = lawA hu H (hu.2.2.1 7) (nI dy) d f2 (if (-1 : Int32) = -1 then 0 else nI dy - -1) (T0 e k - nI dy) (if (-1 : Int32) = -1 then 1 else 0) (hu.1 11 f2).toInt64 := by
        unfold wV
        rw [g2, pt_cl (by omega), if_pos rfl, if_pos rfl]
      rw [← hv] at e1
      have e1' : pX6_lawOf F κ 1 (nI r) (nI d) (F0 e k) (T0 e k) (-1) (hu.1 11 f2).toInt64 = some (wV hu H dy d F0 T0 e k, κ1) := by rw [g2]; exact e1
      have e2' : Fr (fun j i => FL j i ∨ ((j = 106 ∨ j = 107) ∧ i = d)) κ κ1 := e2.mono (fun j i q => Or.inl q)
      rw [g2] at e1' ⊢
      simp (disch := omega) only [pt_lt_, pt_clsome, pt_ck, pt_ckL, pt_cl, pt_clL, pt_cz0, pt_cz1, pt_czi, pt_add, pt_addL, pt_Ladd, pt_mul, pt_mulL, pt_Lmul, pt_sub, pt_subL, pt_Lsub, pt_rem, pt_le, pt_leL, pt_Lle, pt_lt, pt_ltL, pt_Llt, pt_eq, pt_eqL, pt_Leq, pt_m1, pt_lt0, pt_ge0, pt_m1lt0, pt_m1ge0, pt_10, pt_01, pt_00, pt_11, pt_m11, pt_0m1, pt_1m1, pt_ib, pt_ib1, pt_hs, pt_so, pt_ofNat, pt_si, pt_sin, pt_si1, pt_si2, pt_sl, pt_sln, pt_sl0, pt_sl2, pt_sr, pt_srn, pt_sr0, pt_sr1, if_true, if_false, ite_true, ite_false, not_true_eq_false, not_false_eq_true, if_pos, if_neg, hw73]
      rw [e1']
      simp (disch := omega) only [pt_lt_, pt_clsome, pt_ck, pt_ckL, pt_cl, pt_clL, pt_cz0, pt_cz1, pt_czi, pt_add, pt_addL, pt_Ladd, pt_mul, pt_mulL, pt_Lmul, pt_sub, pt_subL, pt_Lsub, pt_rem, pt_le, pt_leL, pt_Lle, pt_lt, pt_ltL, pt_Llt, pt_eq, pt_eqL, pt_Leq, pt_m1, pt_lt0, pt_ge0, pt_m1lt0, pt_m1ge0, pt_10, pt_01, pt_00, pt_11, pt_m11, pt_0m1, pt_1m1, pt_ib, pt_ib1, pt_hs, pt_so, pt_ofNat, pt_si, pt_sin, pt_si1, pt_si2, pt_sl, pt_sln, pt_sl0, pt_sl2, pt_sr, pt_srn, pt_sr0, pt_sr1, if_true, if_false, ite_true, ite_false, not_true_eq_false, not_false_eq_true, if_pos, if_neg, lg_cmp_gt]
      obtain ⟨k1, k2, k3, k4, k5, k6, k7⟩ := hfr κ1 e2'
      by_cases q2 : ms < wV hu H dy d F0 T0 e k
      · rw [if_pos q2, if_pos q2]
        have l1' := (k6 k (by omega)).1
        have l2' := (k6 k (by omega)).2
        simp (disch := omega) only [pt_lt_, pt_clsome, pt_ck, pt_ckL, pt_cl, pt_clL, pt_cz0, pt_cz1, pt_czi, pt_add, pt_addL, pt_Ladd, pt_mul, pt_mulL, pt_Lmul, pt_sub, pt_subL, pt_Lsub, pt_rem, pt_le, pt_leL, pt_Lle, pt_lt, pt_ltL, pt_Llt, pt_eq, pt_eqL, pt_Leq, pt_m1, pt_lt0, pt_ge0, pt_m1lt0, pt_m1ge0, pt_10, pt_01, pt_00, pt_11, pt_m11, pt_0m1, pt_1m1, pt_ib, pt_ib1, pt_hs, pt_so, pt_ofNat, pt_si, pt_sin, pt_si1, pt_si2, pt_sl, pt_sln, pt_sl0, pt_sl2, pt_sr, pt_srn, pt_sr0, pt_sr1, if_true, if_false, ite_true, ite_false, not_true_eq_false, not_false_eq_true, if_pos, if_neg, l1', l2']
        have e3 : Fr (fun j i => FL j i ∨ ((j = 106 ∨ j = 107) ∧ i = d)) κ (s_i (s_i κ1 106 d (F0 e k)) 107 d (T0 e k)) := e2'.tr ((Fr.si (by unfold FL; omega)).tr (Fr.si (by unfold FL; omega)))
        obtain ⟨j1, j2, j3, j4, j5, j6, j7⟩ := hfr _ e3
        obtain ⟨κ', r1, r2, r3, r4⟩ := ih (k + 1) (by omega) f (by omega) (s_i (s_i κ1 106 d (F0 e k)) 107 d (T0 e k)) (some k) (wV hu H dy d F0 T0 e k) j1 j2 j3 j4 j5 j6 j7 (by simp (disch := omega) only [pt_lt_, pt_clsome, pt_ck, pt_ckL, pt_cl, pt_clL, pt_cz0, pt_cz1, pt_czi, pt_add, pt_addL, pt_Ladd, pt_mul, pt_mulL, pt_Lmul, pt_sub, pt_subL, pt_Lsub, pt_rem, pt_le, pt_leL, pt_Lle, pt_lt, pt_ltL, pt_Llt, pt_eq, pt_eqL, pt_Leq, pt_m1, pt_lt0, pt_ge0, pt_m1lt0, pt_m1ge0, pt_10, pt_01, pt_00, pt_11, pt_m11, pt_0m1, pt_1m1, pt_ib, pt_ib1, pt_hs, pt_so, pt_ofNat, pt_si, pt_sin, pt_si1, pt_si2, pt_sl, pt_sln, pt_sl0, pt_sl2, pt_sr, pt_srn, pt_sr0, pt_sr1, if_true, if_false, ite_true, ite_false, not_true_eq_false, not_false_eq_true, if_pos, if_neg]; rfl) (fun k' hk' => by cases hk'; simp (disch := omega) only [pt_lt_, pt_clsome, pt_ck, pt_ckL, pt_cl, pt_clL, pt_cz0, pt_cz1, pt_czi, pt_add, pt_addL, pt_Ladd, pt_mul, pt_mulL, pt_Lmul, pt_sub, pt_subL, pt_Lsub, pt_rem, pt_le, pt_leL, pt_Lle, pt_lt, pt_ltL, pt_Llt, pt_eq, pt_eqL, pt_Leq, pt_m1, pt_lt0, pt_ge0, pt_m1lt0, pt_m1ge0, pt_10, pt_01, pt_00, pt_11, pt_m11, pt_0m1, pt_1m1, pt_ib, pt_ib1, pt_hs, pt_so, pt_ofNat, pt_si, pt_sin, pt_si1, pt_si2, pt_sl, pt_sln, pt_sl0, pt_sl2, pt_sr, pt_srn, pt_sr0, pt_sr1, if_true, if_false, ite_true, ite_false, not_true_eq_false, not_false_eq_true, if_pos, if_neg])
        exact ⟨κ', r1, r2, r3, e3.tr r4⟩
      · rw [if_neg q2, if_neg q2]
        obtain ⟨κ', r1, r2, r3, r4⟩ := ih (k + 1) (by omega) f (by omega) κ1 b ms k1 k2 k3 k4 k5 k6 k7 (by rw [(e2.1 106 d (by unfold FL; omega)).1]; exact h106) (fun k' hk' => by rw [(e2.1 107 d (by unfold FL; omega)).1]; exact h107 k' hk')
        exact ⟨κ', r1, r2, r3, e2'.tr r4⟩
/-- the system's choice of what to ask for, and its coming -/
theorem px_asksAt {F : Nat} {hu : hd_T} {hb r dy d e : Nat} {mn : Nat → Nat} {F0 T0 : Nat → Nat → Int32} {H : Nat → Int32} (hF : 80 ≤ F) (hr : r < 3) (hT : TW hu) (hw : SW hu (hu.2.2.1 7)) (hd : d < hu.2.1 0) (he : e < hu.2.1 0) (hS : SN (hu.2.1 0) (hu.2.1 1) mn F0 T0) : ∀ m k, k + m = mn e → ∀ f, m < f → ∀ (κ : kp_K) (b : Option Nat) (ms : Int64), κ.2.2 0 4 = some hb → NX (hu.2.1 0) r mn F0 T0 H κ → κ.1 (13 + 14 * r) 1 = nI dy → (∀ j, b = some j → j < mn e) →
    ∃ κ', bX5_asksAt_11 F hb hu r f κ (nI d) (nI e) (oI (b.map (fun j => 7 * e + j))) ms (nI (7 * e + k)) = (match wnt (wV hu H dy d F0 T0 e) (wS H d F0 e) k m b ms with
      | none => some κ'
      | some k' => p_cl (pX5_comes F hb hu r κ' (nI d) (F0 e k') (T0 e k')) fun z => some z) ∧ Fr PX9 κ κ' := by
  intro m
  induction m with
  | zero =>
    intro k hk f hf κ b ms hs hN hy hbb
    obtain ⟨f, rfl⟩ : ∃ f', f = f' + 1 := ⟨f - 1, by omega⟩
    have hn4 := hT.1.1
    have hme := (hS e he).1
    obtain ⟨n1, n2, n3⟩ := hN.2 e he
    rw [bX5_asksAt_11]
    simp (disch := omega) only [pt_lt_, pt_clsome, pt_ck, pt_ckL, pt_cl, pt_clL, pt_cz0, pt_cz1, pt_czi, pt_add, pt_addL, pt_Ladd, pt_mul, pt_mulL, pt_Lmul, pt_sub, pt_subL, pt_Lsub, pt_rem, pt_le, pt_leL, pt_Lle, pt_lt, pt_ltL, pt_Llt, pt_eq, pt_eqL, pt_Leq, pt_m1, pt_lt0, pt_ge0, pt_m1lt0, pt_m1ge0, pt_10, pt_01, pt_00, pt_11, pt_m11, pt_0m1, pt_1m1, pt_ib, pt_ib1, pt_hs, pt_so, pt_ofNat, pt_si, pt_sin, pt_si1, pt_si2, pt_sl, pt_sln, pt_sl0, pt_sl2, pt_sr, pt_srn, pt_sr0, pt_sr1, if_true, if_false, ite_true, ite_false, not_true_eq_false, not_false_eq_true, if_pos, if_neg, n2]
    unfold wnt
    cases b with
    | none =>
      simp only [Option.map_none, oI]
      simp (disch := omega) only [pt_lt_, pt_clsome, pt_ck, pt_ckL, pt_cl, pt_clL, pt_cz0, pt_cz1, pt_czi, pt_add, pt_addL, pt_Ladd, pt_mul, pt_mulL, pt_Lmul, pt_sub, pt_subL, pt_Lsub, pt_rem, pt_le, pt_leL, pt_Lle, pt_lt, pt_ltL, pt_Llt, pt_eq, pt_eqL, pt_Leq, pt_m1, pt_lt0, pt_ge0, pt_m1lt0, pt_m1ge0, pt_10, pt_01, pt_00, pt_11, pt_m11, pt_0m1, pt_1m1, pt_ib, pt_ib1, pt_hs, pt_so, pt_ofNat, pt_si, pt_sin, pt_si1, pt_si2, pt_sl, pt_sln, pt_sl0, pt_sl2, pt_sr, pt_srn, pt_sr0, pt_sr1, if_true, if_false, ite_true, ite_false, not_true_eq_false, not_false_eq_true, if_pos, if_neg]
      exact ⟨κ, rfl, Fr.rf⟩
    | some j =>
      have hj := hbb j rfl
      obtain ⟨z1, z2⟩ := n3 j hj
      simp only [Option.map_some, oI]
      simp (disch := omega) only [pt_lt_, pt_clsome, pt_ck, pt_ckL, pt_cl, pt_clL, pt_cz0, pt_cz1, pt_czi, pt_add, pt_addL, pt_Ladd, pt_mul, pt_mulL, pt_Lmul, pt_sub, pt_subL, pt_Lsub, pt_rem, pt_le, pt_leL, pt_Lle, pt_lt, pt_ltL, pt_Llt, pt_eq, pt_eqL, pt_Leq, pt_m1, pt_lt0, pt_ge0, pt_m1lt0, pt_m1ge0, pt_10, pt_01, pt_00, pt_11, pt_m11, pt_0m1, pt_1m1, pt_ib, pt_ib1, pt_hs, pt_so, pt_ofNat, pt_si, pt_sin, pt_si1, pt_si2, pt_sl, pt_sln, pt_sl0, pt_sl2, pt_sr, pt_srn, pt_sr0, pt_sr1, if_true, if_false, ite_true, ite_false, not_true_eq_false, not_false_eq_true, if_pos, if_neg, z1, z2]
      exact ⟨κ, rfl, Fr.rf⟩
  | succ m ih =>
    intro k hk f hf κ b ms hs hN hy hbb
    obtain ⟨f, rfl⟩ : ∃ f', f = f' + 1 := ⟨f - 1, by omega⟩
    have hn4 := hT.1.1
    have hf7 := hT.1.2.1
    have hme := (hS e he).1
    obtain ⟨f2, g1, g2⟩ := (hS e he).2 k (by omega)
    obtain ⟨n1, n2, n3⟩ := hN.2 e he
    obtain ⟨n1d, -, -⟩ := hN.2 d hd
    obtain ⟨z1, z2⟩ := n3 k (by omega)
    rw [bX5_asksAt_11]
    simp (disch := omega) only [pt_lt_, pt_clsome, pt_ck, pt_ckL, pt_cl, pt_clL, pt_cz0, pt_cz1, pt_czi, pt_add, pt_addL, pt_Ladd, pt_mul, pt_mulL, pt_Lmul, pt_sub, pt_subL, pt_Lsub, pt_rem, pt_le, pt_leL, pt_Lle, pt_lt, pt_ltL, pt_Llt, pt_eq, pt_eqL, pt_Leq, pt_m1, pt_lt0, pt_ge0, pt_m1lt0, pt_m1ge0, pt_10, pt_01, pt_00, pt_11, pt_m11, pt_0m1, pt_1m1, pt_ib, pt_ib1, pt_hs, pt_so, pt_ofNat, pt_si, pt_sin, pt_si1, pt_si2, pt_sl, pt_sln, pt_sl0, pt_sl2, pt_sr, pt_srn, pt_sr0, pt_sr1, if_true, if_false, ite_true, ite_false, not_true_eq_false, not_false_eq_true, if_pos, if_neg, n2, z1, n1d, px_isOf]
    unfold wnt
    rw [show 7 * e + k + 1 = 7 * e + (k + 1) from by omega]
    rcases ob_01 (H d) (F0 e k) with q | q
    · have hsk : wS H d F0 e k = false := decide_eq_false (by rw [q]; decide)
      rw [if_pos q, hsk, if_neg (by decide)]
      have hX : HX (hu.2.1 0) r H κ := Or.inr ⟨hN.1, fun e' he' => (hN.2 e' he').1⟩
      obtain ⟨κ1, e1, e2, e3, e4⟩ := px_layNames (held := 0) (left := T0 e k - nI dy) (fresh := 1) (by omega : 20 ≤ F) hT hs (by omega : d < 4) g1 hX hy
      have e5 : pX1_worth hb hu κ1 (nI f2) = some (hu.1 11 f2) := px_worth (by rw [e4.2]; exact hs) g1 hf7
      obtain ⟨κ2, e6, e7⟩ := px_value (hb := hb) (wo := (hu.1 11 f2).toInt64) hw e2 e3
      have hv : wV hu H dy d F0 T0 e k = LV hu (hu.2.2.1 7) 0 (T0 e k - nI dy) (hu.1 11 f2) (othF H d (nI f2) 0 (hu.2.1 0) 0) (askF hu (nI dy) (nI d) (nI f2) 0 (hu.2.1 3) 0) 1 (hu.1 11 f2).toInt64 := by
        unfold wV lawA
        rw [g2, pt_cl (by omega)]
      rw [← hv] at e6
      rw [g2]
      have hs1 : κ1.2.2 0 4 = some hb := by rw [e4.2]; exact hs
      simp (disch := omega) only [pt_lt_, pt_clsome, pt_ck, pt_ckL, pt_cl, pt_clL, pt_cz0, pt_cz1, pt_czi, pt_add, pt_addL, pt_Ladd, pt_mul, pt_mulL, pt_Lmul, pt_sub, pt_subL, pt_Lsub, pt_rem, pt_le, pt_leL, pt_Lle, pt_lt, pt_ltL, pt_Llt, pt_eq, pt_eqL, pt_Leq, pt_m1, pt_lt0, pt_ge0, pt_m1lt0, pt_m1ge0, pt_10, pt_01, pt_00, pt_11, pt_m11, pt_0m1, pt_1m1, pt_ib, pt_ib1, pt_hs, pt_so, pt_ofNat, pt_si, pt_sin, pt_si1, pt_si2, pt_sl, pt_sln, pt_sl0, pt_sl2, pt_sr, pt_srn, pt_sr0, pt_sr1, if_true, if_false, ite_true, ite_false, not_true_eq_false, not_false_eq_true, if_pos, if_neg, z2, hy, e1, hs1, e5, e6, lg_cmp_gt]
      have g9 : Fr PX9 κ κ2 := Fr.tr e4 e7
      have hN2 : NX (hu.2.1 0) r mn F0 T0 H κ2 := hN.fr (g9.mono (fun j i q => by unfold PX9 at q; unfold PXc; omega))
      have hs2 : κ2.2.2 0 4 = some hb := by rw [g9.2]; exact hs
      have hy2 : κ2.1 (13 + 14 * r) 1 = nI dy := by rw [(g9.1 _ _ (by unfold PX9; omega)).1]; exact hy
      by_cases q2 : ms < wV hu H dy d F0 T0 e k
      · rw [if_pos q2, if_pos q2]
        obtain ⟨κ', r1, r2⟩ := ih (k + 1) (by omega) f (by omega) κ2 (some k) (wV hu H dy d F0 T0 e k) hs2 hN2 hy2 (fun j hj => by cases hj; omega)
        exact ⟨κ', r1, g9.tr r2⟩
      · rw [if_neg q2, if_neg q2]
        obtain ⟨κ', r1, r2⟩ := ih (k + 1) (by omega) f (by omega) κ2 b ms hs2 hN2 hy2 hbb
        exact ⟨κ', r1, g9.tr r2⟩
    · have hsk : wS H d F0 e k = true := decide_eq_true q
      rw [if_neg (by rw [q]; decide), hsk, if_pos rfl]
      exact ih (k + 1) (by omega) f (by omega) κ b ms hs hN hy hbb
