/-! PURE LAYER: sums of the reference -/
set_option maxRecDepth 100000
/-- the reference's stack -/
def wst (κ : kp_K) (st : List Int64) : Prop := κ.1 66 42 = nI st.length ∧ ∀ i, i < st.length → κ.2.1 90 (st.length - 1 - i) = st.getD i 0
/-- what its sums write -/
def FW (j i : Nat) : Prop := (j = 66 ∧ i = 42) ∨ j = 90
theorem pm_is (v : Int32) : pX6_is v = some (if v = 0 then 0 else 1) := by
  unfold pX6_is
  split <;> rfl
theorem cm_bd {v : Int64} (h : bd v) : (0 < lg_cmp v 1000000000000) = False ∧ (lg_cmp v (-1000000000000) < 0) = False := by
  unfold bd at h
  constructor
  · refine propext ⟨fun q => ?_, False.elim⟩
    rw [lg_cmp_gt, Int64.lt_iff_toInt_lt, sL] at q
    omega
  · refine propext ⟨fun q => ?_, False.elim⟩
    rw [lg_cmp_lt, Int64.lt_iff_toInt_lt, sM] at q
    omega
/-- the end of a knot that takes two: v comes to the stack -/
theorem pm_407 {κ : kp_K} {v : Int64} {n : Nat} (hn : 1 ≤ n) (h64 : n ≤ 64) (hw : κ.1 66 42 = nI n) : bX6_works_407 κ v = match evB v with
  | some z => some (1, s_l κ 90 (n - 1) z)
  | none => some (0, s_l κ 90 (n - 1) v) := by
  unfold bX6_works_407 evB
  simp (disch := omega) only [pt_lt_, pt_clsome, pt_ck, pt_ckL, pt_cl, pt_clL, pt_cz0, pt_cz1, pt_czi, pt_add, pt_addL, pt_Ladd, pt_mul, pt_mulL, pt_Lmul, pt_sub, pt_subL, pt_Lsub, pt_rem, pt_le, pt_leL, pt_Lle, pt_lt, pt_ltL, pt_Llt, pt_eq, pt_eqL, pt_Leq, pt_m1, pt_lt0, pt_ge0, pt_m1lt0, pt_m1ge0, pt_10, pt_01, pt_00, pt_11, pt_m11, pt_0m1, pt_1m1, pt_ib, pt_ib1, pt_hs, pt_so, pt_ofNat, pt_si, pt_sin, pt_si1, pt_si2, pt_sl, pt_sln, pt_sl0, pt_sl2, pt_sr, pt_srn, pt_sr0, pt_sr1, if_true, if_false, ite_true, ite_false, not_true_eq_false, not_false_eq_true, hw, lg_cmp_gt, lg_cmp_lt]
  by_cases q : 1000000000000 < v
  · rw [if_pos q, if_pos (Or.inl q)]
  · rw [if_neg q]
    by_cases q2 : v < -1000000000000
    · rw [if_pos q2, if_pos (Or.inr q2)]
    · rw [if_neg q2, if_neg (fun z => z.elim q q2)]
theorem evB_of {v : Int64} (h : bd v) : evB v = some v := by
  unfold bd at h
  unfold evB
  rw [if_neg]
  rw [Int64.lt_iff_toInt_lt, Int64.lt_iff_toInt_lt, sL, sM]
  omega
theorem wst_put {κ : kp_K} {x y v : Int64} {r2 : List Int64} (h : wst κ (y :: x :: r2)) : wst (s_l (s_i κ 66 42 (nI (r2.length + 1))) 90 r2.length v) (v :: r2) := by
  refine ⟨by simp (disch := omega) only [pt_lt_, pt_clsome, pt_ck, pt_ckL, pt_cl, pt_clL, pt_cz0, pt_cz1, pt_czi, pt_add, pt_addL, pt_Ladd, pt_mul, pt_mulL, pt_Lmul, pt_sub, pt_subL, pt_Lsub, pt_rem, pt_le, pt_leL, pt_Lle, pt_lt, pt_ltL, pt_Llt, pt_eq, pt_eqL, pt_Leq, pt_m1, pt_lt0, pt_ge0, pt_m1lt0, pt_m1ge0, pt_10, pt_01, pt_00, pt_11, pt_m11, pt_0m1, pt_1m1, pt_ib, pt_ib1, pt_hs, pt_so, pt_ofNat, pt_si, pt_sin, pt_si1, pt_si2, pt_sl, pt_sln, pt_sl0, pt_sl2, pt_sr, pt_srn, pt_sr0, pt_sr1, if_true, if_false, ite_true, ite_false, not_true_eq_false, not_false_eq_true, if_pos, if_neg]; rfl, fun i hi => ?_⟩
  cases i with
  | zero =>
    simp (disch := omega) only [pt_lt_, pt_clsome, pt_ck, pt_ckL, pt_cl, pt_clL, pt_cz0, pt_cz1, pt_czi, pt_add, pt_addL, pt_Ladd, pt_mul, pt_mulL, pt_Lmul, pt_sub, pt_subL, pt_Lsub, pt_rem, pt_le, pt_leL, pt_Lle, pt_lt, pt_ltL, pt_Llt, pt_eq, pt_eqL, pt_Leq, pt_m1, pt_lt0, pt_ge0, pt_m1lt0, pt_m1ge0, pt_10, pt_01, pt_00, pt_11, pt_m11, pt_0m1, pt_1m1, pt_ib, pt_ib1, pt_hs, pt_so, pt_ofNat, pt_si, pt_sin, pt_si1, pt_si2, pt_sl, pt_sln, pt_sl0, pt_sl2, pt_sr, pt_srn, pt_sr0, pt_sr1, if_true, if_false, ite_true, ite_false, not_true_eq_false, not_false_eq_true, if_pos, if_neg, List.length_cons]
    simp
  | succ i =>
    have hi2 : i < r2.length := by simpa using hi
    have h2 := h.2 (i + 2) (by simp; omega)
    simp only [List.length_cons] at h2 ⊢
    simp (disch := omega) only [pt_lt_, pt_clsome, pt_ck, pt_ckL, pt_cl, pt_clL, pt_cz0, pt_cz1, pt_czi, pt_add, pt_addL, pt_Ladd, pt_mul, pt_mulL, pt_Lmul, pt_sub, pt_subL, pt_Lsub, pt_rem, pt_le, pt_leL, pt_Lle, pt_lt, pt_ltL, pt_Llt, pt_eq, pt_eqL, pt_Leq, pt_m1, pt_lt0, pt_ge0, pt_m1lt0, pt_m1ge0, pt_10, pt_01, pt_00, pt_11, pt_m11, pt_0m1, pt_1m1, pt_ib, pt_ib1, pt_hs, pt_so, pt_ofNat, pt_si, pt_sin, pt_si1, pt_si2, pt_sl, pt_sln, pt_sl0, pt_sl2, pt_sr, pt_srn, pt_sr0, pt_sr1, if_true, if_false, ite_true, ite_false, not_true_eq_false, not_false_eq_true, if_pos, if_neg]
    rw [show r2.length + 1 - 1 - (i + 1) = r2.length + 1 + 1 - 1 - (i + 2) from by omega, h2]
    simp
theorem wst_put1 {κ : kp_K} {y v : Int64} {r1 : List Int64} (h : wst κ (y :: r1)) : wst (s_l κ 90 r1.length v) (v :: r1) := by
  refine ⟨by simp (disch := omega) only [pt_lt_, pt_clsome, pt_ck, pt_ckL, pt_cl, pt_clL, pt_cz0, pt_cz1, pt_czi, pt_add, pt_addL, pt_Ladd, pt_mul, pt_mulL, pt_Lmul, pt_sub, pt_subL, pt_Lsub, pt_rem, pt_le, pt_leL, pt_Lle, pt_lt, pt_ltL, pt_Llt, pt_eq, pt_eqL, pt_Leq, pt_m1, pt_lt0, pt_ge0, pt_m1lt0, pt_m1ge0, pt_10, pt_01, pt_00, pt_11, pt_m11, pt_0m1, pt_1m1, pt_ib, pt_ib1, pt_hs, pt_so, pt_ofNat, pt_si, pt_sin, pt_si1, pt_si2, pt_sl, pt_sln, pt_sl0, pt_sl2, pt_sr, pt_srn, pt_sr0, pt_sr1, if_true, if_false, ite_true, ite_false, not_true_eq_false, not_false_eq_true, if_pos, if_neg]; exact h.1, fun i hi => ?_⟩
  cases i with
  | zero =>
    simp (disch := omega) only [pt_lt_, pt_clsome, pt_ck, pt_ckL, pt_cl, pt_clL, pt_cz0, pt_cz1, pt_czi, pt_add, pt_addL, pt_Ladd, pt_mul, pt_mulL, pt_Lmul, pt_sub, pt_subL, pt_Lsub, pt_rem, pt_le, pt_leL, pt_Lle, pt_lt, pt_ltL, pt_Llt, pt_eq, pt_eqL, pt_Leq, pt_m1, pt_lt0, pt_ge0, pt_m1lt0, pt_m1ge0, pt_10, pt_01, pt_00, pt_11, pt_m11, pt_0m1, pt_1m1, pt_ib, pt_ib1, pt_hs, pt_so, pt_ofNat, pt_si, pt_sin, pt_si1, pt_si2, pt_sl, pt_sln, pt_sl0, pt_sl2, pt_sr, pt_srn, pt_sr0, pt_sr1, if_true, if_false, ite_true, ite_false, not_true_eq_false, not_false_eq_true, if_pos, if_neg, List.length_cons]
    simp
  | succ i =>
    have hi2 : i < r1.length := by simpa using hi
    have h2 := h.2 (i + 1) (by simp; omega)
    simp only [List.length_cons] at h2 ⊢
    simp (disch := omega) only [pt_lt_, pt_clsome, pt_ck, pt_ckL, pt_cl, pt_clL, pt_cz0, pt_cz1, pt_czi, pt_add, pt_addL, pt_Ladd, pt_mul, pt_mulL, pt_Lmul, pt_sub, pt_subL, pt_Lsub, pt_rem, pt_le, pt_leL, pt_Lle, pt_lt, pt_ltL, pt_Llt, pt_eq, pt_eqL, pt_Leq, pt_m1, pt_lt0, pt_ge0, pt_m1lt0, pt_m1ge0, pt_10, pt_01, pt_00, pt_11, pt_m11, pt_0m1, pt_1m1, pt_ib, pt_ib1, pt_hs, pt_so, pt_ofNat, pt_si, pt_sin, pt_si1, pt_si2, pt_sl, pt_sln, pt_sl0, pt_sl2, pt_sr, pt_srn, pt_sr0, pt_sr1, if_true, if_false, ite_true, ite_false, not_true_eq_false, not_false_eq_true, if_pos, if_neg]
    rw [h2]
    simp
theorem FW_put {κ : kp_K} {m : Nat} {a : Int32} {v : Int64} : Fr FW κ (s_l (s_i κ 66 42 a) 90 m v) := (Fr.si (Or.inl ⟨rfl, rfl⟩)).tr (Fr.sl (Or.inr rfl))
theorem wst_cons {κ : kp_K} {y : Int64} {r1 : List Int64} (h : wst κ (y :: r1)) : κ.1 66 42 = nI (r1.length + 1) ∧ κ.2.1 90 r1.length = y := by
  have ht := h.2 0 (by simp)
  simp only [List.length_cons, Nat.sub_zero, Nat.add_sub_cancel, List.getD_cons_zero] at ht
  exact ⟨h.1, ht⟩
theorem wst_cons2 {κ : kp_K} {y x : Int64} {r2 : List Int64} (h : wst κ (y :: x :: r2)) : κ.1 66 42 = nI (r2.length + 1 + 1) ∧ κ.2.1 90 (r2.length + 1) = y ∧ κ.2.1 90 r2.length = x := by
  have ht := h.2 0 (by simp)
  have hx := h.2 1 (by simp)
  simp only [List.length_cons, List.getD_cons_succ, List.getD_cons_zero] at ht hx
  rw [show r2.length + 1 + 1 - 1 - 0 = r2.length + 1 from by omega] at ht
  rw [show r2.length + 1 + 1 - 1 - 1 = r2.length from by omega] at hx
  exact ⟨h.1, ht, hx⟩
/-- a knot's end: what it means -/
def wOk (nm : Nat → Int64) (q : Nat × Int64) (st : List Int64) (κ : kp_K) (vl : Int32) : Prop :=
    (∃ st' κ', ev1 nm q st = some st' ∧ pX6_works κ vl = some (1, κ') ∧ wst κ' st' ∧ Fr FW κ κ' ∧ (∀ v ∈ st', bd v) ∧ st'.length ≤ st.length) ∨
    (∃ κ', ev1 nm q st = none ∧ pX6_works κ vl = some (0, κ') ∧ Fr FW κ κ')
theorem pm_fin {nm : Nat → Int64} {q : Nat × Int64} {y x v : Int64} {r2 : List Int64} {κ : kp_K} {vl : Int32} (hw : wst κ (y :: x :: r2)) (h64 : r2.length + 2 ≤ 64) (hr : ∀ v ∈ r2, bd v) (hv : bd v) (e1 : ev1 nm q (y :: x :: r2) = some (v :: r2)) (e2 : pX6_works κ vl = bX6_works_407 (s_i κ 66 42 (nI (r2.length + 1))) v) : wOk nm q (y :: x :: r2) κ vl := by
  have hkk : (s_i κ 66 42 (nI (r2.length + 1))).1 66 42 = nI (r2.length + 1) := pt_si ⟨rfl, rfl⟩
  rw [pm_407 (n := r2.length + 1) (by omega) (by omega) hkk, evB_of hv] at e2
  exact Or.inl ⟨v :: r2, _, e1, e2, wst_put hw, FW_put, all_cons hv hr, by simp⟩
theorem ev1_len {nm : Nat → Int64} {q : Nat × Int64} {st st' : List Int64} (h : ev1 nm q st = some st') : hgt [q] st.length = some st'.length := by
  obtain ⟨a, s⟩ := q
  unfold ev1 at h
  simp only [hgt]
  dsimp only at h ⊢
  by_cases h0 : a = 0
  · rw [if_pos h0] at h
    cases h
    rw [if_pos (Or.inl h0)]
    simp
  · by_cases h1 : a = 1
    · rw [if_neg h0, if_pos h1] at h
      cases h
      rw [if_pos (Or.inr h1)]
      simp
    · rw [if_neg h0, if_neg h1] at h
      rw [if_neg (fun q => q.elim h0 h1)]
      split at h
      · cases h
      · by_cases h2 : a = 2
        · rw [if_pos h2] at h
          cases h
          rw [if_pos h2, if_pos (by simp)]
          simp
        · rw [if_neg h2] at h
          rw [if_neg h2]
          split at h
          · cases h
          · rw [if_pos (by simp)]
            split at h
            · cases h; simp
            · split at h
              · cases h; simp
              · split at h
                · cases h; simp
                · cases h
theorem pm_not {nm : Nat → Int64} {s y : Int64} {r1 : List Int64} {κ : kp_K} (hw : wst κ (y :: r1)) (hb : ∀ v ∈ y :: r1, bd v) (h64 : r1.length + 1 ≤ 64) : wOk nm (2, s) (y :: r1) κ 260 := by
  obtain ⟨hl, ht⟩ := wst_cons hw
  refine Or.inl ⟨(if y = 0 then 1 else 0) :: r1, s_l κ 90 r1.length (if y = 0 then 1 else 0), rfl, ?_, wst_put1 hw, Fr.sl (Or.inr rfl), all_cons bd_01 (fun v hv => hb v (List.mem_cons_of_mem _ hv)), by simp⟩
  unfold pX6_works
  simp only [if_true]
  simp (disch := omega) only [pt_lt_, pt_clsome, pt_ck, pt_ckL, pt_cl, pt_clL, pt_cz0, pt_cz1, pt_czi, pt_add, pt_addL, pt_Ladd, pt_mul, pt_mulL, pt_Lmul, pt_sub, pt_subL, pt_Lsub, pt_rem, pt_le, pt_leL, pt_Lle, pt_lt, pt_ltL, pt_Llt, pt_eq, pt_eqL, pt_Leq, pt_m1, pt_lt0, pt_ge0, pt_m1lt0, pt_m1ge0, pt_10, pt_01, pt_00, pt_11, pt_m11, pt_0m1, pt_1m1, pt_ib, pt_ib1, pt_hs, pt_so, pt_ofNat, pt_si, pt_sin, pt_si1, pt_si2, pt_sl, pt_sln, pt_sl0, pt_sl2, pt_sr, pt_srn, pt_sr0, pt_sr1, if_true, if_false, ite_true, ite_false, not_true_eq_false, not_false_eq_true, hl, Nat.add_sub_cancel, ht, lg_cmp_eq]
  by_cases h0 : y = 0
  · rw [if_pos h0, if_pos h0]
    unfold bX6_works_40
    simp (disch := omega) only [pt_lt_, pt_clsome, pt_ck, pt_ckL, pt_cl, pt_clL, pt_cz0, pt_cz1, pt_czi, pt_add, pt_addL, pt_Ladd, pt_mul, pt_mulL, pt_Lmul, pt_sub, pt_subL, pt_Lsub, pt_rem, pt_le, pt_leL, pt_Lle, pt_lt, pt_ltL, pt_Llt, pt_eq, pt_eqL, pt_Leq, pt_m1, pt_lt0, pt_ge0, pt_m1lt0, pt_m1ge0, pt_10, pt_01, pt_00, pt_11, pt_m11, pt_0m1, pt_1m1, pt_ib, pt_ib1, pt_hs, pt_so, pt_ofNat, pt_si, pt_sin, pt_si1, pt_si2, pt_sl, pt_sln, pt_sl0, pt_sl2, pt_sr, pt_srn, pt_sr0, pt_sr1, if_true, if_false, ite_true, ite_false, not_true_eq_false, not_false_eq_true, if_pos, if_neg, pm_is, Nat.add_sub_cancel]
  · rw [if_neg h0, if_neg h0]
    unfold bX6_works_40
    simp (disch := omega) only [pt_lt_, pt_clsome, pt_ck, pt_ckL, pt_cl, pt_clL, pt_cz0, pt_cz1, pt_czi, pt_add, pt_addL, pt_Ladd, pt_mul, pt_mulL, pt_Lmul, pt_sub, pt_subL, pt_Lsub, pt_rem, pt_le, pt_leL, pt_Lle, pt_lt, pt_ltL, pt_Llt, pt_eq, pt_eqL, pt_Leq, pt_m1, pt_lt0, pt_ge0, pt_m1lt0, pt_m1ge0, pt_10, pt_01, pt_00, pt_11, pt_m11, pt_0m1, pt_1m1, pt_ib, pt_ib1, pt_hs, pt_so, pt_ofNat, pt_si, pt_sin, pt_si1, pt_si2, pt_sl, pt_sln, pt_sl0, pt_sl2, pt_sr, pt_srn, pt_sr0, pt_sr1, if_true, if_false, ite_true, ite_false, not_true_eq_false, not_false_eq_true, if_pos, if_neg, pm_is, Nat.add_sub_cancel]
theorem evD_bd {s x y : Int64} : bd (evD s x y) := by
  unfold evD
  split
  · exact bd_10
  · exact bd_10
theorem evC_bd {s x y : Int64} : bd (evC s x y) := by
  unfold evC
  split
  · exact bd_01
  · split
    · exact bd_01
    · split
      · exact bd_01
      · split
        · exact bd_10
        · split
          · exact bd_01
          · exact bd_01
theorem pm_and {y x : Int64} {r2 : List Int64} {κ : kp_K} (hw : wst κ (y :: x :: r2)) (h64 : r2.length + 2 ≤ 64) : pX6_works κ 261 = bX6_works_407 (s_i κ 66 42 (nI (r2.length + 1))) (evD 1 x y) := by
  obtain ⟨hl, ht, hx2⟩ := wst_cons2 hw
  unfold pX6_works evD
  simp only [show ((261 : Int32) = 260) = False from by decide, show ((261 : Int32) = 42) = False from by decide, show ((261 : Int32) = 43) = False from by decide, show ((261 : Int32) = 45) = False from by decide, show ((261 : Int32) = 47) = False from by decide, show ((261 : Int32) = 60) = False from by decide, show ((261 : Int32) = 61) = False from by decide, show ((261 : Int32) = 62) = False from by decide, show ((261 : Int32) = 256) = False from by decide, show ((261 : Int32) = 257) = False from by decide, show ((261 : Int32) = 258) = False from by decide, show ((1 : Int64) = 0) = False from by decide, if_false, if_true]
  simp (disch := omega) only [pt_lt_, pt_clsome, pt_ck, pt_ckL, pt_cl, pt_clL, pt_cz0, pt_cz1, pt_czi, pt_add, pt_addL, pt_Ladd, pt_mul, pt_mulL, pt_Lmul, pt_sub, pt_subL, pt_Lsub, pt_rem, pt_le, pt_leL, pt_Lle, pt_lt, pt_ltL, pt_Llt, pt_eq, pt_eqL, pt_Leq, pt_m1, pt_lt0, pt_ge0, pt_m1lt0, pt_m1ge0, pt_10, pt_01, pt_00, pt_11, pt_m11, pt_0m1, pt_1m1, pt_ib, pt_ib1, pt_hs, pt_so, pt_ofNat, pt_si, pt_sin, pt_si1, pt_si2, pt_sl, pt_sln, pt_sl0, pt_sl2, pt_sr, pt_srn, pt_sr0, pt_sr1, if_true, if_false, ite_true, ite_false, not_true_eq_false, not_false_eq_true, hl, ht, hx2, lg_cmp_eq, Nat.add_sub_cancel]
  rw [show r2.length + 1 + 1 - 2 = r2.length from by omega, hx2]
  unfold bX6_works_375 bX6_works_376
  simp (disch := omega) only [pt_lt_, pt_clsome, pt_ck, pt_ckL, pt_cl, pt_clL, pt_cz0, pt_cz1, pt_czi, pt_add, pt_addL, pt_Ladd, pt_mul, pt_mulL, pt_Lmul, pt_sub, pt_subL, pt_Lsub, pt_rem, pt_le, pt_leL, pt_Lle, pt_lt, pt_ltL, pt_Llt, pt_eq, pt_eqL, pt_Leq, pt_m1, pt_lt0, pt_ge0, pt_m1lt0, pt_m1ge0, pt_10, pt_01, pt_00, pt_11, pt_m11, pt_0m1, pt_1m1, pt_ib, pt_ib1, pt_hs, pt_so, pt_ofNat, pt_si, pt_sin, pt_si1, pt_si2, pt_sl, pt_sln, pt_sl0, pt_sl2, pt_sr, pt_srn, pt_sr0, pt_sr1, if_true, if_false, ite_true, ite_false, not_true_eq_false, not_false_eq_true, pm_is]
  by_cases hx0 : x = 0 <;> by_cases hy0 : y = 0 <;> simp [hx0, hy0]
theorem pm_or {y x : Int64} {r2 : List Int64} {κ : kp_K} (hw : wst κ (y :: x :: r2)) (h64 : r2.length + 2 ≤ 64) : pX6_works κ 262 = bX6_works_407 (s_i κ 66 42 (nI (r2.length + 1))) (evD 0 x y) := by
  obtain ⟨hl, ht, hx2⟩ := wst_cons2 hw
  unfold pX6_works evD
  simp only [show ((262 : Int32) = 260) = False from by decide, show ((262 : Int32) = 42) = False from by decide, show ((262 : Int32) = 43) = False from by decide, show ((262 : Int32) = 45) = False from by decide, show ((262 : Int32) = 47) = False from by decide, show ((262 : Int32) = 60) = False from by decide, show ((262 : Int32) = 61) = False from by decide, show ((262 : Int32) = 62) = False from by decide, show ((262 : Int32) = 256) = False from by decide, show ((262 : Int32) = 257) = False from by decide, show ((262 : Int32) = 258) = False from by decide, show ((262 : Int32) = 261) = False from by decide, if_false, if_true]
  simp (disch := omega) only [pt_lt_, pt_clsome, pt_ck, pt_ckL, pt_cl, pt_clL, pt_cz0, pt_cz1, pt_czi, pt_add, pt_addL, pt_Ladd, pt_mul, pt_mulL, pt_Lmul, pt_sub, pt_subL, pt_Lsub, pt_rem, pt_le, pt_leL, pt_Lle, pt_lt, pt_ltL, pt_Llt, pt_eq, pt_eqL, pt_Leq, pt_m1, pt_lt0, pt_ge0, pt_m1lt0, pt_m1ge0, pt_10, pt_01, pt_00, pt_11, pt_m11, pt_0m1, pt_1m1, pt_ib, pt_ib1, pt_hs, pt_so, pt_ofNat, pt_si, pt_sin, pt_si1, pt_si2, pt_sl, pt_sln, pt_sl0, pt_sl2, pt_sr, pt_srn, pt_sr0, pt_sr1, if_true, if_false, ite_true, ite_false, not_true_eq_false, not_false_eq_true, hl, ht, hx2, lg_cmp_eq, Nat.add_sub_cancel]
  rw [show r2.length + 1 + 1 - 2 = r2.length from by omega, hx2]
  unfold bX6_works_397 bX6_works_402
  simp (disch := omega) only [pt_lt_, pt_clsome, pt_ck, pt_ckL, pt_cl, pt_clL, pt_cz0, pt_cz1, pt_czi, pt_add, pt_addL, pt_Ladd, pt_mul, pt_mulL, pt_Lmul, pt_sub, pt_subL, pt_Lsub, pt_rem, pt_le, pt_leL, pt_Lle, pt_lt, pt_ltL, pt_Llt, pt_eq, pt_eqL, pt_Leq, pt_m1, pt_lt0, pt_ge0, pt_m1lt0, pt_m1ge0, pt_10, pt_01, pt_00, pt_11, pt_m11, pt_0m1, pt_1m1, pt_ib, pt_ib1, pt_hs, pt_so, pt_ofNat, pt_si, pt_sin, pt_si1, pt_si2, pt_sl, pt_sln, pt_sl0, pt_sl2, pt_sr, pt_srn, pt_sr0, pt_sr1, if_true, if_false, ite_true, ite_false, not_true_eq_false, not_false_eq_true, pm_is]
  by_cases hx0 : x = 0 <;> by_cases hy0 : y = 0 <;> simp [hx0, hy0]
theorem pm_cmp0 {y x : Int64} {r2 : List Int64} {κ : kp_K} (hw : wst κ (y :: x :: r2)) (h64 : r2.length + 2 ≤ 64) : pX6_works κ (cmpS 0) = bX6_works_407 (s_i κ 66 42 (nI (r2.length + 1))) (evC 0 x y) := by
  obtain ⟨hl, ht, hx2⟩ := wst_cons2 hw
  have hc : cmpS 0 = 60 := by decide +kernel
  rw [hc]
  unfold pX6_works evC
  simp only [show ((60 : Int32) = 260) = False from by decide, show ((60 : Int32) = 42) = False from by decide, show ((60 : Int32) = 43) = False from by decide, show ((60 : Int32) = 45) = False from by decide, show ((60 : Int32) = 47) = False from by decide, show ((60 : Int32) = 61) = False from by decide, show ((60 : Int32) = 62) = False from by decide, show ((60 : Int32) = 256) = False from by decide, show ((60 : Int32) = 257) = False from by decide, show ((60 : Int32) = 258) = False from by decide, show ((60 : Int32) = 261) = False from by decide, if_false, if_true]
  simp (disch := omega) only [pt_lt_, pt_clsome, pt_ck, pt_ckL, pt_cl, pt_clL, pt_cz0, pt_cz1, pt_czi, pt_add, pt_addL, pt_Ladd, pt_mul, pt_mulL, pt_Lmul, pt_sub, pt_subL, pt_Lsub, pt_rem, pt_le, pt_leL, pt_Lle, pt_lt, pt_ltL, pt_Llt, pt_eq, pt_eqL, pt_Leq, pt_m1, pt_lt0, pt_ge0, pt_m1lt0, pt_m1ge0, pt_10, pt_01, pt_00, pt_11, pt_m11, pt_0m1, pt_1m1, pt_ib, pt_ib1, pt_hs, pt_so, pt_ofNat, pt_si, pt_sin, pt_si1, pt_si2, pt_sl, pt_sln, pt_sl0, pt_sl2, pt_sr, pt_srn, pt_sr0, pt_sr1, if_true, if_false, ite_true, ite_false, not_true_eq_false, not_false_eq_true, hl, ht, hx2, lg_cmp_eq, lg_cmp_ge, lg_cmp_gt, lg_cmp_le, lg_cmp_lt, Nat.add_sub_cancel]
  rw [show r2.length + 1 + 1 - 2 = r2.length from by omega, hx2]
  unfold bX6_works_250
  simp (disch := omega) only [pt_lt_, pt_clsome, pt_ck, pt_ckL, pt_cl, pt_clL, pt_cz0, pt_cz1, pt_czi, pt_add, pt_addL, pt_Ladd, pt_mul, pt_mulL, pt_Lmul, pt_sub, pt_subL, pt_Lsub, pt_rem, pt_le, pt_leL, pt_Lle, pt_lt, pt_ltL, pt_Llt, pt_eq, pt_eqL, pt_Leq, pt_m1, pt_lt0, pt_ge0, pt_m1lt0, pt_m1ge0, pt_10, pt_01, pt_00, pt_11, pt_m11, pt_0m1, pt_1m1, pt_ib, pt_ib1, pt_hs, pt_so, pt_ofNat, pt_si, pt_sin, pt_si1, pt_si2, pt_sl, pt_sln, pt_sl0, pt_sl2, pt_sr, pt_srn, pt_sr0, pt_sr1, if_true, if_false, ite_true, ite_false, not_true_eq_false, not_false_eq_true, pm_is]
  by_cases q1 : x < y
  · have q2 : ¬ x = y := fun e => by rw [e] at q1; exact Int64.lt_irrefl q1
    have q3 : ¬ y < x := fun e => Int64.lt_irrefl (Int64.lt_trans q1 e)
    simp [q1, q2, q3, Int64.not_le.mpr q1, Int64.not_lt.mp q3]
  · by_cases q2 : x = y
    · subst q2
      simp [q1]
    · have q3 : y < x := by
        rw [Int64.lt_iff_toInt_lt] at q1 ⊢
        have : ¬ x.toInt = y.toInt := fun e => q2 (Int64.toInt_inj.mp e)
        omega
      simp [q1, q2, q3, Int64.not_le.mpr q3, Int64.not_lt.mp q1]
theorem pm_cmp1 {y x : Int64} {r2 : List Int64} {κ : kp_K} (hw : wst κ (y :: x :: r2)) (h64 : r2.length + 2 ≤ 64) : pX6_works κ (cmpS 1) = bX6_works_407 (s_i κ 66 42 (nI (r2.length + 1))) (evC 1 x y) := by
  obtain ⟨hl, ht, hx2⟩ := wst_cons2 hw
  have hc : cmpS 1 = 256 := by decide +kernel
  rw [hc]
  unfold pX6_works evC
  simp only [show ((256 : Int32) = 260) = False from by decide, show ((256 : Int32) = 42) = False from by decide, show ((256 : Int32) = 43) = False from by decide, show ((256 : Int32) = 45) = False from by decide, show ((256 : Int32) = 47) = False from by decide, show ((256 : Int32) = 60) = False from by decide, show ((256 : Int32) = 61) = False from by decide, show ((256 : Int32) = 62) = False from by decide, show ((256 : Int32) = 257) = False from by decide, show ((256 : Int32) = 258) = False from by decide, show ((256 : Int32) = 261) = False from by decide, if_false, if_true, show ((1 : Int64) = 0) = False from by decide]
  simp (disch := omega) only [pt_lt_, pt_clsome, pt_ck, pt_ckL, pt_cl, pt_clL, pt_cz0, pt_cz1, pt_czi, pt_add, pt_addL, pt_Ladd, pt_mul, pt_mulL, pt_Lmul, pt_sub, pt_subL, pt_Lsub, pt_rem, pt_le, pt_leL, pt_Lle, pt_lt, pt_ltL, pt_Llt, pt_eq, pt_eqL, pt_Leq, pt_m1, pt_lt0, pt_ge0, pt_m1lt0, pt_m1ge0, pt_10, pt_01, pt_00, pt_11, pt_m11, pt_0m1, pt_1m1, pt_ib, pt_ib1, pt_hs, pt_so, pt_ofNat, pt_si, pt_sin, pt_si1, pt_si2, pt_sl, pt_sln, pt_sl0, pt_sl2, pt_sr, pt_srn, pt_sr0, pt_sr1, if_true, if_false, ite_true, ite_false, not_true_eq_false, not_false_eq_true, hl, ht, hx2, lg_cmp_eq, lg_cmp_ge, lg_cmp_gt, lg_cmp_le, lg_cmp_lt, Nat.add_sub_cancel]
  rw [show r2.length + 1 + 1 - 2 = r2.length from by omega, hx2]
  unfold bX6_works_310
  simp (disch := omega) only [pt_lt_, pt_clsome, pt_ck, pt_ckL, pt_cl, pt_clL, pt_cz0, pt_cz1, pt_czi, pt_add, pt_addL, pt_Ladd, pt_mul, pt_mulL, pt_Lmul, pt_sub, pt_subL, pt_Lsub, pt_rem, pt_le, pt_leL, pt_Lle, pt_lt, pt_ltL, pt_Llt, pt_eq, pt_eqL, pt_Leq, pt_m1, pt_lt0, pt_ge0, pt_m1lt0, pt_m1ge0, pt_10, pt_01, pt_00, pt_11, pt_m11, pt_0m1, pt_1m1, pt_ib, pt_ib1, pt_hs, pt_so, pt_ofNat, pt_si, pt_sin, pt_si1, pt_si2, pt_sl, pt_sln, pt_sl0, pt_sl2, pt_sr, pt_srn, pt_sr0, pt_sr1, if_true, if_false, ite_true, ite_false, not_true_eq_false, not_false_eq_true, pm_is]
  by_cases q1 : x < y
  · have q2 : ¬ x = y := fun e => by rw [e] at q1; exact Int64.lt_irrefl q1
    have q3 : ¬ y < x := fun e => Int64.lt_irrefl (Int64.lt_trans q1 e)
    simp [q1, q2, q3, Int64.not_le.mpr q1, Int64.not_lt.mp q3]
  · by_cases q2 : x = y
    · subst q2
      simp [q1]
    · have q3 : y < x := by
        rw [Int64.lt_iff_toInt_lt] at q1 ⊢
        have : ¬ x.toInt = y.toInt := fun e => q2 (Int64.toInt_inj.mp e)
        omega
      simp [q1, q2, q3, Int64.not_le.mpr q3, Int64.not_lt.mp q1]
theorem pm_cmp2 {y x : Int64} {r2 : List Int64} {κ : kp_K} (hw : wst κ (y :: x :: r2)) (h64 : r2.length + 2 ≤ 64) : pX6_works κ (cmpS 2) = bX6_works_407 (s_i κ 66 42 (nI (r2.length + 1))) (evC 2 x y) := by
  obtain ⟨hl, ht, hx2⟩ := wst_cons2 hw
  have hc : cmpS 2 = 61 := by decide +kernel
  rw [hc]
  unfold pX6_works evC
  simp only [show ((61 : Int32) = 260) = False from by decide, show ((61 : Int32) = 42) = False from by decide, show ((61 : Int32) = 43) = False from by decide, show ((61 : Int32) = 45) = False from by decide, show ((61 : Int32) = 47) = False from by decide, show ((61 : Int32) = 60) = False from by decide, show ((61 : Int32) = 62) = False from by decide, show ((61 : Int32) = 256) = False from by decide, show ((61 : Int32) = 257) = False from by decide, show ((61 : Int32) = 258) = False from by decide, show ((61 : Int32) = 261) = False from by decide, if_false, if_true, show ((2 : Int64) = 0) = False from by decide, show ((2 : Int64) = 1) = False from by decide]
  simp (disch := omega) only [pt_lt_, pt_clsome, pt_ck, pt_ckL, pt_cl, pt_clL, pt_cz0, pt_cz1, pt_czi, pt_add, pt_addL, pt_Ladd, pt_mul, pt_mulL, pt_Lmul, pt_sub, pt_subL, pt_Lsub, pt_rem, pt_le, pt_leL, pt_Lle, pt_lt, pt_ltL, pt_Llt, pt_eq, pt_eqL, pt_Leq, pt_m1, pt_lt0, pt_ge0, pt_m1lt0, pt_m1ge0, pt_10, pt_01, pt_00, pt_11, pt_m11, pt_0m1, pt_1m1, pt_ib, pt_ib1, pt_hs, pt_so, pt_ofNat, pt_si, pt_sin, pt_si1, pt_si2, pt_sl, pt_sln, pt_sl0, pt_sl2, pt_sr, pt_srn, pt_sr0, pt_sr1, if_true, if_false, ite_true, ite_false, not_true_eq_false, not_false_eq_true, hl, ht, hx2, lg_cmp_eq, lg_cmp_ge, lg_cmp_gt, lg_cmp_le, lg_cmp_lt, Nat.add_sub_cancel]
  rw [show r2.length + 1 + 1 - 2 = r2.length from by omega, hx2]
  unfold bX6_works_290
  simp (disch := omega) only [pt_lt_, pt_clsome, pt_ck, pt_ckL, pt_cl, pt_clL, pt_cz0, pt_cz1, pt_czi, pt_add, pt_addL, pt_Ladd, pt_mul, pt_mulL, pt_Lmul, pt_sub, pt_subL, pt_Lsub, pt_rem, pt_le, pt_leL, pt_Lle, pt_lt, pt_ltL, pt_Llt, pt_eq, pt_eqL, pt_Leq, pt_m1, pt_lt0, pt_ge0, pt_m1lt0, pt_m1ge0, pt_10, pt_01, pt_00, pt_11, pt_m11, pt_0m1, pt_1m1, pt_ib, pt_ib1, pt_hs, pt_so, pt_ofNat, pt_si, pt_sin, pt_si1, pt_si2, pt_sl, pt_sln, pt_sl0, pt_sl2, pt_sr, pt_srn, pt_sr0, pt_sr1, if_true, if_false, ite_true, ite_false, not_true_eq_false, not_false_eq_true, pm_is]
  by_cases q1 : x < y
  · have q2 : ¬ x = y := fun e => by rw [e] at q1; exact Int64.lt_irrefl q1
    have q3 : ¬ y < x := fun e => Int64.lt_irrefl (Int64.lt_trans q1 e)
    simp [q1, q2, q3, Int64.not_le.mpr q1, Int64.not_lt.mp q3]
  · by_cases q2 : x = y
    · subst q2
      simp [q1]
    · have q3 : y < x := by
        rw [Int64.lt_iff_toInt_lt] at q1 ⊢
        have : ¬ x.toInt = y.toInt := fun e => q2 (Int64.toInt_inj.mp e)
        omega
      simp [q1, q2, q3, Int64.not_le.mpr q3, Int64.not_lt.mp q1]
theorem pm_cmp3 {y x : Int64} {r2 : List Int64} {κ : kp_K} (hw : wst κ (y :: x :: r2)) (h64 : r2.length + 2 ≤ 64) : pX6_works κ (cmpS 3) = bX6_works_407 (s_i κ 66 42 (nI (r2.length + 1))) (evC 3 x y) := by
  obtain ⟨hl, ht, hx2⟩ := wst_cons2 hw
  have hc : cmpS 3 = 257 := by decide +kernel
  rw [hc]
  unfold pX6_works evC
  simp only [show ((257 : Int32) = 260) = False from by decide, show ((257 : Int32) = 42) = False from by decide, show ((257 : Int32) = 43) = False from by decide, show ((257 : Int32) = 45) = False from by decide, show ((257 : Int32) = 47) = False from by decide, show ((257 : Int32) = 60) = False from by decide, show ((257 : Int32) = 61) = False from by decide, show ((257 : Int32) = 62) = False from by decide, show ((257 : Int32) = 256) = False from by decide, show ((257 : Int32) = 258) = False from by decide, show ((257 : Int32) = 261) = False from by decide, if_false, if_true, show ((3 : Int64) = 0) = False from by decide, show ((3 : Int64) = 1) = False from by decide, show ((3 : Int64) = 2) = False from by decide]
  simp (disch := omega) only [pt_lt_, pt_clsome, pt_ck, pt_ckL, pt_cl, pt_clL, pt_cz0, pt_cz1, pt_czi, pt_add, pt_addL, pt_Ladd, pt_mul, pt_mulL, pt_Lmul, pt_sub, pt_subL, pt_Lsub, pt_rem, pt_le, pt_leL, pt_Lle, pt_lt, pt_ltL, pt_Llt, pt_eq, pt_eqL, pt_Leq, pt_m1, pt_lt0, pt_ge0, pt_m1lt0, pt_m1ge0, pt_10, pt_01, pt_00, pt_11, pt_m11, pt_0m1, pt_1m1, pt_ib, pt_ib1, pt_hs, pt_so, pt_ofNat, pt_si, pt_sin, pt_si1, pt_si2, pt_sl, pt_sln, pt_sl0, pt_sl2, pt_sr, pt_srn, pt_sr0, pt_sr1, if_true, if_false, ite_true, ite_false, not_true_eq_false, not_false_eq_true, hl, ht, hx2, lg_cmp_eq, lg_cmp_ge, lg_cmp_gt, lg_cmp_le, lg_cmp_lt, Nat.add_sub_cancel]
  rw [show r2.length + 1 + 1 - 2 = r2.length from by omega, hx2]
  unfold bX6_works_350
  simp (disch := omega) only [pt_lt_, pt_clsome, pt_ck, pt_ckL, pt_cl, pt_clL, pt_cz0, pt_cz1, pt_czi, pt_add, pt_addL, pt_Ladd, pt_mul, pt_mulL, pt_Lmul, pt_sub, pt_subL, pt_Lsub, pt_rem, pt_le, pt_leL, pt_Lle, pt_lt, pt_ltL, pt_Llt, pt_eq, pt_eqL, pt_Leq, pt_m1, pt_lt0, pt_ge0, pt_m1lt0, pt_m1ge0, pt_10, pt_01, pt_00, pt_11, pt_m11, pt_0m1, pt_1m1, pt_ib, pt_ib1, pt_hs, pt_so, pt_ofNat, pt_si, pt_sin, pt_si1, pt_si2, pt_sl, pt_sln, pt_sl0, pt_sl2, pt_sr, pt_srn, pt_sr0, pt_sr1, if_true, if_false, ite_true, ite_false, not_true_eq_false, not_false_eq_true, pm_is]
  by_cases q1 : x < y
  · have q2 : ¬ x = y := fun e => by rw [e] at q1; exact Int64.lt_irrefl q1
    have q3 : ¬ y < x := fun e => Int64.lt_irrefl (Int64.lt_trans q1 e)
    simp [q1, q2, q3, Int64.not_le.mpr q1, Int64.not_lt.mp q3]
  · by_cases q2 : x = y
    · subst q2
      simp [q1]
    · have q3 : y < x := by
        rw [Int64.lt_iff_toInt_lt] at q1 ⊢
        have : ¬ x.toInt = y.toInt := fun e => q2 (Int64.toInt_inj.mp e)
        omega
      simp [q1, q2, q3, Int64.not_le.mpr q3, Int64.not_lt.mp q1]
theorem pm_cmp4 {y x : Int64} {r2 : List Int64} {κ : kp_K} (hw : wst κ (y :: x :: r2)) (h64 : r2.length + 2 ≤ 64) : pX6_works κ (cmpS 4) = bX6_works_407 (s_i κ 66 42 (nI (r2.length + 1))) (evC 4 x y) := by
  obtain ⟨hl, ht, hx2⟩ := wst_cons2 hw
  have hc : cmpS 4 = 258 := by decide +kernel
  rw [hc]
  unfold pX6_works evC
  simp only [show ((258 : Int32) = 260) = False from by decide, show ((258 : Int32) = 42) = False from by decide, show ((258 : Int32) = 43) = False from by decide, show ((258 : Int32) = 45) = False from by decide, show ((258 : Int32) = 47) = False from by decide, show ((258 : Int32) = 60) = False from by decide, show ((258 : Int32) = 61) = False from by decide, show ((258 : Int32) = 62) = False from by decide, show ((258 : Int32) = 256) = False from by decide, show ((258 : Int32) = 257) = False from by decide, show ((258 : Int32) = 261) = False from by decide, if_false, if_true, show ((4 : Int64) = 0) = False from by decide, show ((4 : Int64) = 1) = False from by decide, show ((4 : Int64) = 2) = False from by decide, show ((4 : Int64) = 3) = False from by decide]
  simp (disch := omega) only [pt_lt_, pt_clsome, pt_ck, pt_ckL, pt_cl, pt_clL, pt_cz0, pt_cz1, pt_czi, pt_add, pt_addL, pt_Ladd, pt_mul, pt_mulL, pt_Lmul, pt_sub, pt_subL, pt_Lsub, pt_rem, pt_le, pt_leL, pt_Lle, pt_lt, pt_ltL, pt_Llt, pt_eq, pt_eqL, pt_Leq, pt_m1, pt_lt0, pt_ge0, pt_m1lt0, pt_m1ge0, pt_10, pt_01, pt_00, pt_11, pt_m11, pt_0m1, pt_1m1, pt_ib, pt_ib1, pt_hs, pt_so, pt_ofNat, pt_si, pt_sin, pt_si1, pt_si2, pt_sl, pt_sln, pt_sl0, pt_sl2, pt_sr, pt_srn, pt_sr0, pt_sr1, if_true, if_false, ite_true, ite_false, not_true_eq_false, not_false_eq_true, hl, ht, hx2, lg_cmp_eq, lg_cmp_ge, lg_cmp_gt, lg_cmp_le, lg_cmp_lt, Nat.add_sub_cancel]
  rw [show r2.length + 1 + 1 - 2 = r2.length from by omega, hx2]
  unfold bX6_works_330
  simp (disch := omega) only [pt_lt_, pt_clsome, pt_ck, pt_ckL, pt_cl, pt_clL, pt_cz0, pt_cz1, pt_czi, pt_add, pt_addL, pt_Ladd, pt_mul, pt_mulL, pt_Lmul, pt_sub, pt_subL, pt_Lsub, pt_rem, pt_le, pt_leL, pt_Lle, pt_lt, pt_ltL, pt_Llt, pt_eq, pt_eqL, pt_Leq, pt_m1, pt_lt0, pt_ge0, pt_m1lt0, pt_m1ge0, pt_10, pt_01, pt_00, pt_11, pt_m11, pt_0m1, pt_1m1, pt_ib, pt_ib1, pt_hs, pt_so, pt_ofNat, pt_si, pt_sin, pt_si1, pt_si2, pt_sl, pt_sln, pt_sl0, pt_sl2, pt_sr, pt_srn, pt_sr0, pt_sr1, if_true, if_false, ite_true, ite_false, not_true_eq_false, not_false_eq_true, pm_is]
  by_cases q1 : x < y
  · have q2 : ¬ x = y := fun e => by rw [e] at q1; exact Int64.lt_irrefl q1
    have q3 : ¬ y < x := fun e => Int64.lt_irrefl (Int64.lt_trans q1 e)
    simp [q1, q2, q3, Int64.not_le.mpr q1, Int64.not_lt.mp q3]
  · by_cases q2 : x = y
    · subst q2
      simp [q1]
    · have q3 : y < x := by
        rw [Int64.lt_iff_toInt_lt] at q1 ⊢
        have : ¬ x.toInt = y.toInt := fun e => q2 (Int64.toInt_inj.mp e)
        omega
      simp [q1, q2, q3, Int64.not_le.mpr q3, Int64.not_lt.mp q1]
theorem pm_cmp5 {y x : Int64} {r2 : List Int64} {κ : kp_K} (hw : wst κ (y :: x :: r2)) (h64 : r2.length + 2 ≤ 64) : pX6_works κ (cmpS 5) = bX6_works_407 (s_i κ 66 42 (nI (r2.length + 1))) (evC 5 x y) := by
  obtain ⟨hl, ht, hx2⟩ := wst_cons2 hw
  have hc : cmpS 5 = 62 := by decide +kernel
  rw [hc]
  unfold pX6_works evC
  simp only [show ((62 : Int32) = 260) = False from by decide, show ((62 : Int32) = 42) = False from by decide, show ((62 : Int32) = 43) = False from by decide, show ((62 : Int32) = 45) = False from by decide, show ((62 : Int32) = 47) = False from by decide, show ((62 : Int32) = 60) = False from by decide, show ((62 : Int32) = 61) = False from by decide, show ((62 : Int32) = 256) = False from by decide, show ((62 : Int32) = 257) = False from by decide, show ((62 : Int32) = 258) = False from by decide, show ((62 : Int32) = 261) = False from by decide, if_false, if_true, show ((5 : Int64) = 0) = False from by decide, show ((5 : Int64) = 1) = False from by decide, show ((5 : Int64) = 2) = False from by decide, show ((5 : Int64) = 3) = False from by decide, show ((5 : Int64) = 4) = False from by decide]
  simp (disch := omega) only [pt_lt_, pt_clsome, pt_ck, pt_ckL, pt_cl, pt_clL, pt_cz0, pt_cz1, pt_czi, pt_add, pt_addL, pt_Ladd, pt_mul, pt_mulL, pt_Lmul, pt_sub, pt_subL, pt_Lsub, pt_rem, pt_le, pt_leL, pt_Lle, pt_lt, pt_ltL, pt_Llt, pt_eq, pt_eqL, pt_Leq, pt_m1, pt_lt0, pt_ge0, pt_m1lt0, pt_m1ge0, pt_10, pt_01, pt_00, pt_11, pt_m11, pt_0m1, pt_1m1, pt_ib, pt_ib1, pt_hs, pt_so, pt_ofNat, pt_si, pt_sin, pt_si1, pt_si2, pt_sl, pt_sln, pt_sl0, pt_sl2, pt_sr, pt_srn, pt_sr0, pt_sr1, if_true, if_false, ite_true, ite_false, not_true_eq_false, not_false_eq_true, hl, ht, hx2, lg_cmp_eq, lg_cmp_ge, lg_cmp_gt, lg_cmp_le, lg_cmp_lt, Nat.add_sub_cancel]
  rw [show r2.length + 1 + 1 - 2 = r2.length from by omega, hx2]
  unfold bX6_works_270
  simp (disch := omega) only [pt_lt_, pt_clsome, pt_ck, pt_ckL, pt_cl, pt_clL, pt_cz0, pt_cz1, pt_czi, pt_add, pt_addL, pt_Ladd, pt_mul, pt_mulL, pt_Lmul, pt_sub, pt_subL, pt_Lsub, pt_rem, pt_le, pt_leL, pt_Lle, pt_lt, pt_ltL, pt_Llt, pt_eq, pt_eqL, pt_Leq, pt_m1, pt_lt0, pt_ge0, pt_m1lt0, pt_m1ge0, pt_10, pt_01, pt_00, pt_11, pt_m11, pt_0m1, pt_1m1, pt_ib, pt_ib1, pt_hs, pt_so, pt_ofNat, pt_si, pt_sin, pt_si1, pt_si2, pt_sl, pt_sln, pt_sl0, pt_sl2, pt_sr, pt_srn, pt_sr0, pt_sr1, if_true, if_false, ite_true, ite_false, not_true_eq_false, not_false_eq_true, pm_is]
  by_cases q1 : x < y
  · have q2 : ¬ x = y := fun e => by rw [e] at q1; exact Int64.lt_irrefl q1
    have q3 : ¬ y < x := fun e => Int64.lt_irrefl (Int64.lt_trans q1 e)
    simp [q1, q2, q3, Int64.not_le.mpr q1, Int64.not_lt.mp q3]
  · by_cases q2 : x = y
    · subst q2
      simp [q1]
    · have q3 : y < x := by
        rw [Int64.lt_iff_toInt_lt] at q1 ⊢
        have : ¬ x.toInt = y.toInt := fun e => q2 (Int64.toInt_inj.mp e)
        omega
      simp [q1, q2, q3, Int64.not_le.mpr q3, Int64.not_lt.mp q1]
theorem pm_add {y x : Int64} {r2 : List Int64} {κ : kp_K} (hw : wst κ (y :: x :: r2)) (h64 : r2.length + 2 ≤ 64) : pX6_works κ 43 = bX6_works_407 (s_i κ 66 42 (nI (r2.length + 1))) (x + y) := by
  obtain ⟨hl, ht, hx2⟩ := wst_cons2 hw
  unfold pX6_works
  simp only [show ((43 : Int32) = 260) = False from by decide, show ((43 : Int32) = 42) = False from by decide, show ((43 : Int32) = 45) = False from by decide, show ((43 : Int32) = 47) = False from by decide, show ((43 : Int32) = 60) = False from by decide, show ((43 : Int32) = 61) = False from by decide, show ((43 : Int32) = 62) = False from by decide, show ((43 : Int32) = 256) = False from by decide, show ((43 : Int32) = 257) = False from by decide, show ((43 : Int32) = 258) = False from by decide, show ((43 : Int32) = 261) = False from by decide, if_false, if_true]
  simp (disch := omega) only [pt_lt_, pt_clsome, pt_ck, pt_ckL, pt_cl, pt_clL, pt_cz0, pt_cz1, pt_czi, pt_add, pt_addL, pt_Ladd, pt_mul, pt_mulL, pt_Lmul, pt_sub, pt_subL, pt_Lsub, pt_rem, pt_le, pt_leL, pt_Lle, pt_lt, pt_ltL, pt_Llt, pt_eq, pt_eqL, pt_Leq, pt_m1, pt_lt0, pt_ge0, pt_m1lt0, pt_m1ge0, pt_10, pt_01, pt_00, pt_11, pt_m11, pt_0m1, pt_1m1, pt_ib, pt_ib1, pt_hs, pt_so, pt_ofNat, pt_si, pt_sin, pt_si1, pt_si2, pt_sl, pt_sln, pt_sl0, pt_sl2, pt_sr, pt_srn, pt_sr0, pt_sr1, if_true, if_false, ite_true, ite_false, not_true_eq_false, not_false_eq_true, hl, ht, hx2, lg_cmp_eq, Nat.add_sub_cancel]
  rw [show r2.length + 1 + 1 - 2 = r2.length from by omega, hx2]
theorem pm_subt {y x : Int64} {r2 : List Int64} {κ : kp_K} (hw : wst κ (y :: x :: r2)) (h64 : r2.length + 2 ≤ 64) : pX6_works κ 45 = bX6_works_407 (s_i κ 66 42 (nI (r2.length + 1))) (x - y) := by
  obtain ⟨hl, ht, hx2⟩ := wst_cons2 hw
  unfold pX6_works
  simp only [show ((45 : Int32) = 260) = False from by decide, show ((45 : Int32) = 42) = False from by decide, show ((45 : Int32) = 43) = False from by decide, show ((45 : Int32) = 47) = False from by decide, show ((45 : Int32) = 60) = False from by decide, show ((45 : Int32) = 61) = False from by decide, show ((45 : Int32) = 62) = False from by decide, show ((45 : Int32) = 256) = False from by decide, show ((45 : Int32) = 257) = False from by decide, show ((45 : Int32) = 258) = False from by decide, show ((45 : Int32) = 261) = False from by decide, if_false, if_true]
  simp (disch := omega) only [pt_lt_, pt_clsome, pt_ck, pt_ckL, pt_cl, pt_clL, pt_cz0, pt_cz1, pt_czi, pt_add, pt_addL, pt_Ladd, pt_mul, pt_mulL, pt_Lmul, pt_sub, pt_subL, pt_Lsub, pt_rem, pt_le, pt_leL, pt_Lle, pt_lt, pt_ltL, pt_Llt, pt_eq, pt_eqL, pt_Leq, pt_m1, pt_lt0, pt_ge0, pt_m1lt0, pt_m1ge0, pt_10, pt_01, pt_00, pt_11, pt_m11, pt_0m1, pt_1m1, pt_ib, pt_ib1, pt_hs, pt_so, pt_ofNat, pt_si, pt_sin, pt_si1, pt_si2, pt_sl, pt_sln, pt_sl0, pt_sl2, pt_sr, pt_srn, pt_sr0, pt_sr1, if_true, if_false, ite_true, ite_false, not_true_eq_false, not_false_eq_true, hl, ht, hx2, lg_cmp_eq, Nat.add_sub_cancel]
  rw [show r2.length + 1 + 1 - 2 = r2.length from by omega, hx2]
theorem pm_div {y x : Int64} {r2 : List Int64} {κ : kp_K} (hw : wst κ (y :: x :: r2)) (h64 : r2.length + 2 ≤ 64) : pX6_works κ 47 = if y = 0 then some (0, s_i κ 66 42 (nI (r2.length + 1))) else bX6_works_407 (s_i κ 66 42 (nI (r2.length + 1))) (x / y) := by
  obtain ⟨hl, ht, hx2⟩ := wst_cons2 hw
  unfold pX6_works
  simp only [show ((47 : Int32) = 260) = False from by decide, show ((47 : Int32) = 42) = False from by decide, show ((47 : Int32) = 43) = False from by decide, show ((47 : Int32) = 45) = False from by decide, show ((47 : Int32) = 60) = False from by decide, show ((47 : Int32) = 61) = False from by decide, show ((47 : Int32) = 62) = False from by decide, show ((47 : Int32) = 256) = False from by decide, show ((47 : Int32) = 257) = False from by decide, show ((47 : Int32) = 258) = False from by decide, show ((47 : Int32) = 261) = False from by decide, if_false, if_true]
  simp (disch := omega) only [pt_lt_, pt_clsome, pt_ck, pt_ckL, pt_cl, pt_clL, pt_cz0, pt_cz1, pt_czi, pt_add, pt_addL, pt_Ladd, pt_mul, pt_mulL, pt_Lmul, pt_sub, pt_subL, pt_Lsub, pt_rem, pt_le, pt_leL, pt_Lle, pt_lt, pt_ltL, pt_Llt, pt_eq, pt_eqL, pt_Leq, pt_m1, pt_lt0, pt_ge0, pt_m1lt0, pt_m1ge0, pt_10, pt_01, pt_00, pt_11, pt_m11, pt_0m1, pt_1m1, pt_ib, pt_ib1, pt_hs, pt_so, pt_ofNat, pt_si, pt_sin, pt_si1, pt_si2, pt_sl, pt_sln, pt_sl0, pt_sl2, pt_sr, pt_srn, pt_sr0, pt_sr1, if_true, if_false, ite_true, ite_false, not_true_eq_false, not_false_eq_true, hl, ht, hx2, lg_cmp_eq, Nat.add_sub_cancel]
  rw [show r2.length + 1 + 1 - 2 = r2.length from by omega, hx2]
  by_cases h0 : y = 0
  · rw [if_pos h0, if_pos h0]
  · rw [if_neg h0, if_neg h0, pt_cdl h0]
theorem pm_mult {y x : Int64} {r2 : List Int64} {κ : kp_K} (hx : bd x) (hw : wst κ (y :: x :: r2)) (h64 : r2.length + 2 ≤ 64) : pX6_works κ 42 = if x ≠ 0 ∧ 1000000000000 / iab x < iab y then some (0, s_i κ 66 42 (nI (r2.length + 1))) else bX6_works_407 (s_i κ 66 42 (nI (r2.length + 1))) (x * y) := by
  obtain ⟨hl, ht, hx2⟩ := wst_cons2 hw
  unfold pX6_works
  simp only [show ((42 : Int32) = 260) = False from by decide, show ((42 : Int32) = 43) = False from by decide, show ((42 : Int32) = 45) = False from by decide, show ((42 : Int32) = 47) = False from by decide, show ((42 : Int32) = 60) = False from by decide, show ((42 : Int32) = 61) = False from by decide, show ((42 : Int32) = 62) = False from by decide, show ((42 : Int32) = 256) = False from by decide, show ((42 : Int32) = 257) = False from by decide, show ((42 : Int32) = 258) = False from by decide, show ((42 : Int32) = 261) = False from by decide, if_false, if_true]
  simp (disch := omega) only [pt_lt_, pt_clsome, pt_ck, pt_ckL, pt_cl, pt_clL, pt_cz0, pt_cz1, pt_czi, pt_add, pt_addL, pt_Ladd, pt_mul, pt_mulL, pt_Lmul, pt_sub, pt_subL, pt_Lsub, pt_rem, pt_le, pt_leL, pt_Lle, pt_lt, pt_ltL, pt_Llt, pt_eq, pt_eqL, pt_Leq, pt_m1, pt_lt0, pt_ge0, pt_m1lt0, pt_m1ge0, pt_10, pt_01, pt_00, pt_11, pt_m11, pt_0m1, pt_1m1, pt_ib, pt_ib1, pt_hs, pt_so, pt_ofNat, pt_si, pt_sin, pt_si1, pt_si2, pt_sl, pt_sln, pt_sl0, pt_sl2, pt_sr, pt_srn, pt_sr0, pt_sr1, if_true, if_false, ite_true, ite_false, not_true_eq_false, not_false_eq_true, hl, ht, hx2, lg_cmp_eq, lg_cmp_le, Nat.add_sub_cancel]
  rw [show r2.length + 1 + 1 - 2 = r2.length from by omega, hx2]
  have ex : (if 0 < x then x else -x) = iab x := rfl
  have ey : (if 0 < y then y else -y) = iab y := rfl
  rw [ex, ey]
  unfold bX6_works_212
  by_cases h0 : x = 0
  · rw [if_pos h0, if_neg (fun q => q.1 h0)]
    rfl
  · have hxi : ¬ x.toInt = 0 := fun q => h0 (Int64.toInt_inj.mp (by rw [q, s0]))
    have hne : ¬ iab x = 0 := fun q => by
      unfold bd at hx
      have := congrArg Int64.toInt q
      rw [iab_toInt (by omega), s0] at this
      split at this <;> omega
    rw [if_neg h0, pt_cdl hne]
    by_cases q : 1000000000000 / iab x < iab y
    · rw [if_neg (fun z => Int64.not_lt.mpr z q), if_pos ⟨h0, q⟩]
    · rw [if_pos (Int64.not_lt.mp q), if_neg (fun z => q z.2)]
      rfl
theorem evB_fin {nm : Nat → Int64} {q : Nat × Int64} {y x v : Int64} {r2 : List Int64} {κ : kp_K} {vl : Int32} (hw : wst κ (y :: x :: r2)) (h64 : r2.length + 2 ≤ 64) (hr : ∀ v ∈ r2, bd v) (e1 : ev1 nm q (y :: x :: r2) = match evB v with | some v => some (v :: r2) | none => none) (e2 : pX6_works κ vl = bX6_works_407 (s_i κ 66 42 (nI (r2.length + 1))) v) : wOk nm q (y :: x :: r2) κ vl := by
  cases hz : evB v with
  | some z =>
    obtain ⟨rfl, hv⟩ := evB_bd hz
    rw [hz] at e1
    exact pm_fin hw h64 hr hv e1 e2
  | none =>
    rw [hz] at e1
    have hkk : (s_i κ 66 42 (nI (r2.length + 1))).1 66 42 = nI (r2.length + 1) := pt_si ⟨rfl, rfl⟩
    rw [pm_407 (n := r2.length + 1) (by omega) (by omega) hkk, hz] at e2
    exact Or.inr ⟨_, e1, e2, FW_put⟩
theorem pm_works {nm : Nat → Int64} {κ : kp_K} {q : Nat × Int64} {st : List Int64} {vl : Int32} (hq : kEnc q 2 vl) (hw : wst κ st) (hb : ∀ v ∈ st, bd v) (h64 : st.length ≤ 64) (hh : (q.1 = 2 → 1 ≤ st.length) ∧ (3 ≤ q.1 → 2 ≤ st.length)) : wOk nm q st κ vl := by
  obtain ⟨a, s⟩ := q
  unfold kEnc at hq
  dsimp only at hh hq
  rcases hq with ⟨h1, h2, -⟩ | ⟨h1, h2, -⟩ | ⟨h1, -, h3⟩ | ⟨h1, -, h3⟩ | ⟨h1, -, h3, h4⟩ | ⟨h1, -, h3, h4⟩
  · exact absurd h2 (by decide)
  · exact absurd h2 (by decide)
  · subst h1; subst h3
    cases st with
    | nil => exact absurd (hh.1 rfl) (by simp)
    | cons y r1 => exact pm_not hw hb (by simpa using h64)
  all_goals
    obtain ⟨y, x, r2, rfl⟩ : ∃ y x r2, st = y :: x :: r2 := by
      cases st with
      | nil => exact absurd (hh.2 (by omega)) (by simp)
      | cons y r1 =>
        cases r1 with
        | nil => exact absurd (hh.2 (by omega)) (by simp)
        | cons x r2 => exact ⟨y, x, r2, rfl⟩
    have h64' : r2.length + 2 ≤ 64 := by simpa using h64
    have hy : bd y := hb y (by simp)
    have hx : bd x := hb x (by simp)
    have hr : ∀ v ∈ r2, bd v := fun v hv => hb v (by simp [hv])
    subst h1
  · rcases h3 with ⟨h3, h4⟩ | ⟨h3, h4⟩ <;> subst h3 <;> subst h4
    · exact pm_fin hw h64' hr evD_bd rfl (pm_and hw h64')
    · exact pm_fin hw h64' hr evD_bd rfl (pm_or hw h64')
  · rcases h3 with h3 | h3 | h3 | h3 | h3 | h3 <;> subst h3 <;> subst h4
    · exact pm_fin hw h64' hr evC_bd rfl (pm_cmp0 hw h64')
    · exact pm_fin hw h64' hr evC_bd rfl (pm_cmp1 hw h64')
    · exact pm_fin hw h64' hr evC_bd rfl (pm_cmp2 hw h64')
    · exact pm_fin hw h64' hr evC_bd rfl (pm_cmp3 hw h64')
    · exact pm_fin hw h64' hr evC_bd rfl (pm_cmp4 hw h64')
    · exact pm_fin hw h64' hr evC_bd rfl (pm_cmp5 hw h64')
  · subst h4
    have ez : vl.toInt64.toInt32 = vl := Int32.toInt32_toInt64 vl
    rcases h3 with h3 | h3 | h3 | h3 <;> subst h3
    · exact evB_fin hw h64' hr (by simp only [ev1, ez]; rfl) (pm_add hw h64')
    · exact evB_fin hw h64' hr (by simp only [ev1, ez]; rfl) (pm_subt hw h64')
    · have e := pm_mult hx hw h64'
      have e1 : ev1 nm (5, (42 : Int32).toInt64) (y :: x :: r2) = match evA 42 x y with | some v => some (v :: r2) | none => none := by simp only [ev1, ez]; rfl
      by_cases q : x ≠ 0 ∧ 1000000000000 / iab x < iab y
      · rw [if_pos q] at e
        refine Or.inr ⟨_, ?_, e, Fr.si (Or.inl ⟨rfl, rfl⟩)⟩
        rw [e1]
        unfold evA
        rw [if_pos rfl, if_pos q]
      · rw [if_neg q] at e
        refine pm_fin hw h64' hr (mul_bd hx hy q) ?_ e
        rw [e1]
        unfold evA
        rw [if_pos rfl, if_neg q]
    · have e := pm_div hw h64'
      have e1 : ev1 nm (5, (47 : Int32).toInt64) (y :: x :: r2) = match evA 47 x y with | some v => some (v :: r2) | none => none := by simp only [ev1, ez]; rfl
      have e2 : evA 47 x y = if y = 0 then none else some (x / y) := rfl
      by_cases q : y = 0
      · rw [if_pos q] at e
        refine Or.inr ⟨_, ?_, e, Fr.si (Or.inl ⟨rfl, rfl⟩)⟩
        rw [e1, e2, if_pos q]
      · rw [if_neg q] at e
        refine pm_fin hw h64' hr (div_bd hx q) ?_ e
        rw [e1, e2, if_neg q]
/-- the reference's walk over a sum's knots -/
theorem pm_goes0 {F : Nat} {nm : Nat → Int64} (hnb : ∀ k, k < 6 → bd (nm k)) {l0 : List (Nat × Int64)} {a b s : Nat} (hb : b ≤ 64) (hlen : l0.length = b - a) (hab : a ≤ b) (hs : s < 12) : ∀ n k, k + n = b - a → ∀ f, n < f → ∀ (κ : kp_K) (st : List Int64) (r : Nat), κ.1 86 s = nI b → (∀ i, i < b - a → kEnc (l0.getD i (0, 0)) (κ.1 87 (a + i)) (κ.1 88 (a + i))) → (∀ k, k < 6 → κ.2.1 89 k = nm k) → wst κ st → (∀ v ∈ st, bd v) → st.length ≤ k → hgt (l0.drop k) st.length = some r →
    (∃ st' κ', evl nm (l0.drop k) st = some st' ∧ bX6_goes0_12 F f κ (nI s) (nI (a + k)) = some (1, κ') ∧ wst κ' st' ∧ st'.length = r ∧ Fr FW κ κ') ∨
    (∃ κ', evl nm (l0.drop k) st = none ∧ bX6_goes0_12 F f κ (nI s) (nI (a + k)) = some (0, κ') ∧ Fr FW κ κ') := by
  intro n
  induction n with
  | zero =>
    intro k hk f hf κ st r h86 henc hn hw hst hle hg
    obtain ⟨f, rfl⟩ : ∃ f', f = f' + 1 := ⟨f - 1, by omega⟩
    rw [List.drop_of_length_le (by omega)] at hg ⊢
    refine Or.inl ⟨st, κ, rfl, ?_, hw, Option.some.inj hg, Fr.rf⟩
    rw [bX6_goes0_12]
    simp (disch := omega) only [pt_lt_, pt_clsome, pt_ck, pt_ckL, pt_cl, pt_clL, pt_cz0, pt_cz1, pt_czi, pt_add, pt_addL, pt_Ladd, pt_mul, pt_mulL, pt_Lmul, pt_sub, pt_subL, pt_Lsub, pt_rem, pt_le, pt_leL, pt_Lle, pt_lt, pt_ltL, pt_Llt, pt_eq, pt_eqL, pt_Leq, pt_m1, pt_lt0, pt_ge0, pt_m1lt0, pt_m1ge0, pt_10, pt_01, pt_00, pt_11, pt_m11, pt_0m1, pt_1m1, pt_ib, pt_ib1, pt_hs, pt_so, pt_ofNat, pt_si, pt_sin, pt_si1, pt_si2, pt_sl, pt_sln, pt_sl0, pt_sl2, pt_sr, pt_srn, pt_sr0, pt_sr1, if_true, if_false, ite_true, ite_false, not_true_eq_false, not_false_eq_true, if_pos, if_neg, h86]
  | succ n ih =>
    intro k hk f hf κ st r h86 henc hn hw hst hle hg
    obtain ⟨f, rfl⟩ : ∃ f', f = f' + 1 := ⟨f - 1, by omega⟩
    have hkl : k < l0.length := by omega
    have hd : l0.drop k = l0.getD k (0, 0) :: l0.drop (k + 1) := by
      rw [List.drop_eq_getElem_cons hkl, List.getD_eq_getElem?_getD, List.getElem?_eq_getElem hkl]
      rfl
    have hq := henc k (by omega)
    rw [hd] at hg ⊢
    generalize hqq : l0.getD k (0, 0) = q at hq hg ⊢
    obtain ⟨g1, g2, g3⟩ := hgt_cons hg
    have h86' : κ.1 86 s = nI b := h86
    rw [bX6_goes0_12]
    -- the places
    have keep : ∀ κ' : kp_K, Fr FW κ κ' → κ'.1 86 s = nI b ∧ (∀ i, i < b - a → kEnc (l0.getD i (0, 0)) (κ'.1 87 (a + i)) (κ'.1 88 (a + i))) ∧ (∀ k, k < 6 → κ'.2.1 89 k = nm k) := fun κ' hf => ⟨by rw [(hf.1 86 s (by unfold FW; omega)).1]; exact h86, fun i hi => by rw [(hf.1 87 (a + i) (by unfold FW; omega)).1, (hf.1 88 (a + i) (by unfold FW; omega)).1]; exact henc i hi, fun k hk => by rw [(hf.1 89 k (by unfold FW; omega)).2]; exact hn k hk⟩
    by_cases h2 : κ.1 87 (a + k) = 2
    · rw [h2] at hq
      simp (disch := omega) only [pt_lt_, pt_clsome, pt_ck, pt_ckL, pt_cl, pt_clL, pt_cz0, pt_cz1, pt_czi, pt_add, pt_addL, pt_Ladd, pt_mul, pt_mulL, pt_Lmul, pt_sub, pt_subL, pt_Lsub, pt_rem, pt_le, pt_leL, pt_Lle, pt_lt, pt_ltL, pt_Llt, pt_eq, pt_eqL, pt_Leq, pt_m1, pt_lt0, pt_ge0, pt_m1lt0, pt_m1ge0, pt_10, pt_01, pt_00, pt_11, pt_m11, pt_0m1, pt_1m1, pt_ib, pt_ib1, pt_hs, pt_so, pt_ofNat, pt_si, pt_sin, pt_si1, pt_si2, pt_sl, pt_sln, pt_sl0, pt_sl2, pt_sr, pt_srn, pt_sr0, pt_sr1, if_true, if_false, ite_true, ite_false, not_true_eq_false, not_false_eq_true, if_pos, if_neg, h86, h2]
      rcases pm_works (nm := nm) hq hw hst (by omega) ⟨g1, g2⟩ with ⟨st1, κ1, e1, e2, e3, e4, e5, e6⟩ | ⟨κ1, e1, e2, e4⟩
      · rw [e2]
        simp (disch := omega) only [pt_lt_, pt_clsome, pt_ck, pt_ckL, pt_cl, pt_clL, pt_cz0, pt_cz1, pt_czi, pt_add, pt_addL, pt_Ladd, pt_mul, pt_mulL, pt_Lmul, pt_sub, pt_subL, pt_Lsub, pt_rem, pt_le, pt_leL, pt_Lle, pt_lt, pt_ltL, pt_Llt, pt_eq, pt_eqL, pt_Leq, pt_m1, pt_lt0, pt_ge0, pt_m1lt0, pt_m1ge0, pt_10, pt_01, pt_00, pt_11, pt_m11, pt_0m1, pt_1m1, pt_ib, pt_ib1, pt_hs, pt_so, pt_ofNat, pt_si, pt_sin, pt_si1, pt_si2, pt_sl, pt_sln, pt_sl0, pt_sl2, pt_sr, pt_srn, pt_sr0, pt_sr1, if_true, if_false, ite_true, ite_false, not_true_eq_false, not_false_eq_true, if_pos, if_neg]
        obtain ⟨k1, k2, k3⟩ := keep κ1 e4
        have hh1 : hgt [q] st.length = some st1.length := by
          have := ev1_len (nm := nm) e1
          exact this
        rw [Nat.add_assoc]
        rcases ih (k + 1) (by omega) f (by omega) κ1 st1 r k1 k2 k3 e3 e5 (by omega) (g3 _ hh1) with ⟨st2, κ2, f1, f2, f3, f4, f5⟩ | ⟨κ2, f1, f2, f3⟩
        · exact Or.inl ⟨st2, κ2, by simp [evl, e1, f1], f2, f3, f4, e4.tr f5⟩
        · exact Or.inr ⟨κ2, by simp [evl, e1, f1], f2, e4.tr f3⟩
      · rw [e2]
        simp (disch := omega) only [pt_lt_, pt_clsome, pt_ck, pt_ckL, pt_cl, pt_clL, pt_cz0, pt_cz1, pt_czi, pt_add, pt_addL, pt_Ladd, pt_mul, pt_mulL, pt_Lmul, pt_sub, pt_subL, pt_Lsub, pt_rem, pt_le, pt_leL, pt_Lle, pt_lt, pt_ltL, pt_Llt, pt_eq, pt_eqL, pt_Leq, pt_m1, pt_lt0, pt_ge0, pt_m1lt0, pt_m1ge0, pt_10, pt_01, pt_00, pt_11, pt_m11, pt_0m1, pt_1m1, pt_ib, pt_ib1, pt_hs, pt_so, pt_ofNat, pt_si, pt_sin, pt_si1, pt_si2, pt_sl, pt_sln, pt_sl0, pt_sl2, pt_sr, pt_srn, pt_sr0, pt_sr1, if_true, if_false, ite_true, ite_false, not_true_eq_false, not_false_eq_true, if_pos, if_neg]
        exact Or.inr ⟨κ1, by simp [evl, e1], rfl, e4⟩
    · have push : ∀ v : Int64, bd v → ev1 nm q st = some (v :: st) → bX6_goes0_12 F (f + 1) κ (nI s) (nI (a + k)) = bX6_goes0_12 F f (s_i (s_l κ 90 st.length v) 66 42 (nI (st.length + 1))) (nI s) (nI (a + k + 1)) → (∃ st' κ', evl nm (q :: l0.drop (k + 1)) st = some st' ∧ bX6_goes0_12 F (f + 1) κ (nI s) (nI (a + k)) = some (1, κ') ∧ wst κ' st' ∧ st'.length = r ∧ Fr FW κ κ') ∨ (∃ κ', evl nm (q :: l0.drop (k + 1)) st = none ∧ bX6_goes0_12 F (f + 1) κ (nI s) (nI (a + k)) = some (0, κ') ∧ Fr FW κ κ') := by
        intro v hv e1 e2
        rw [e2]
        have e4 : Fr FW κ (s_i (s_l κ 90 st.length v) 66 42 (nI (st.length + 1))) := (Fr.sl (Or.inr rfl)).tr (Fr.si (Or.inl ⟨rfl, rfl⟩))
        obtain ⟨k1, k2, k3⟩ := keep _ e4
        have hw1 : wst (s_i (s_l κ 90 st.length v) 66 42 (nI (st.length + 1))) (v :: st) := by
          refine ⟨by simp (disch := omega) only [pt_lt_, pt_clsome, pt_ck, pt_ckL, pt_cl, pt_clL, pt_cz0, pt_cz1, pt_czi, pt_add, pt_addL, pt_Ladd, pt_mul, pt_mulL, pt_Lmul, pt_sub, pt_subL, pt_Lsub, pt_rem, pt_le, pt_leL, pt_Lle, pt_lt, pt_ltL, pt_Llt, pt_eq, pt_eqL, pt_Leq, pt_m1, pt_lt0, pt_ge0, pt_m1lt0, pt_m1ge0, pt_10, pt_01, pt_00, pt_11, pt_m11, pt_0m1, pt_1m1, pt_ib, pt_ib1, pt_hs, pt_so, pt_ofNat, pt_si, pt_sin, pt_si1, pt_si2, pt_sl, pt_sln, pt_sl0, pt_sl2, pt_sr, pt_srn, pt_sr0, pt_sr1, if_true, if_false, ite_true, ite_false, not_true_eq_false, not_false_eq_true, if_pos, if_neg]; rfl, fun i hi => ?_⟩
          cases i with
          | zero =>
            simp (disch := omega) only [pt_lt_, pt_clsome, pt_ck, pt_ckL, pt_cl, pt_clL, pt_cz0, pt_cz1, pt_czi, pt_add, pt_addL, pt_Ladd, pt_mul, pt_mulL, pt_Lmul, pt_sub, pt_subL, pt_Lsub, pt_rem, pt_le, pt_leL, pt_Lle, pt_lt, pt_ltL, pt_Llt, pt_eq, pt_eqL, pt_Leq, pt_m1, pt_lt0, pt_ge0, pt_m1lt0, pt_m1ge0, pt_10, pt_01, pt_00, pt_11, pt_m11, pt_0m1, pt_1m1, pt_ib, pt_ib1, pt_hs, pt_so, pt_ofNat, pt_si, pt_sin, pt_si1, pt_si2, pt_sl, pt_sln, pt_sl0, pt_sl2, pt_sr, pt_srn, pt_sr0, pt_sr1, if_true, if_false, ite_true, ite_false, not_true_eq_false, not_false_eq_true, if_pos, if_neg, List.length_cons]
            simp
          | succ i =>
            have hi2 : i < st.length := by simpa using hi
            have h3 := hw.2 i hi2
            simp only [List.length_cons] at h3 ⊢
            simp (disch := omega) only [pt_lt_, pt_clsome, pt_ck, pt_ckL, pt_cl, pt_clL, pt_cz0, pt_cz1, pt_czi, pt_add, pt_addL, pt_Ladd, pt_mul, pt_mulL, pt_Lmul, pt_sub, pt_subL, pt_Lsub, pt_rem, pt_le, pt_leL, pt_Lle, pt_lt, pt_ltL, pt_Llt, pt_eq, pt_eqL, pt_Leq, pt_m1, pt_lt0, pt_ge0, pt_m1lt0, pt_m1ge0, pt_10, pt_01, pt_00, pt_11, pt_m11, pt_0m1, pt_1m1, pt_ib, pt_ib1, pt_hs, pt_so, pt_ofNat, pt_si, pt_sin, pt_si1, pt_si2, pt_sl, pt_sln, pt_sl0, pt_sl2, pt_sr, pt_srn, pt_sr0, pt_sr1, if_true, if_false, ite_true, ite_false, not_true_eq_false, not_false_eq_true, if_pos, if_neg]
            rw [show st.length + 1 - 1 - (i + 1) = st.length - 1 - i from by omega, h3]
            simp
        have hh1 := ev1_len (nm := nm) e1
        rcases ih (k + 1) (by omega) f (by omega) _ (v :: st) r k1 k2 k3 hw1 (all_cons hv hst) (by simp; omega) (g3 _ hh1) with ⟨st2, κ2, f1, f2, f3, f4, f5⟩ | ⟨κ2, f1, f2, f3⟩
        · exact Or.inl ⟨st2, κ2, by simp [evl, e1, f1], f2, f3, f4, e4.tr f5⟩
        · exact Or.inr ⟨κ2, by simp [evl, e1, f1], f2, e4.tr f3⟩
      rw [← bX6_goes0_12]
      have hlen2 := hw.1
      unfold kEnc at hq
      obtain ⟨qa, qs⟩ := q
      dsimp only at hq
      rcases hq with ⟨h1, h3, h4, h5, h6⟩ | ⟨h1, h3, i, h4, h5, h6⟩ | ⟨-, h3, -⟩ | ⟨-, h3, -⟩ | ⟨-, h3, -⟩ | ⟨-, h3, -⟩
      · subst h1
        refine push qs ?_ rfl ?_
        · rw [h4]
          have hwf := kEnc.wf (q := (0, qs)) (a := 0) (v := κ.1 88 (a + k)) (Or.inl ⟨rfl, rfl, h4, h5, h6⟩)
          rcases hwf with ⟨-, z⟩ | ⟨z, -⟩ | z | ⟨z, -⟩ | ⟨z, -⟩ | ⟨z, -⟩
          · rw [← h4]; exact z
          all_goals exact absurd (show (0 : Nat) = _ from z) (by decide)
        · rw [bX6_goes0_12, bX6_goes0_85]
          simp (disch := omega) only [pt_lt_, pt_clsome, pt_ck, pt_ckL, pt_cl, pt_clL, pt_cz0, pt_cz1, pt_czi, pt_add, pt_addL, pt_Ladd, pt_mul, pt_mulL, pt_Lmul, pt_sub, pt_subL, pt_Lsub, pt_rem, pt_le, pt_leL, pt_Lle, pt_lt, pt_ltL, pt_Llt, pt_eq, pt_eqL, pt_Leq, pt_m1, pt_lt0, pt_ge0, pt_m1lt0, pt_m1ge0, pt_10, pt_01, pt_00, pt_11, pt_m11, pt_0m1, pt_1m1, pt_ib, pt_ib1, pt_hs, pt_so, pt_ofNat, pt_si, pt_sin, pt_si1, pt_si2, pt_sl, pt_sln, pt_sl0, pt_sl2, pt_sr, pt_srn, pt_sr0, pt_sr1, if_true, if_false, ite_true, ite_false, not_true_eq_false, not_false_eq_true, if_pos, if_neg, h86, h3, hlen2]
          rw [if_neg (by decide : ¬ (0 : Int32) = 2), h4]
      · subst h1
        subst h5
        refine push (nm i) (hnb i h4) ?_ ?_
        · simp [ev1, k_name2 h4]
        · rw [bX6_goes0_12, bX6_goes0_85]
          simp (disch := omega) only [pt_lt_, pt_clsome, pt_ck, pt_ckL, pt_cl, pt_clL, pt_cz0, pt_cz1, pt_czi, pt_add, pt_addL, pt_Ladd, pt_mul, pt_mulL, pt_Lmul, pt_sub, pt_subL, pt_Lsub, pt_rem, pt_le, pt_leL, pt_Lle, pt_lt, pt_ltL, pt_Llt, pt_eq, pt_eqL, pt_Leq, pt_m1, pt_lt0, pt_ge0, pt_m1lt0, pt_m1ge0, pt_10, pt_01, pt_00, pt_11, pt_m11, pt_0m1, pt_1m1, pt_ib, pt_ib1, pt_hs, pt_so, pt_ofNat, pt_si, pt_sin, pt_si1, pt_si2, pt_sl, pt_sln, pt_sl0, pt_sl2, pt_sr, pt_srn, pt_sr0, pt_sr1, if_true, if_false, ite_true, ite_false, not_true_eq_false, not_false_eq_true, if_pos, if_neg, h86, h3, h6, hlen2]
          rw [if_neg (by decide : ¬ (1 : Int32) = 2), hn i h4, bX6_goes0_85]
          simp (disch := omega) only [pt_lt_, pt_clsome, pt_ck, pt_ckL, pt_cl, pt_clL, pt_cz0, pt_cz1, pt_czi, pt_add, pt_addL, pt_Ladd, pt_mul, pt_mulL, pt_Lmul, pt_sub, pt_subL, pt_Lsub, pt_rem, pt_le, pt_leL, pt_Lle, pt_lt, pt_ltL, pt_Llt, pt_eq, pt_eqL, pt_Leq, pt_m1, pt_lt0, pt_ge0, pt_m1lt0, pt_m1ge0, pt_10, pt_01, pt_00, pt_11, pt_m11, pt_0m1, pt_1m1, pt_ib, pt_ib1, pt_hs, pt_so, pt_ofNat, pt_si, pt_sin, pt_si1, pt_si2, pt_sl, pt_sln, pt_sl0, pt_sl2, pt_sr, pt_srn, pt_sr0, pt_sr1, if_true, if_false, ite_true, ite_false, not_true_eq_false, not_false_eq_true, if_pos, if_neg, hlen2]
      all_goals exact absurd h3 h2
