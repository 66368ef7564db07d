/-! PURE LAYER: the image: keep and back -/
set_option maxRecDepth 100000
theorem cp_26 {F ra rb : Nat} (ha : ra < 3) (hb : rb < 3) (hne : ¬ ra = rb) : ∀ m i, i + m = 4 → ∀ f, m < f → ∀ κ : kp_K, ∃ κ', bX6_copies_26 F f κ (nI ra) (nI rb) (nI i) = bX6_copies_99 F F κ' (nI ra) (nI rb) 0 ∧ (∀ e, i ≤ e → e < 4 → κ'.1 92 (4 * ra + e) = κ.1 92 (4 * rb + e) ∧ κ'.1 96 (4 * ra + e) = κ.1 96 (4 * rb + e) ∧ κ'.1 97 (4 * ra + e) = κ.1 97 (4 * rb + e)) ∧ Fr (fun j k => (j = 92 ∨ j = 96 ∨ j = 97) ∧ 4 * ra + i ≤ k ∧ k < 4 * ra + 4) κ κ' := by
  intro m
  induction m with
  | zero =>
    intro i hi f hf κ
    obtain ⟨f, rfl⟩ : ∃ f', f = f' + 1 := ⟨f - 1, by omega⟩
    rw [bX6_copies_26]
    simp (disch := omega) only [pt_lt_, pt_clsome, pt_ck, pt_ckL, pt_cl, pt_clL, pt_cz0, pt_cz1, pt_czi, pt_add, pt_addL, pt_Ladd, pt_mul, pt_mulL, pt_Lmul, pt_sub, pt_subL, pt_Lsub, pt_rem, pt_le, pt_leL, pt_Lle, pt_lt, pt_ltL, pt_Llt, pt_eq, pt_eqL, pt_Leq, pt_m1, pt_lt0, pt_ge0, pt_m1lt0, pt_m1ge0, pt_10, pt_01, pt_00, pt_11, pt_m11, pt_0m1, pt_1m1, pt_ib, pt_ib1, pt_hs, pt_so, pt_ofNat, pt_si, pt_sin, pt_si1, pt_si2, pt_sl, pt_sln, pt_sl0, pt_sl2, pt_sr, pt_srn, pt_sr0, pt_sr1, if_true, if_false, ite_true, ite_false, not_true_eq_false, not_false_eq_true, if_pos, if_neg]
    exact ⟨κ, rfl, fun e h1 h2 => by omega, Fr.rf⟩
  | succ m ih =>
    intro i hi f hf κ
    obtain ⟨f, rfl⟩ : ∃ f', f = f' + 1 := ⟨f - 1, by omega⟩
    rw [bX6_copies_26]
    simp (disch := omega) only [pt_lt_, pt_clsome, pt_ck, pt_ckL, pt_cl, pt_clL, pt_cz0, pt_cz1, pt_czi, pt_add, pt_addL, pt_Ladd, pt_mul, pt_mulL, pt_Lmul, pt_sub, pt_subL, pt_Lsub, pt_rem, pt_le, pt_leL, pt_Lle, pt_lt, pt_ltL, pt_Llt, pt_eq, pt_eqL, pt_Leq, pt_m1, pt_lt0, pt_ge0, pt_m1lt0, pt_m1ge0, pt_10, pt_01, pt_00, pt_11, pt_m11, pt_0m1, pt_1m1, pt_ib, pt_ib1, pt_hs, pt_so, pt_ofNat, pt_si, pt_sin, pt_si1, pt_si2, pt_sl, pt_sln, pt_sl0, pt_sl2, pt_sr, pt_srn, pt_sr0, pt_sr1, if_true, if_false, ite_true, ite_false, not_true_eq_false, not_false_eq_true, if_pos, if_neg]
    obtain ⟨κ', e1, e2, e3⟩ := ih (i + 1) (by omega) f (by omega) (s_i (s_i (s_i κ 92 (4 * ra + i) (κ.1 92 (4 * rb + i))) 96 (4 * ra + i) (κ.1 96 (4 * rb + i))) 97 (4 * ra + i) (κ.1 97 (4 * rb + i)))
    refine ⟨κ', e1, fun e h1 h2 => ?_, Fr.tr (κ1 := (s_i (s_i (s_i κ 92 (4 * ra + i) (κ.1 92 (4 * rb + i))) 96 (4 * ra + i) (κ.1 96 (4 * rb + i))) 97 (4 * ra + i) (κ.1 97 (4 * rb + i)))) ?_ (e3.mono (fun j k q => by omega))⟩
    · by_cases h : e = i
      · subst h
        rw [(e3.1 92 _ (by omega)).1, (e3.1 96 _ (by omega)).1, (e3.1 97 _ (by omega)).1]
        simp (disch := omega) only [pt_lt_, pt_clsome, pt_ck, pt_ckL, pt_cl, pt_clL, pt_cz0, pt_cz1, pt_czi, pt_add, pt_addL, pt_Ladd, pt_mul, pt_mulL, pt_Lmul, pt_sub, pt_subL, pt_Lsub, pt_rem, pt_le, pt_leL, pt_Lle, pt_lt, pt_ltL, pt_Llt, pt_eq, pt_eqL, pt_Leq, pt_m1, pt_lt0, pt_ge0, pt_m1lt0, pt_m1ge0, pt_10, pt_01, pt_00, pt_11, pt_m11, pt_0m1, pt_1m1, pt_ib, pt_ib1, pt_hs, pt_so, pt_ofNat, pt_si, pt_sin, pt_si1, pt_si2, pt_sl, pt_sln, pt_sl0, pt_sl2, pt_sr, pt_srn, pt_sr0, pt_sr1, if_true, if_false, ite_true, ite_false, not_true_eq_false, not_false_eq_true, if_pos, if_neg]
        exact ⟨trivial, trivial, trivial⟩
      · obtain ⟨a1, a2, a3⟩ := e2 e (by omega) h2
        rw [a1, a2, a3]
        simp (disch := omega) only [pt_lt_, pt_clsome, pt_ck, pt_ckL, pt_cl, pt_clL, pt_cz0, pt_cz1, pt_czi, pt_add, pt_addL, pt_Ladd, pt_mul, pt_mulL, pt_Lmul, pt_sub, pt_subL, pt_Lsub, pt_rem, pt_le, pt_leL, pt_Lle, pt_lt, pt_ltL, pt_Llt, pt_eq, pt_eqL, pt_Leq, pt_m1, pt_lt0, pt_ge0, pt_m1lt0, pt_m1ge0, pt_10, pt_01, pt_00, pt_11, pt_m11, pt_0m1, pt_1m1, pt_ib, pt_ib1, pt_hs, pt_so, pt_ofNat, pt_si, pt_sin, pt_si1, pt_si2, pt_sl, pt_sln, pt_sl0, pt_sl2, pt_sr, pt_srn, pt_sr0, pt_sr1, if_true, if_false, ite_true, ite_false, not_true_eq_false, not_false_eq_true, if_pos, if_neg]
        exact ⟨trivial, trivial, trivial⟩
    · exact ((Fr.si (by omega)).tr (Fr.si (by omega))).tr (Fr.si (by omega))
theorem cp_99 {F ra rb : Nat} (ha : ra < 3) (hb : rb < 3) (hne : ¬ ra = rb) : ∀ m i, i + m = 28 → ∀ f, m < f → ∀ κ : kp_K, ∃ κ', bX6_copies_99 F f κ (nI ra) (nI rb) (nI i) = bX6_copies_179 F F κ' (nI ra) (nI rb) 0 ∧ (∀ e, i ≤ e → e < 28 → κ'.1 93 (28 * ra + e) = κ.1 93 (28 * rb + e) ∧ κ'.1 94 (28 * ra + e) = κ.1 94 (28 * rb + e) ∧ κ'.1 95 (28 * ra + e) = κ.1 95 (28 * rb + e)) ∧ Fr (fun j k => (j = 93 ∨ j = 94 ∨ j = 95) ∧ 28 * ra + i ≤ k ∧ k < 28 * ra + 28) κ κ' := by
  intro m
  induction m with
  | zero =>
    intro i hi f hf κ
    obtain ⟨f, rfl⟩ : ∃ f', f = f' + 1 := ⟨f - 1, by omega⟩
    rw [bX6_copies_99]
    simp (disch := omega) only [pt_lt_, pt_clsome, pt_ck, pt_ckL, pt_cl, pt_clL, pt_cz0, pt_cz1, pt_czi, pt_add, pt_addL, pt_Ladd, pt_mul, pt_mulL, pt_Lmul, pt_sub, pt_subL, pt_Lsub, pt_rem, pt_le, pt_leL, pt_Lle, pt_lt, pt_ltL, pt_Llt, pt_eq, pt_eqL, pt_Leq, pt_m1, pt_lt0, pt_ge0, pt_m1lt0, pt_m1ge0, pt_10, pt_01, pt_00, pt_11, pt_m11, pt_0m1, pt_1m1, pt_ib, pt_ib1, pt_hs, pt_so, pt_ofNat, pt_si, pt_sin, pt_si1, pt_si2, pt_sl, pt_sln, pt_sl0, pt_sl2, pt_sr, pt_srn, pt_sr0, pt_sr1, if_true, if_false, ite_true, ite_false, not_true_eq_false, not_false_eq_true, if_pos, if_neg]
    exact ⟨κ, rfl, fun e h1 h2 => by omega, Fr.rf⟩
  | succ m ih =>
    intro i hi f hf κ
    obtain ⟨f, rfl⟩ : ∃ f', f = f' + 1 := ⟨f - 1, by omega⟩
    rw [bX6_copies_99]
    simp (disch := omega) only [pt_lt_, pt_clsome, pt_ck, pt_ckL, pt_cl, pt_clL, pt_cz0, pt_cz1, pt_czi, pt_add, pt_addL, pt_Ladd, pt_mul, pt_mulL, pt_Lmul, pt_sub, pt_subL, pt_Lsub, pt_rem, pt_le, pt_leL, pt_Lle, pt_lt, pt_ltL, pt_Llt, pt_eq, pt_eqL, pt_Leq, pt_m1, pt_lt0, pt_ge0, pt_m1lt0, pt_m1ge0, pt_10, pt_01, pt_00, pt_11, pt_m11, pt_0m1, pt_1m1, pt_ib, pt_ib1, pt_hs, pt_so, pt_ofNat, pt_si, pt_sin, pt_si1, pt_si2, pt_sl, pt_sln, pt_sl0, pt_sl2, pt_sr, pt_srn, pt_sr0, pt_sr1, if_true, if_false, ite_true, ite_false, not_true_eq_false, not_false_eq_true, if_pos, if_neg]
    obtain ⟨κ', e1, e2, e3⟩ := ih (i + 1) (by omega) f (by omega) (s_i (s_i (s_i κ 93 (28 * ra + i) (κ.1 93 (28 * rb + i))) 94 (28 * ra + i) (κ.1 94 (28 * rb + i))) 95 (28 * ra + i) (κ.1 95 (28 * rb + i)))
    refine ⟨κ', e1, fun e h1 h2 => ?_, Fr.tr (κ1 := (s_i (s_i (s_i κ 93 (28 * ra + i) (κ.1 93 (28 * rb + i))) 94 (28 * ra + i) (κ.1 94 (28 * rb + i))) 95 (28 * ra + i) (κ.1 95 (28 * rb + i)))) ?_ (e3.mono (fun j k q => by omega))⟩
    · by_cases h : e = i
      · subst h
        rw [(e3.1 93 _ (by omega)).1, (e3.1 94 _ (by omega)).1, (e3.1 95 _ (by omega)).1]
        simp (disch := omega) only [pt_lt_, pt_clsome, pt_ck, pt_ckL, pt_cl, pt_clL, pt_cz0, pt_cz1, pt_czi, pt_add, pt_addL, pt_Ladd, pt_mul, pt_mulL, pt_Lmul, pt_sub, pt_subL, pt_Lsub, pt_rem, pt_le, pt_leL, pt_Lle, pt_lt, pt_ltL, pt_Llt, pt_eq, pt_eqL, pt_Leq, pt_m1, pt_lt0, pt_ge0, pt_m1lt0, pt_m1ge0, pt_10, pt_01, pt_00, pt_11, pt_m11, pt_0m1, pt_1m1, pt_ib, pt_ib1, pt_hs, pt_so, pt_ofNat, pt_si, pt_sin, pt_si1, pt_si2, pt_sl, pt_sln, pt_sl0, pt_sl2, pt_sr, pt_srn, pt_sr0, pt_sr1, if_true, if_false, ite_true, ite_false, not_true_eq_false, not_false_eq_true, if_pos, if_neg]
        exact ⟨trivial, trivial, trivial⟩
      · obtain ⟨a1, a2, a3⟩ := e2 e (by omega) h2
        rw [a1, a2, a3]
        simp (disch := omega) only [pt_lt_, pt_clsome, pt_ck, pt_ckL, pt_cl, pt_clL, pt_cz0, pt_cz1, pt_czi, pt_add, pt_addL, pt_Ladd, pt_mul, pt_mulL, pt_Lmul, pt_sub, pt_subL, pt_Lsub, pt_rem, pt_le, pt_leL, pt_Lle, pt_lt, pt_ltL, pt_Llt, pt_eq, pt_eqL, pt_Leq, pt_m1, pt_lt0, pt_ge0, pt_m1lt0, pt_m1ge0, pt_10, pt_01, pt_00, pt_11, pt_m11, pt_0m1, pt_1m1, pt_ib, pt_ib1, pt_hs, pt_so, pt_ofNat, pt_si, pt_sin, pt_si1, pt_si2, pt_sl, pt_sln, pt_sl0, pt_sl2, pt_sr, pt_srn, pt_sr0, pt_sr1, if_true, if_false, ite_true, ite_false, not_true_eq_false, not_false_eq_true, if_pos, if_neg]
        exact ⟨trivial, trivial, trivial⟩
    · exact ((Fr.si (by omega)).tr (Fr.si (by omega))).tr (Fr.si (by omega))
theorem cp_179 {F ra rb : Nat} (ha : ra < 3) (hb : rb < 3) (hne : ¬ ra = rb) : ∀ m i, i + m = 16 → ∀ f, m < f → ∀ κ : kp_K, ∃ κ', bX6_copies_179 F f κ (nI ra) (nI rb) (nI i) = bX6_copies_215 F F κ' (nI ra) (nI rb) 0 ∧ (∀ e, i ≤ e → e < 16 → κ'.1 99 (16 * ra + e) = κ.1 99 (16 * rb + e)) ∧ Fr (fun j k => j = 99 ∧ 16 * ra + i ≤ k ∧ k < 16 * ra + 16) κ κ' := by
  intro m
  induction m with
  | zero =>
    intro i hi f hf κ
    obtain ⟨f, rfl⟩ : ∃ f', f = f' + 1 := ⟨f - 1, by omega⟩
    rw [bX6_copies_179]
    simp (disch := omega) only [pt_lt_, pt_clsome, pt_ck, pt_ckL, pt_cl, pt_clL, pt_cz0, pt_cz1, pt_czi, pt_add, pt_addL, pt_Ladd, pt_mul, pt_mulL, pt_Lmul, pt_sub, pt_subL, pt_Lsub, pt_rem, pt_le, pt_leL, pt_Lle, pt_lt, pt_ltL, pt_Llt, pt_eq, pt_eqL, pt_Leq, pt_m1, pt_lt0, pt_ge0, pt_m1lt0, pt_m1ge0, pt_10, pt_01, pt_00, pt_11, pt_m11, pt_0m1, pt_1m1, pt_ib, pt_ib1, pt_hs, pt_so, pt_ofNat, pt_si, pt_sin, pt_si1, pt_si2, pt_sl, pt_sln, pt_sl0, pt_sl2, pt_sr, pt_srn, pt_sr0, pt_sr1, if_true, if_false, ite_true, ite_false, not_true_eq_false, not_false_eq_true, if_pos, if_neg]
    exact ⟨κ, rfl, fun e h1 h2 => by omega, Fr.rf⟩
  | succ m ih =>
    intro i hi f hf κ
    obtain ⟨f, rfl⟩ : ∃ f', f = f' + 1 := ⟨f - 1, by omega⟩
    rw [bX6_copies_179]
    simp (disch := omega) only [pt_lt_, pt_clsome, pt_ck, pt_ckL, pt_cl, pt_clL, pt_cz0, pt_cz1, pt_czi, pt_add, pt_addL, pt_Ladd, pt_mul, pt_mulL, pt_Lmul, pt_sub, pt_subL, pt_Lsub, pt_rem, pt_le, pt_leL, pt_Lle, pt_lt, pt_ltL, pt_Llt, pt_eq, pt_eqL, pt_Leq, pt_m1, pt_lt0, pt_ge0, pt_m1lt0, pt_m1ge0, pt_10, pt_01, pt_00, pt_11, pt_m11, pt_0m1, pt_1m1, pt_ib, pt_ib1, pt_hs, pt_so, pt_ofNat, pt_si, pt_sin, pt_si1, pt_si2, pt_sl, pt_sln, pt_sl0, pt_sl2, pt_sr, pt_srn, pt_sr0, pt_sr1, if_true, if_false, ite_true, ite_false, not_true_eq_false, not_false_eq_true, if_pos, if_neg]
    obtain ⟨κ', e1, e2, e3⟩ := ih (i + 1) (by omega) f (by omega) (s_i κ 99 (16 * ra + i) (κ.1 99 (16 * rb + i)))
    refine ⟨κ', e1, fun e h1 h2 => ?_, Fr.tr (κ1 := (s_i κ 99 (16 * ra + i) (κ.1 99 (16 * rb + i)))) ?_ (e3.mono (fun j k q => by omega))⟩
    · by_cases h : e = i
      · subst h
        rw [(e3.1 99 _ (by omega)).1]
        simp (disch := omega) only [pt_lt_, pt_clsome, pt_ck, pt_ckL, pt_cl, pt_clL, pt_cz0, pt_cz1, pt_czi, pt_add, pt_addL, pt_Ladd, pt_mul, pt_mulL, pt_Lmul, pt_sub, pt_subL, pt_Lsub, pt_rem, pt_le, pt_leL, pt_Lle, pt_lt, pt_ltL, pt_Llt, pt_eq, pt_eqL, pt_Leq, pt_m1, pt_lt0, pt_ge0, pt_m1lt0, pt_m1ge0, pt_10, pt_01, pt_00, pt_11, pt_m11, pt_0m1, pt_1m1, pt_ib, pt_ib1, pt_hs, pt_so, pt_ofNat, pt_si, pt_sin, pt_si1, pt_si2, pt_sl, pt_sln, pt_sl0, pt_sl2, pt_sr, pt_srn, pt_sr0, pt_sr1, if_true, if_false, ite_true, ite_false, not_true_eq_false, not_false_eq_true, if_pos, if_neg]
      · rw [e2 e (by omega) h2]
        simp (disch := omega) only [pt_lt_, pt_clsome, pt_ck, pt_ckL, pt_cl, pt_clL, pt_cz0, pt_cz1, pt_czi, pt_add, pt_addL, pt_Ladd, pt_mul, pt_mulL, pt_Lmul, pt_sub, pt_subL, pt_Lsub, pt_rem, pt_le, pt_leL, pt_Lle, pt_lt, pt_ltL, pt_Llt, pt_eq, pt_eqL, pt_Leq, pt_m1, pt_lt0, pt_ge0, pt_m1lt0, pt_m1ge0, pt_10, pt_01, pt_00, pt_11, pt_m11, pt_0m1, pt_1m1, pt_ib, pt_ib1, pt_hs, pt_so, pt_ofNat, pt_si, pt_sin, pt_si1, pt_si2, pt_sl, pt_sln, pt_sl0, pt_sl2, pt_sr, pt_srn, pt_sr0, pt_sr1, if_true, if_false, ite_true, ite_false, not_true_eq_false, not_false_eq_true, if_pos, if_neg]
    · exact Fr.si (by omega)
theorem cp_215 {F ra rb w : Nat} (ha : ra < 3) (hb : rb < 3) (hne : ¬ ra = rb) (hw : w ≤ 640) : ∀ m i, i + m = w → ∀ f, m < f → ∀ κ : kp_K, κ.1 100 rb = nI w → ∃ κ', bX6_copies_215 F f κ (nI ra) (nI rb) (nI i) = some κ' ∧ (∀ e, i ≤ e → e < w → κ'.1 101 (640 * ra + e) = κ.1 101 (640 * rb + e) ∧ κ'.1 102 (640 * ra + e) = κ.1 102 (640 * rb + e) ∧ κ'.1 103 (640 * ra + e) = κ.1 103 (640 * rb + e) ∧ κ'.1 104 (640 * ra + e) = κ.1 104 (640 * rb + e)) ∧ Fr (fun j k => 101 ≤ j ∧ j ≤ 104 ∧ 640 * ra + i ≤ k ∧ k < 640 * ra + 640) κ κ' := by
  intro m
  induction m with
  | zero =>
    intro i hi f hf κ hk
    obtain ⟨f, rfl⟩ : ∃ f', f = f' + 1 := ⟨f - 1, by omega⟩
    rw [bX6_copies_215]
    simp (disch := omega) only [pt_lt_, pt_clsome, pt_ck, pt_ckL, pt_cl, pt_clL, pt_cz0, pt_cz1, pt_czi, pt_add, pt_addL, pt_Ladd, pt_mul, pt_mulL, pt_Lmul, pt_sub, pt_subL, pt_Lsub, pt_rem, pt_le, pt_leL, pt_Lle, pt_lt, pt_ltL, pt_Llt, pt_eq, pt_eqL, pt_Leq, pt_m1, pt_lt0, pt_ge0, pt_m1lt0, pt_m1ge0, pt_10, pt_01, pt_00, pt_11, pt_m11, pt_0m1, pt_1m1, pt_ib, pt_ib1, pt_hs, pt_so, pt_ofNat, pt_si, pt_sin, pt_si1, pt_si2, pt_sl, pt_sln, pt_sl0, pt_sl2, pt_sr, pt_srn, pt_sr0, pt_sr1, if_true, if_false, ite_true, ite_false, not_true_eq_false, not_false_eq_true, if_pos, if_neg, hk]
    exact ⟨κ, rfl, fun e h1 h2 => by omega, Fr.rf⟩
  | succ m ih =>
    intro i hi f hf κ hk
    obtain ⟨f, rfl⟩ : ∃ f', f = f' + 1 := ⟨f - 1, by omega⟩
    rw [bX6_copies_215]
    simp (disch := omega) only [pt_lt_, pt_clsome, pt_ck, pt_ckL, pt_cl, pt_clL, pt_cz0, pt_cz1, pt_czi, pt_add, pt_addL, pt_Ladd, pt_mul, pt_mulL, pt_Lmul, pt_sub, pt_subL, pt_Lsub, pt_rem, pt_le, pt_leL, pt_Lle, pt_lt, pt_ltL, pt_Llt, pt_eq, pt_eqL, pt_Leq, pt_m1, pt_lt0, pt_ge0, pt_m1lt0, pt_m1ge0, pt_10, pt_01, pt_00, pt_11, pt_m11, pt_0m1, pt_1m1, pt_ib, pt_ib1, pt_hs, pt_so, pt_ofNat, pt_si, pt_sin, pt_si1, pt_si2, pt_sl, pt_sln, pt_sl0, pt_sl2, pt_sr, pt_srn, pt_sr0, pt_sr1, if_true, if_false, ite_true, ite_false, not_true_eq_false, not_false_eq_true, if_pos, if_neg, hk]
    obtain ⟨κ', e1, e2, e3⟩ := ih (i + 1) (by omega) f (by omega) (s_i (s_i (s_i (s_i κ 101 (640 * ra + i) (κ.1 101 (640 * rb + i))) 102 (640 * ra + i) (κ.1 102 (640 * rb + i))) 103 (640 * ra + i) (κ.1 103 (640 * rb + i))) 104 (640 * ra + i) (κ.1 104 (640 * rb + i))) (by simp (disch := omega) only [pt_lt_, pt_clsome, pt_ck, pt_ckL, pt_cl, pt_clL, pt_cz0, pt_cz1, pt_czi, pt_add, pt_addL, pt_Ladd, pt_mul, pt_mulL, pt_Lmul, pt_sub, pt_subL, pt_Lsub, pt_rem, pt_le, pt_leL, pt_Lle, pt_lt, pt_ltL, pt_Llt, pt_eq, pt_eqL, pt_Leq, pt_m1, pt_lt0, pt_ge0, pt_m1lt0, pt_m1ge0, pt_10, pt_01, pt_00, pt_11, pt_m11, pt_0m1, pt_1m1, pt_ib, pt_ib1, pt_hs, pt_so, pt_ofNat, pt_si, pt_sin, pt_si1, pt_si2, pt_sl, pt_sln, pt_sl0, pt_sl2, pt_sr, pt_srn, pt_sr0, pt_sr1, if_true, if_false, ite_true, ite_false, not_true_eq_false, not_false_eq_true, if_pos, if_neg]; exact hk)
    refine ⟨κ', e1, fun e h1 h2 => ?_, Fr.tr (κ1 := (s_i (s_i (s_i (s_i κ 101 (640 * ra + i) (κ.1 101 (640 * rb + i))) 102 (640 * ra + i) (κ.1 102 (640 * rb + i))) 103 (640 * ra + i) (κ.1 103 (640 * rb + i))) 104 (640 * ra + i) (κ.1 104 (640 * rb + i)))) ?_ (e3.mono (fun j k q => by omega))⟩
    · by_cases h : e = i
      · subst h
        rw [(e3.1 101 _ (by omega)).1, (e3.1 102 _ (by omega)).1, (e3.1 103 _ (by omega)).1, (e3.1 104 _ (by omega)).1]
        simp (disch := omega) only [pt_lt_, pt_clsome, pt_ck, pt_ckL, pt_cl, pt_clL, pt_cz0, pt_cz1, pt_czi, pt_add, pt_addL, pt_Ladd, pt_mul, pt_mulL, pt_Lmul, pt_sub, pt_subL, pt_Lsub, pt_rem, pt_le, pt_leL, pt_Lle, pt_lt, pt_ltL, pt_Llt, pt_eq, pt_eqL, pt_Leq, pt_m1, pt_lt0, pt_ge0, pt_m1lt0, pt_m1ge0, pt_10, pt_01, pt_00, pt_11, pt_m11, pt_0m1, pt_1m1, pt_ib, pt_ib1, pt_hs, pt_so, pt_ofNat, pt_si, pt_sin, pt_si1, pt_si2, pt_sl, pt_sln, pt_sl0, pt_sl2, pt_sr, pt_srn, pt_sr0, pt_sr1, if_true, if_false, ite_true, ite_false, not_true_eq_false, not_false_eq_true, if_pos, if_neg]
        exact ⟨trivial, trivial, trivial, trivial⟩
      · obtain ⟨a1, a2, a3, a4⟩ := e2 e (by omega) h2
        rw [a1, a2, a3, a4]
        simp (disch := omega) only [pt_lt_, pt_clsome, pt_ck, pt_ckL, pt_cl, pt_clL, pt_cz0, pt_cz1, pt_czi, pt_add, pt_addL, pt_Ladd, pt_mul, pt_mulL, pt_Lmul, pt_sub, pt_subL, pt_Lsub, pt_rem, pt_le, pt_leL, pt_Lle, pt_lt, pt_ltL, pt_Llt, pt_eq, pt_eqL, pt_Leq, pt_m1, pt_lt0, pt_ge0, pt_m1lt0, pt_m1ge0, pt_10, pt_01, pt_00, pt_11, pt_m11, pt_0m1, pt_1m1, pt_ib, pt_ib1, pt_hs, pt_so, pt_ofNat, pt_si, pt_sin, pt_si1, pt_si2, pt_sl, pt_sln, pt_sl0, pt_sl2, pt_sr, pt_srn, pt_sr0, pt_sr1, if_true, if_false, ite_true, ite_false, not_true_eq_false, not_false_eq_true, if_pos, if_neg]
        exact ⟨trivial, trivial, trivial, trivial⟩
    · exact (((Fr.si (by omega)).tr (Fr.si (by omega))).tr (Fr.si (by omega))).tr (Fr.si (by omega))
theorem pm_copies {F ra rb w : Nat} {κ : kp_K} (hF : 700 ≤ F) (ha : ra < 3) (hb : rb < 3) (hne : ¬ ra = rb) (hw : w ≤ 640) (hk : κ.1 100 rb = nI w) : ∃ κ', pX6_copies F κ (nI ra) (nI rb) = some κ' ∧ κ'.1 91 ra = κ.1 91 rb ∧ κ'.1 100 ra = nI w ∧ (∀ e, e < 4 → κ'.1 92 (4 * ra + e) = κ.1 92 (4 * rb + e) ∧ κ'.1 96 (4 * ra + e) = κ.1 96 (4 * rb + e) ∧ κ'.1 97 (4 * ra + e) = κ.1 97 (4 * rb + e)) ∧ (∀ e, e < 28 → κ'.1 93 (28 * ra + e) = κ.1 93 (28 * rb + e) ∧ κ'.1 94 (28 * ra + e) = κ.1 94 (28 * rb + e) ∧ κ'.1 95 (28 * ra + e) = κ.1 95 (28 * rb + e)) ∧ (∀ e, e < 16 → κ'.1 99 (16 * ra + e) = κ.1 99 (16 * rb + e)) ∧ (∀ e, e < w → κ'.1 101 (640 * ra + e) = κ.1 101 (640 * rb + e) ∧ κ'.1 102 (640 * ra + e) = κ.1 102 (640 * rb + e) ∧ κ'.1 103 (640 * ra + e) = κ.1 103 (640 * rb + e) ∧ κ'.1 104 (640 * ra + e) = κ.1 104 (640 * rb + e)) ∧ Fr (PM ra) κ κ' ∧ κ'.1 66 59 = κ.1 66 59 := by
  obtain ⟨k1, a1, a2, a3⟩ := cp_26 (F := F) ha hb hne 4 0 (by omega) F (by omega) (s_i (s_i κ 91 ra (κ.1 91 rb)) 100 ra (nI w))
  obtain ⟨k2, b1, b2, b3⟩ := cp_99 (F := F) ha hb hne 28 0 (by omega) F (by omega) k1
  obtain ⟨k3, c1, c2, c3⟩ := cp_179 (F := F) ha hb hne 16 0 (by omega) F (by omega) k2
  have hk3 : k3.1 100 rb = nI w := by
    rw [(c3.1 100 rb (by omega)).1, (b3.1 100 rb (by omega)).1, (a3.1 100 rb (by omega)).1]
    simp (disch := omega) only [pt_lt_, pt_clsome, pt_ck, pt_ckL, pt_cl, pt_clL, pt_cz0, pt_cz1, pt_czi, pt_add, pt_addL, pt_Ladd, pt_mul, pt_mulL, pt_Lmul, pt_sub, pt_subL, pt_Lsub, pt_rem, pt_le, pt_leL, pt_Lle, pt_lt, pt_ltL, pt_Llt, pt_eq, pt_eqL, pt_Leq, pt_m1, pt_lt0, pt_ge0, pt_m1lt0, pt_m1ge0, pt_10, pt_01, pt_00, pt_11, pt_m11, pt_0m1, pt_1m1, pt_ib, pt_ib1, pt_hs, pt_so, pt_ofNat, pt_si, pt_sin, pt_si1, pt_si2, pt_sl, pt_sln, pt_sl0, pt_sl2, pt_sr, pt_srn, pt_sr0, pt_sr1, if_true, if_false, ite_true, ite_false, not_true_eq_false, not_false_eq_true, if_pos, if_neg]
    exact hk
  obtain ⟨k4, d1, d2, d3⟩ := cp_215 (F := F) ha hb hne hw w 0 (by omega) F (by omega) k3 hk3
  have f4 : ∀ j i, ¬ (101 ≤ j ∧ j ≤ 104) → k4.1 j i = k3.1 j i := fun j i q => (d3.1 j i (by omega)).1
  have f3 : ∀ j i, ¬ (j = 99) → k3.1 j i = k2.1 j i := fun j i q => (c3.1 j i (by omega)).1
  have f2 : ∀ j i, ¬ (j = 93 ∨ j = 94 ∨ j = 95) → k2.1 j i = k1.1 j i := fun j i q => (b3.1 j i (by omega)).1
  have f1 : ∀ j i, ¬ (j = 92 ∨ j = 96 ∨ j = 97) → k1.1 j i = (s_i (s_i κ 91 ra (κ.1 91 rb)) 100 ra (nI w)).1 j i := fun j i q => (a3.1 j i (by omega)).1
  refine ⟨k4, ?_, ?_, ?_, fun e he => ?_, fun e he => ?_, fun e he => ?_, fun e he => ?_, ?_, ?_⟩
  · unfold pX6_copies
    simp (disch := omega) only [pt_lt_, pt_clsome, pt_ck, pt_ckL, pt_cl, pt_clL, pt_cz0, pt_cz1, pt_czi, pt_add, pt_addL, pt_Ladd, pt_mul, pt_mulL, pt_Lmul, pt_sub, pt_subL, pt_Lsub, pt_rem, pt_le, pt_leL, pt_Lle, pt_lt, pt_ltL, pt_Llt, pt_eq, pt_eqL, pt_Leq, pt_m1, pt_lt0, pt_ge0, pt_m1lt0, pt_m1ge0, pt_10, pt_01, pt_00, pt_11, pt_m11, pt_0m1, pt_1m1, pt_ib, pt_ib1, pt_hs, pt_so, pt_ofNat, pt_si, pt_sin, pt_si1, pt_si2, pt_sl, pt_sln, pt_sl0, pt_sl2, pt_sr, pt_srn, pt_sr0, pt_sr1, if_true, if_false, ite_true, ite_false, not_true_eq_false, not_false_eq_true, if_pos, if_neg, hk]
    have a1' : bX6_copies_26 F F (s_i (s_i κ 91 ra (κ.1 91 rb)) 100 ra (nI w)) (nI ra) (nI rb) 0 = bX6_copies_99 F F k1 (nI ra) (nI rb) 0 := a1
    have b1' : bX6_copies_99 F F k1 (nI ra) (nI rb) 0 = bX6_copies_179 F F k2 (nI ra) (nI rb) 0 := b1
    have c1' : bX6_copies_179 F F k2 (nI ra) (nI rb) 0 = bX6_copies_215 F F k3 (nI ra) (nI rb) 0 := c1
    rw [a1', b1', c1']
    exact d1
  · rw [f4 _ _ (by omega), f3 _ _ (by omega), f2 _ _ (by omega), f1 _ _ (by omega)]; simp (disch := omega) only [pt_lt_, pt_clsome, pt_ck, pt_ckL, pt_cl, pt_clL, pt_cz0, pt_cz1, pt_czi, pt_add, pt_addL, pt_Ladd, pt_mul, pt_mulL, pt_Lmul, pt_sub, pt_subL, pt_Lsub, pt_rem, pt_le, pt_leL, pt_Lle, pt_lt, pt_ltL, pt_Llt, pt_eq, pt_eqL, pt_Leq, pt_m1, pt_lt0, pt_ge0, pt_m1lt0, pt_m1ge0, pt_10, pt_01, pt_00, pt_11, pt_m11, pt_0m1, pt_1m1, pt_ib, pt_ib1, pt_hs, pt_so, pt_ofNat, pt_si, pt_sin, pt_si1, pt_si2, pt_sl, pt_sln, pt_sl0, pt_sl2, pt_sr, pt_srn, pt_sr0, pt_sr1, if_true, if_false, ite_true, ite_false, not_true_eq_false, not_false_eq_true, if_pos, if_neg]
  · rw [f4 _ _ (by omega), f3 _ _ (by omega), f2 _ _ (by omega), f1 _ _ (by omega)]; simp (disch := omega) only [pt_lt_, pt_clsome, pt_ck, pt_ckL, pt_cl, pt_clL, pt_cz0, pt_cz1, pt_czi, pt_add, pt_addL, pt_Ladd, pt_mul, pt_mulL, pt_Lmul, pt_sub, pt_subL, pt_Lsub, pt_rem, pt_le, pt_leL, pt_Lle, pt_lt, pt_ltL, pt_Llt, pt_eq, pt_eqL, pt_Leq, pt_m1, pt_lt0, pt_ge0, pt_m1lt0, pt_m1ge0, pt_10, pt_01, pt_00, pt_11, pt_m11, pt_0m1, pt_1m1, pt_ib, pt_ib1, pt_hs, pt_so, pt_ofNat, pt_si, pt_sin, pt_si1, pt_si2, pt_sl, pt_sln, pt_sl0, pt_sl2, pt_sr, pt_srn, pt_sr0, pt_sr1, if_true, if_false, ite_true, ite_false, not_true_eq_false, not_false_eq_true, if_pos, if_neg]
  · obtain ⟨z1, z2, z3⟩ := a2 e (by omega) he
    rw [f4 _ _ (by omega), f3 _ _ (by omega), f2 _ _ (by omega), f4 _ _ (by omega), f3 _ _ (by omega), f2 _ _ (by omega), f4 _ _ (by omega), f3 _ _ (by omega), f2 _ _ (by omega), z1, z2, z3]
    simp (disch := omega) only [pt_lt_, pt_clsome, pt_ck, pt_ckL, pt_cl, pt_clL, pt_cz0, pt_cz1, pt_czi, pt_add, pt_addL, pt_Ladd, pt_mul, pt_mulL, pt_Lmul, pt_sub, pt_subL, pt_Lsub, pt_rem, pt_le, pt_leL, pt_Lle, pt_lt, pt_ltL, pt_Llt, pt_eq, pt_eqL, pt_Leq, pt_m1, pt_lt0, pt_ge0, pt_m1lt0, pt_m1ge0, pt_10, pt_01, pt_00, pt_11, pt_m11, pt_0m1, pt_1m1, pt_ib, pt_ib1, pt_hs, pt_so, pt_ofNat, pt_si, pt_sin, pt_si1, pt_si2, pt_sl, pt_sln, pt_sl0, pt_sl2, pt_sr, pt_srn, pt_sr0, pt_sr1, if_true, if_false, ite_true, ite_false, not_true_eq_false, not_false_eq_true, if_pos, if_neg]
    exact ⟨trivial, trivial, trivial⟩
  · obtain ⟨z1, z2, z3⟩ := b2 e (by omega) he
    rw [f4 _ _ (by omega), f3 _ _ (by omega), f4 _ _ (by omega), f3 _ _ (by omega), f4 _ _ (by omega), f3 _ _ (by omega), z1, z2, z3, f1 _ _ (by omega), f1 _ _ (by omega), f1 _ _ (by omega)]
    simp (disch := omega) only [pt_lt_, pt_clsome, pt_ck, pt_ckL, pt_cl, pt_clL, pt_cz0, pt_cz1, pt_czi, pt_add, pt_addL, pt_Ladd, pt_mul, pt_mulL, pt_Lmul, pt_sub, pt_subL, pt_Lsub, pt_rem, pt_le, pt_leL, pt_Lle, pt_lt, pt_ltL, pt_Llt, pt_eq, pt_eqL, pt_Leq, pt_m1, pt_lt0, pt_ge0, pt_m1lt0, pt_m1ge0, pt_10, pt_01, pt_00, pt_11, pt_m11, pt_0m1, pt_1m1, pt_ib, pt_ib1, pt_hs, pt_so, pt_ofNat, pt_si, pt_sin, pt_si1, pt_si2, pt_sl, pt_sln, pt_sl0, pt_sl2, pt_sr, pt_srn, pt_sr0, pt_sr1, if_true, if_false, ite_true, ite_false, not_true_eq_false, not_false_eq_true, if_pos, if_neg]
    exact ⟨trivial, trivial, trivial⟩
  · rw [f4 _ _ (by omega), c2 e (by omega) he, f2 _ _ (by omega), f1 _ _ (by omega)]
    simp (disch := omega) only [pt_lt_, pt_clsome, pt_ck, pt_ckL, pt_cl, pt_clL, pt_cz0, pt_cz1, pt_czi, pt_add, pt_addL, pt_Ladd, pt_mul, pt_mulL, pt_Lmul, pt_sub, pt_subL, pt_Lsub, pt_rem, pt_le, pt_leL, pt_Lle, pt_lt, pt_ltL, pt_Llt, pt_eq, pt_eqL, pt_Leq, pt_m1, pt_lt0, pt_ge0, pt_m1lt0, pt_m1ge0, pt_10, pt_01, pt_00, pt_11, pt_m11, pt_0m1, pt_1m1, pt_ib, pt_ib1, pt_hs, pt_so, pt_ofNat, pt_si, pt_sin, pt_si1, pt_si2, pt_sl, pt_sln, pt_sl0, pt_sl2, pt_sr, pt_srn, pt_sr0, pt_sr1, if_true, if_false, ite_true, ite_false, not_true_eq_false, not_false_eq_true, if_pos, if_neg]
  · obtain ⟨z1, z2, z3, z4⟩ := d2 e (by omega) he
    rw [z1, z2, z3, z4, f3 _ _ (by omega), f2 _ _ (by omega), f1 _ _ (by omega), f3 _ _ (by omega), f2 _ _ (by omega), f1 _ _ (by omega), f3 _ _ (by omega), f2 _ _ (by omega), f1 _ _ (by omega), f3 _ _ (by omega), f2 _ _ (by omega), f1 _ _ (by omega)]
    simp (disch := omega) only [pt_lt_, pt_clsome, pt_ck, pt_ckL, pt_cl, pt_clL, pt_cz0, pt_cz1, pt_czi, pt_add, pt_addL, pt_Ladd, pt_mul, pt_mulL, pt_Lmul, pt_sub, pt_subL, pt_Lsub, pt_rem, pt_le, pt_leL, pt_Lle, pt_lt, pt_ltL, pt_Llt, pt_eq, pt_eqL, pt_Leq, pt_m1, pt_lt0, pt_ge0, pt_m1lt0, pt_m1ge0, pt_10, pt_01, pt_00, pt_11, pt_m11, pt_0m1, pt_1m1, pt_ib, pt_ib1, pt_hs, pt_so, pt_ofNat, pt_si, pt_sin, pt_si1, pt_si2, pt_sl, pt_sln, pt_sl0, pt_sl2, pt_sr, pt_srn, pt_sr0, pt_sr1, if_true, if_false, ite_true, ite_false, not_true_eq_false, not_false_eq_true, if_pos, if_neg]
    exact ⟨trivial, trivial, trivial, trivial⟩
  · refine Fr.tr (κ1 := k1) (Fr.tr (κ1 := s_i (s_i κ 91 ra (κ.1 91 rb)) 100 ra (nI w)) ((Fr.si (by unfold PM; omega)).tr (Fr.si (by unfold PM; omega))) (a3.mono (fun j i q => by unfold PM; omega))) ((b3.mono (fun j i q => by unfold PM; omega)).tr ((c3.mono (fun j i q => by unfold PM; omega)).tr (d3.mono (fun j i q => by unfold PM; omega))))
  · rw [f4 _ _ (by omega), f3 _ _ (by omega), f2 _ _ (by omega), f1 _ _ (by omega)]; simp (disch := omega) only [pt_lt_, pt_clsome, pt_ck, pt_ckL, pt_cl, pt_clL, pt_cz0, pt_cz1, pt_czi, pt_add, pt_addL, pt_Ladd, pt_mul, pt_mulL, pt_Lmul, pt_sub, pt_subL, pt_Lsub, pt_rem, pt_le, pt_leL, pt_Lle, pt_lt, pt_ltL, pt_Llt, pt_eq, pt_eqL, pt_Leq, pt_m1, pt_lt0, pt_ge0, pt_m1lt0, pt_m1ge0, pt_10, pt_01, pt_00, pt_11, pt_m11, pt_0m1, pt_1m1, pt_ib, pt_ib1, pt_hs, pt_so, pt_ofNat, pt_si, pt_sin, pt_si1, pt_si2, pt_sl, pt_sln, pt_sl0, pt_sl2, pt_sr, pt_srn, pt_sr0, pt_sr1, if_true, if_false, ite_true, ite_false, not_true_eq_false, not_false_eq_true, if_pos, if_neg]
theorem px_copy {r r1 : Nat} {κ : kp_K} (hr : r < 3) (hr1 : r1 < 3) (hne : ¬ r = r1) (hc : κ.2.2 (13 + 14 * r1) 0 = some 11) : ∃ κ', pX5_copy r κ r1 = some κ' ∧ κ'.1 (13 + 14 * r) 1 = κ.1 (13 + 14 * r1) 1 ∧ κ'.1 (13 + 14 * r) 16 = κ.1 (13 + 14 * r1) 16 ∧ (∀ e, e < 4 → κ'.1 (14 + 14 * r) e = κ.1 (14 + 14 * r1) e ∧ κ'.1 (15 + 14 * r) e = κ.1 (15 + 14 * r1) e ∧ κ'.1 (16 + 14 * r) e = κ.1 (16 + 14 * r1) e) ∧ (∀ e, e < 28 → κ'.1 (18 + 14 * r) e = κ.1 (18 + 14 * r1) e ∧ κ'.1 (19 + 14 * r) e = κ.1 (19 + 14 * r1) e ∧ κ'.1 (20 + 14 * r) e = κ.1 (20 + 14 * r1) e) ∧ (∀ e, e < 16 → κ'.1 (25 + 14 * r) e = κ.1 (25 + 14 * r1) e) ∧ (∀ e, e < 900 → κ'.1 (26 + 14 * r) e = κ.1 (26 + 14 * r1) e) ∧ (∀ j i, ¬ (13 + 14 * r ≤ j ∧ j ≤ 26 + 14 * r ∧ ¬ (j = 13 + 14 * r ∧ i = 13)) → κ'.1 j i = κ.1 j i ∧ κ'.2.1 j i = κ.2.1 j i) ∧ κ'.2.2 = (s_r κ (13 + 14 * r) 0 (some 11)).2.2 := by
  unfold pX5_copy
  rw [hc, pt_ch (Or.inl rfl)]
  simp (disch := omega) only [pt_lt_, pt_clsome, pt_ck, pt_ckL, pt_cl, pt_clL, pt_cz0, pt_cz1, pt_czi, pt_add, pt_addL, pt_Ladd, pt_mul, pt_mulL, pt_Lmul, pt_sub, pt_subL, pt_Lsub, pt_rem, pt_le, pt_leL, pt_Lle, pt_lt, pt_ltL, pt_Llt, pt_eq, pt_eqL, pt_Leq, pt_m1, pt_lt0, pt_ge0, pt_m1lt0, pt_m1ge0, pt_10, pt_01, pt_00, pt_11, pt_m11, pt_0m1, pt_1m1, pt_ib, pt_ib1, pt_hs, pt_so, pt_ofNat, pt_si, pt_sin, pt_si1, pt_si2, pt_sl, pt_sln, pt_sl0, pt_sl2, pt_sr, pt_srn, pt_sr0, pt_sr1, if_true, if_false, ite_true, ite_false, not_true_eq_false, not_false_eq_true, if_pos, if_neg]
  refine ⟨_, rfl, ?_, ?_, fun e he => ?_, fun e he => ?_, fun e he => ?_, fun e he => ?_, fun j i q => ⟨?_, rfl⟩, rfl⟩
  · simp (disch := omega) only [pt_lt_, pt_clsome, pt_ck, pt_ckL, pt_cl, pt_clL, pt_cz0, pt_cz1, pt_czi, pt_add, pt_addL, pt_Ladd, pt_mul, pt_mulL, pt_Lmul, pt_sub, pt_subL, pt_Lsub, pt_rem, pt_le, pt_leL, pt_Lle, pt_lt, pt_ltL, pt_Llt, pt_eq, pt_eqL, pt_Leq, pt_m1, pt_lt0, pt_ge0, pt_m1lt0, pt_m1ge0, pt_10, pt_01, pt_00, pt_11, pt_m11, pt_0m1, pt_1m1, pt_ib, pt_ib1, pt_hs, pt_so, pt_ofNat, pt_si, pt_sin, pt_si1, pt_si2, pt_sl, pt_sln, pt_sl0, pt_sl2, pt_sr, pt_srn, pt_sr0, pt_sr1, if_true, if_false, ite_true, ite_false, not_true_eq_false, not_false_eq_true, if_pos, if_neg, pt_sc, pt_scn]
  · simp (disch := omega) only [pt_lt_, pt_clsome, pt_ck, pt_ckL, pt_cl, pt_clL, pt_cz0, pt_cz1, pt_czi, pt_add, pt_addL, pt_Ladd, pt_mul, pt_mulL, pt_Lmul, pt_sub, pt_subL, pt_Lsub, pt_rem, pt_le, pt_leL, pt_Lle, pt_lt, pt_ltL, pt_Llt, pt_eq, pt_eqL, pt_Leq, pt_m1, pt_lt0, pt_ge0, pt_m1lt0, pt_m1ge0, pt_10, pt_01, pt_00, pt_11, pt_m11, pt_0m1, pt_1m1, pt_ib, pt_ib1, pt_hs, pt_so, pt_ofNat, pt_si, pt_sin, pt_si1, pt_si2, pt_sl, pt_sln, pt_sl0, pt_sl2, pt_sr, pt_srn, pt_sr0, pt_sr1, if_true, if_false, ite_true, ite_false, not_true_eq_false, not_false_eq_true, if_pos, if_neg, pt_sc, pt_scn]
  · simp (disch := omega) only [pt_lt_, pt_clsome, pt_ck, pt_ckL, pt_cl, pt_clL, pt_cz0, pt_cz1, pt_czi, pt_add, pt_addL, pt_Ladd, pt_mul, pt_mulL, pt_Lmul, pt_sub, pt_subL, pt_Lsub, pt_rem, pt_le, pt_leL, pt_Lle, pt_lt, pt_ltL, pt_Llt, pt_eq, pt_eqL, pt_Leq, pt_m1, pt_lt0, pt_ge0, pt_m1lt0, pt_m1ge0, pt_10, pt_01, pt_00, pt_11, pt_m11, pt_0m1, pt_1m1, pt_ib, pt_ib1, pt_hs, pt_so, pt_ofNat, pt_si, pt_sin, pt_si1, pt_si2, pt_sl, pt_sln, pt_sl0, pt_sl2, pt_sr, pt_srn, pt_sr0, pt_sr1, if_true, if_false, ite_true, ite_false, not_true_eq_false, not_false_eq_true, if_pos, if_neg, pt_sc, pt_scn]
    exact ⟨trivial, trivial, trivial⟩
  · simp (disch := omega) only [pt_lt_, pt_clsome, pt_ck, pt_ckL, pt_cl, pt_clL, pt_cz0, pt_cz1, pt_czi, pt_add, pt_addL, pt_Ladd, pt_mul, pt_mulL, pt_Lmul, pt_sub, pt_subL, pt_Lsub, pt_rem, pt_le, pt_leL, pt_Lle, pt_lt, pt_ltL, pt_Llt, pt_eq, pt_eqL, pt_Leq, pt_m1, pt_lt0, pt_ge0, pt_m1lt0, pt_m1ge0, pt_10, pt_01, pt_00, pt_11, pt_m11, pt_0m1, pt_1m1, pt_ib, pt_ib1, pt_hs, pt_so, pt_ofNat, pt_si, pt_sin, pt_si1, pt_si2, pt_sl, pt_sln, pt_sl0, pt_sl2, pt_sr, pt_srn, pt_sr0, pt_sr1, if_true, if_false, ite_true, ite_false, not_true_eq_false, not_false_eq_true, if_pos, if_neg, pt_sc, pt_scn]
    exact ⟨trivial, trivial, trivial⟩
  · simp (disch := omega) only [pt_lt_, pt_clsome, pt_ck, pt_ckL, pt_cl, pt_clL, pt_cz0, pt_cz1, pt_czi, pt_add, pt_addL, pt_Ladd, pt_mul, pt_mulL, pt_Lmul, pt_sub, pt_subL, pt_Lsub, pt_rem, pt_le, pt_leL, pt_Lle, pt_lt, pt_ltL, pt_Llt, pt_eq, pt_eqL, pt_Leq, pt_m1, pt_lt0, pt_ge0, pt_m1lt0, pt_m1ge0, pt_10, pt_01, pt_00, pt_11, pt_m11, pt_0m1, pt_1m1, pt_ib, pt_ib1, pt_hs, pt_so, pt_ofNat, pt_si, pt_sin, pt_si1, pt_si2, pt_sl, pt_sln, pt_sl0, pt_sl2, pt_sr, pt_srn, pt_sr0, pt_sr1, if_true, if_false, ite_true, ite_false, not_true_eq_false, not_false_eq_true, if_pos, if_neg, pt_sc, pt_scn]
  · simp (disch := omega) only [pt_lt_, pt_clsome, pt_ck, pt_ckL, pt_cl, pt_clL, pt_cz0, pt_cz1, pt_czi, pt_add, pt_addL, pt_Ladd, pt_mul, pt_mulL, pt_Lmul, pt_sub, pt_subL, pt_Lsub, pt_rem, pt_le, pt_leL, pt_Lle, pt_lt, pt_ltL, pt_Llt, pt_eq, pt_eqL, pt_Leq, pt_m1, pt_lt0, pt_ge0, pt_m1lt0, pt_m1ge0, pt_10, pt_01, pt_00, pt_11, pt_m11, pt_0m1, pt_1m1, pt_ib, pt_ib1, pt_hs, pt_so, pt_ofNat, pt_si, pt_sin, pt_si1, pt_si2, pt_sl, pt_sln, pt_sl0, pt_sl2, pt_sr, pt_srn, pt_sr0, pt_sr1, if_true, if_false, ite_true, ite_false, not_true_eq_false, not_false_eq_true, if_pos, if_neg, pt_sc, pt_scn]
  · simp (disch := omega) only [pt_lt_, pt_clsome, pt_ck, pt_ckL, pt_cl, pt_clL, pt_cz0, pt_cz1, pt_czi, pt_add, pt_addL, pt_Ladd, pt_mul, pt_mulL, pt_Lmul, pt_sub, pt_subL, pt_Lsub, pt_rem, pt_le, pt_leL, pt_Lle, pt_lt, pt_ltL, pt_Llt, pt_eq, pt_eqL, pt_Leq, pt_m1, pt_lt0, pt_ge0, pt_m1lt0, pt_m1ge0, pt_10, pt_01, pt_00, pt_11, pt_m11, pt_0m1, pt_1m1, pt_ib, pt_ib1, pt_hs, pt_so, pt_ofNat, pt_si, pt_sin, pt_si1, pt_si2, pt_sl, pt_sln, pt_sl0, pt_sl2, pt_sr, pt_srn, pt_sr0, pt_sr1, if_true, if_false, ite_true, ite_false, not_true_eq_false, not_false_eq_true, if_pos, if_neg, pt_sc, pt_scn]
