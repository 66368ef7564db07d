/-! PURE LAYER: the public law -/
set_option maxRecDepth 100000
theorem pm_isName {v : Int32} : pX6_isName v = some (if 0 ≤ v ∧ v ≤ 999 then 1 else 0) := by
  unfold pX6_isName
  by_cases h1 : v < 0
  · rw [if_pos h1, if_neg (fun q => Int32.not_le.mpr h1 q.1)]
  · rw [if_neg h1]
    by_cases h2 : (999 : Int32) < v
    · rw [if_pos h2, if_neg (fun q => Int32.not_lt.mpr q.2 h2)]
    · rw [if_neg h2, if_pos ⟨Int32.not_lt.mp h1, Int32.not_lt.mp h2⟩]
/-- a sentence of the reference, told its names -/
theorem pm_goesV {F s j : Nat} {hu : hd_T} {κ : kp_K} {nm : Nat → Int64} (hF : 80 ≤ F) (hs : s < 12) (hsr : SR hu κ s (some j)) (hn : ∀ k, k < 6 → κ.2.1 89 k = nm k) (hnb : ∀ k, k < 6 → bd (nm k)) : ∃ κ', Fr FL κ κ' ∧ ((∃ v, evS nm (hu.2.2.2.2.2 j) = some v ∧ pX6_goes0 F κ (nI s) = some (1, κ') ∧ κ'.2.1 90 0 = v) ∨ (evS nm (hu.2.2.2.2.2 j) = none ∧ pX6_goes0 F κ (nI s) = some (0, κ'))) := by
  obtain ⟨a, b, h1, h2, h3, h4, c1, c2, c3, c4⟩ := hsr
  have g7 : Fr FL κ (s_i κ 66 42 0) := Fr.si (Or.inl ⟨rfl, rfl⟩)
  have gk : ∀ j i, 85 ≤ j → j ≤ 88 → (s_i κ 66 42 0).1 j i = κ.1 j i := fun j i z1 z2 => (g7.1 j i (by unfold FL; omega)).1
  have hwst : wst (s_i κ 66 42 0) [] := ⟨pt_si ⟨rfl, rfl⟩, fun i hi => nomatch hi⟩
  unfold pX6_goes0
  simp (disch := omega) only [pt_lt_, pt_clsome, pt_ck, pt_ckL, pt_cl, pt_clL, pt_cz0, pt_cz1, pt_czi, pt_add, pt_addL, pt_Ladd, pt_mul, pt_mulL, pt_Lmul, pt_sub, pt_subL, pt_Lsub, pt_rem, pt_le, pt_leL, pt_Lle, pt_lt, pt_ltL, pt_Llt, pt_eq, pt_eqL, pt_Leq, pt_m1, pt_lt0, pt_ge0, pt_m1lt0, pt_m1ge0, pt_10, pt_01, pt_00, pt_11, pt_m11, pt_0m1, pt_1m1, pt_ib, pt_ib1, pt_hs, pt_so, pt_ofNat, pt_si, pt_sin, pt_si1, pt_si2, pt_sl, pt_sln, pt_sl0, pt_sl2, pt_sr, pt_srn, pt_sr0, pt_sr1, if_true, if_false, ite_true, ite_false, not_true_eq_false, not_false_eq_true, h3]
  rcases pm_goes0 (F := F) (nm := nm) hnb (l0 := hu.2.2.2.2.2 j) (a := a) (b := b) (s := s) h2 c2 h1 hs (b - a) 0 (by omega) F (by omega) (s_i κ 66 42 0) [] 1 (by rw [gk 86 s (by omega) (by omega)]; exact h4) (fun i hi => by rw [gk 87 _ (by omega) (by omega), gk 88 _ (by omega) (by omega)]; exact c4 i hi) hn hwst (fun _ h => nomatch h) (Nat.le_refl _) c3 with ⟨st', κ', e1, e2, e3, e4, e5⟩ | ⟨κ', e1, e2, e3⟩
  · match st', e4 with
    | [v], _ =>
      rw [Nat.add_zero] at e2
      rw [List.drop_zero] at e1
      refine ⟨κ', g7.tr (e5.mono (fun j i q => by unfold FW at q; unfold FL; omega)), Or.inl ⟨v, ?_, e2, (wst_cons e3).2⟩⟩
      unfold evS
      rw [e1]
  · rw [Nat.add_zero] at e2
    rw [List.drop_zero] at e1
    refine ⟨κ', g7.tr (e3.mono (fun j i q => by unfold FW at q; unfold FL; omega)), Or.inr ⟨?_, e2⟩⟩
    unfold evS
    rw [e1]
theorem px_law0 {hb : Nat} {hu : hd_T} {κ : kp_K} {v2 v3 v4 v5 : Int32} {o : Option Nat} : bX1_law_83 hb hu κ v2 v3 v4 v5 o 0 = some ((-9223372036854775808 : Int64), κ) := by
  unfold bX1_law_83
  split
  · rfl
  · rfl
theorem ls_law1 {F : Nat} {hu : hd_T} {hb s : Nat} {κx κm : kp_K} {o : Option Nat} (hF : 80 ≤ F) (I : INV hu hb κx κm) (hs : s < 2) (hsr : SR hu κm s o) (v2 v3 v4 v5 : Int32) : iLS hu hb κx κm (bX1_law_30 hb hu κx v2 v3 v4 v5 o) (pX6_law F κm (nI s) v2 v3 v4 v5) := by
  have no : iLS hu hb κx κm (some ((-9223372036854775808 : Int64), κx)) (some ((-9223372036854775808 : Int64), s_i κm 66 0 0)) := ⟨_, _, _, rfl, rfl, I.th, fun _ _ _ => ⟨rfl, rfl⟩, MF0⟩
  have n1 : ¬ 1 < s := by omega
  unfold bX1_law_30 bX1_law_82 pX6_law
  simp (disch := omega) only [pt_lt_, pt_clsome, pt_ck, pt_ckL, pt_cl, pt_clL, pt_cz0, pt_cz1, pt_czi, pt_add, pt_addL, pt_Ladd, pt_mul, pt_mulL, pt_Lmul, pt_sub, pt_subL, pt_Lsub, pt_rem, pt_le, pt_leL, pt_Lle, pt_lt, pt_ltL, pt_Llt, pt_eq, pt_eqL, pt_Leq, pt_m1, pt_lt0, pt_ge0, pt_m1lt0, pt_m1ge0, pt_10, pt_01, pt_00, pt_11, pt_m11, pt_0m1, pt_1m1, pt_ib, pt_ib1, pt_hs, pt_so, pt_ofNat, pt_si, pt_sin, pt_si1, pt_si2, pt_sl, pt_sln, pt_sl0, pt_sl2, pt_sr, pt_srn, pt_sr0, pt_sr1, if_true, if_false, ite_true, ite_false, not_true_eq_false, not_false_eq_true, px_isIn, pm_isName, px_law0, n1]
  simp only [ite_not]
  by_cases q2 : 0 ≤ v2 ∧ v2 ≤ 999
  · rw [if_pos q2, if_pos q2]
    by_cases q3 : 0 ≤ v3 ∧ v3 ≤ 999
    · rw [if_pos q3, if_pos q3]
      by_cases q4 : 0 ≤ v4 ∧ v4 ≤ 999
      · rw [if_pos q4, if_pos q4]
        by_cases q5 : 0 ≤ v5 ∧ v5 ≤ 999
        · rw [if_pos q5, if_pos q5]
          obtain ⟨a, b, h1, h2, h3, h4, h5⟩ := id hsr
          unfold pX6_isTold bX1_law_83
          simp (disch := omega) only [pt_lt_, pt_clsome, pt_ck, pt_ckL, pt_cl, pt_clL, pt_cz0, pt_cz1, pt_czi, pt_add, pt_addL, pt_Ladd, pt_mul, pt_mulL, pt_Lmul, pt_sub, pt_subL, pt_Lsub, pt_rem, pt_le, pt_leL, pt_Lle, pt_lt, pt_ltL, pt_Llt, pt_eq, pt_eqL, pt_Leq, pt_m1, pt_lt0, pt_ge0, pt_m1lt0, pt_m1ge0, pt_10, pt_01, pt_00, pt_11, pt_m11, pt_0m1, pt_1m1, pt_ib, pt_ib1, pt_hs, pt_so, pt_ofNat, pt_si, pt_sin, pt_si1, pt_si2, pt_sl, pt_sln, pt_sl0, pt_sl2, pt_sr, pt_srn, pt_sr0, pt_sr1, if_true, if_false, ite_true, ite_false, not_true_eq_false, not_false_eq_true, h3, h4]
          cases o with
          | none =>
            dsimp only at h5
            have hle : b ≤ a := by omega
            simp (disch := omega) only [pt_lt_, pt_clsome, pt_ck, pt_ckL, pt_cl, pt_clL, pt_cz0, pt_cz1, pt_czi, pt_add, pt_addL, pt_Ladd, pt_mul, pt_mulL, pt_Lmul, pt_sub, pt_subL, pt_Lsub, pt_rem, pt_le, pt_leL, pt_Lle, pt_lt, pt_ltL, pt_Llt, pt_eq, pt_eqL, pt_Leq, pt_m1, pt_lt0, pt_ge0, pt_m1lt0, pt_m1ge0, pt_10, pt_01, pt_00, pt_11, pt_m11, pt_0m1, pt_1m1, pt_ib, pt_ib1, pt_hs, pt_so, pt_ofNat, pt_si, pt_sin, pt_si1, pt_si2, pt_sl, pt_sln, pt_sl0, pt_sl2, pt_sr, pt_srn, pt_sr0, pt_sr1, if_true, if_false, ite_true, ite_false, not_true_eq_false, not_false_eq_true, if_pos, if_neg, hle]
            exact no
          | some j =>
            obtain ⟨c1, c2, c3, c4⟩ := h5
            have hle : ¬ b ≤ a := by omega
            have hw := hsr.sw j rfl
            obtain ⟨x1, y1, y2, y3, y4⟩ := px_lay (κ := κx) (a := v2) (b := v3) (c := v4) (d := v5) (e := 0) (f := 0)
            obtain ⟨v, x2, z1, z2, z3⟩ := jn_valV (nm := nm6 v2.toInt64 v3.toInt64 v4.toInt64 v5.toInt64 (0 : Int32).toInt64 (0 : Int32).toInt64) hw.1 hw.2 y2 y3 nm6_bd
            have e0 : ((some j : Option Nat) = none) = False := propext (Iff.intro (fun h => by cases h) False.elim)
            simp (disch := omega) only [pt_lt_, pt_clsome, pt_ck, pt_ckL, pt_cl, pt_clL, pt_cz0, pt_cz1, pt_czi, pt_add, pt_addL, pt_Ladd, pt_mul, pt_mulL, pt_Lmul, pt_sub, pt_subL, pt_Lsub, pt_rem, pt_le, pt_leL, pt_Lle, pt_lt, pt_ltL, pt_Llt, pt_eq, pt_eqL, pt_Leq, pt_m1, pt_lt0, pt_ge0, pt_m1lt0, pt_m1ge0, pt_10, pt_01, pt_00, pt_11, pt_m11, pt_0m1, pt_1m1, pt_ib, pt_ib1, pt_hs, pt_so, pt_ofNat, pt_si, pt_sin, pt_si1, pt_si2, pt_sl, pt_sln, pt_sl0, pt_sl2, pt_sr, pt_srn, pt_sr0, pt_sr1, if_true, if_false, ite_true, ite_false, not_true_eq_false, not_false_eq_true, hle, y1, z1, e0]
            generalize hκ9 : s_l (s_l (s_l (s_l (s_l (s_l (s_i κm 66 0 0) 89 0 v2.toInt64) 89 1 v3.toInt64) 89 2 v4.toInt64) 89 3 v5.toInt64) 89 4 0) 89 5 0 = κ9
            have gx : Fr (fun j _ => j = 9 ∨ j = 10) κx x2 := y4.tr (z2.mono (fun j i q => Or.inl q.1))
            have g9 : Fr (fun j i => j = 89 ∨ (j = 66 ∧ i = 0)) κm κ9 := by
              rw [← hκ9]
              exact ((((((Fr.si (Or.inr ⟨rfl, rfl⟩)).tr (Fr.sl (Or.inl rfl))).tr (Fr.sl (Or.inl rfl))).tr (Fr.sl (Or.inl rfl))).tr (Fr.sl (Or.inl rfl))).tr (Fr.sl (Or.inl rfl))).tr (Fr.sl (Or.inl rfl))
            have hn : ∀ k, k < 6 → κ9.2.1 89 k = nm6 v2.toInt64 v3.toInt64 v4.toInt64 v5.toInt64 (0 : Int32).toInt64 (0 : Int32).toInt64 k := by
              intro k hk
              rw [← hκ9]
              match k, hk with
              | 0, _ => simp (disch := omega) only [pt_lt_, pt_clsome, pt_ck, pt_ckL, pt_cl, pt_clL, pt_cz0, pt_cz1, pt_czi, pt_add, pt_addL, pt_Ladd, pt_mul, pt_mulL, pt_Lmul, pt_sub, pt_subL, pt_Lsub, pt_rem, pt_le, pt_leL, pt_Lle, pt_lt, pt_ltL, pt_Llt, pt_eq, pt_eqL, pt_Leq, pt_m1, pt_lt0, pt_ge0, pt_m1lt0, pt_m1ge0, pt_10, pt_01, pt_00, pt_11, pt_m11, pt_0m1, pt_1m1, pt_ib, pt_ib1, pt_hs, pt_so, pt_ofNat, pt_si, pt_sin, pt_si1, pt_si2, pt_sl, pt_sln, pt_sl0, pt_sl2, pt_sr, pt_srn, pt_sr0, pt_sr1, if_true, if_false, ite_true, ite_false, not_true_eq_false, not_false_eq_true, if_pos, if_neg]; rfl
              | 1, _ => simp (disch := omega) only [pt_lt_, pt_clsome, pt_ck, pt_ckL, pt_cl, pt_clL, pt_cz0, pt_cz1, pt_czi, pt_add, pt_addL, pt_Ladd, pt_mul, pt_mulL, pt_Lmul, pt_sub, pt_subL, pt_Lsub, pt_rem, pt_le, pt_leL, pt_Lle, pt_lt, pt_ltL, pt_Llt, pt_eq, pt_eqL, pt_Leq, pt_m1, pt_lt0, pt_ge0, pt_m1lt0, pt_m1ge0, pt_10, pt_01, pt_00, pt_11, pt_m11, pt_0m1, pt_1m1, pt_ib, pt_ib1, pt_hs, pt_so, pt_ofNat, pt_si, pt_sin, pt_si1, pt_si2, pt_sl, pt_sln, pt_sl0, pt_sl2, pt_sr, pt_srn, pt_sr0, pt_sr1, if_true, if_false, ite_true, ite_false, not_true_eq_false, not_false_eq_true, if_pos, if_neg]; rfl
              | 2, _ => simp (disch := omega) only [pt_lt_, pt_clsome, pt_ck, pt_ckL, pt_cl, pt_clL, pt_cz0, pt_cz1, pt_czi, pt_add, pt_addL, pt_Ladd, pt_mul, pt_mulL, pt_Lmul, pt_sub, pt_subL, pt_Lsub, pt_rem, pt_le, pt_leL, pt_Lle, pt_lt, pt_ltL, pt_Llt, pt_eq, pt_eqL, pt_Leq, pt_m1, pt_lt0, pt_ge0, pt_m1lt0, pt_m1ge0, pt_10, pt_01, pt_00, pt_11, pt_m11, pt_0m1, pt_1m1, pt_ib, pt_ib1, pt_hs, pt_so, pt_ofNat, pt_si, pt_sin, pt_si1, pt_si2, pt_sl, pt_sln, pt_sl0, pt_sl2, pt_sr, pt_srn, pt_sr0, pt_sr1, if_true, if_false, ite_true, ite_false, not_true_eq_false, not_false_eq_true, if_pos, if_neg]; rfl
              | 3, _ => simp (disch := omega) only [pt_lt_, pt_clsome, pt_ck, pt_ckL, pt_cl, pt_clL, pt_cz0, pt_cz1, pt_czi, pt_add, pt_addL, pt_Ladd, pt_mul, pt_mulL, pt_Lmul, pt_sub, pt_subL, pt_Lsub, pt_rem, pt_le, pt_leL, pt_Lle, pt_lt, pt_ltL, pt_Llt, pt_eq, pt_eqL, pt_Leq, pt_m1, pt_lt0, pt_ge0, pt_m1lt0, pt_m1ge0, pt_10, pt_01, pt_00, pt_11, pt_m11, pt_0m1, pt_1m1, pt_ib, pt_ib1, pt_hs, pt_so, pt_ofNat, pt_si, pt_sin, pt_si1, pt_si2, pt_sl, pt_sln, pt_sl0, pt_sl2, pt_sr, pt_srn, pt_sr0, pt_sr1, if_true, if_false, ite_true, ite_false, not_true_eq_false, not_false_eq_true, if_pos, if_neg]; rfl
              | 4, _ => simp (disch := omega) only [pt_lt_, pt_clsome, pt_ck, pt_ckL, pt_cl, pt_clL, pt_cz0, pt_cz1, pt_czi, pt_add, pt_addL, pt_Ladd, pt_mul, pt_mulL, pt_Lmul, pt_sub, pt_subL, pt_Lsub, pt_rem, pt_le, pt_leL, pt_Lle, pt_lt, pt_ltL, pt_Llt, pt_eq, pt_eqL, pt_Leq, pt_m1, pt_lt0, pt_ge0, pt_m1lt0, pt_m1ge0, pt_10, pt_01, pt_00, pt_11, pt_m11, pt_0m1, pt_1m1, pt_ib, pt_ib1, pt_hs, pt_so, pt_ofNat, pt_si, pt_sin, pt_si1, pt_si2, pt_sl, pt_sln, pt_sl0, pt_sl2, pt_sr, pt_srn, pt_sr0, pt_sr1, if_true, if_false, ite_true, ite_false, not_true_eq_false, not_false_eq_true, if_pos, if_neg]; exact (show (0 : Int64) = (0 : Int32).toInt64 by decide +kernel)
              | 5, _ => simp (disch := omega) only [pt_lt_, pt_clsome, pt_ck, pt_ckL, pt_cl, pt_clL, pt_cz0, pt_cz1, pt_czi, pt_add, pt_addL, pt_Ladd, pt_mul, pt_mulL, pt_Lmul, pt_sub, pt_subL, pt_Lsub, pt_rem, pt_le, pt_leL, pt_Lle, pt_lt, pt_ltL, pt_Llt, pt_eq, pt_eqL, pt_Leq, pt_m1, pt_lt0, pt_ge0, pt_m1lt0, pt_m1ge0, pt_10, pt_01, pt_00, pt_11, pt_m11, pt_0m1, pt_1m1, pt_ib, pt_ib1, pt_hs, pt_so, pt_ofNat, pt_si, pt_sin, pt_si1, pt_si2, pt_sl, pt_sln, pt_sl0, pt_sl2, pt_sr, pt_srn, pt_sr0, pt_sr1, if_true, if_false, ite_true, ite_false, not_true_eq_false, not_false_eq_true, if_pos, if_neg]; exact (show (0 : Int64) = (0 : Int32).toInt64 by decide +kernel)
              | k + 6, h => omega
            obtain ⟨m2, m3, m4⟩ := pm_goesV (F := F) (nm := nm6 v2.toInt64 v3.toInt64 v4.toInt64 v5.toInt64 (0 : Int32).toInt64 (0 : Int32).toInt64) hF (by omega : s < 12) (hsr.same (fun j i a b => (g9.1 j i (by omega)).1)) hn nm6_bd
            have fin : ∀ r : Int64, iLS hu hb κx κm (some (r, x2)) (some (r, m2)) := by
              intro r
              refine ⟨_, _, _, rfl, rfl, I.same (fun j i a b => (gx.1 j i (fun q => b (by unfold SX; omega))).1) (fun j i q => by rw [gx.2]) (fun j i a b => ?_), fun j i hj => gx.1 j i (by omega), fun j i hj => ?_, by rw [m3.2, g9.2]⟩
              · rw [(m3.1 j i (fun q => b (by unfold FL at q; unfold SM; omega))).1, (g9.1 j i (fun q => b (by unfold SM; omega))).1]
              · obtain ⟨w1, w2⟩ := m3.1 j i (by unfold FL; omega)
                obtain ⟨u1, u2⟩ := g9.1 j i (by omega)
                exact ⟨w1.trans u1, w2.trans u2⟩
            rcases z3 with ⟨z3, z4⟩ | ⟨z3, z4⟩
            · rcases m4 with ⟨v', u1, u2, u3⟩ | ⟨u1, u2⟩
              · rw [z3] at u1
                cases u1
                rw [u2, z4]
                simp (disch := omega) only [pt_lt_, pt_clsome, pt_ck, pt_ckL, pt_cl, pt_clL, pt_cz0, pt_cz1, pt_czi, pt_add, pt_addL, pt_Ladd, pt_mul, pt_mulL, pt_Lmul, pt_sub, pt_subL, pt_Lsub, pt_rem, pt_le, pt_leL, pt_Lle, pt_lt, pt_ltL, pt_Llt, pt_eq, pt_eqL, pt_Leq, pt_m1, pt_lt0, pt_ge0, pt_m1lt0, pt_m1ge0, pt_10, pt_01, pt_00, pt_11, pt_m11, pt_0m1, pt_1m1, pt_ib, pt_ib1, pt_hs, pt_so, pt_ofNat, pt_si, pt_sin, pt_si1, pt_si2, pt_sl, pt_sln, pt_sl0, pt_sl2, pt_sr, pt_srn, pt_sr0, pt_sr1, if_true, if_false, ite_true, ite_false, not_true_eq_false, not_false_eq_true, if_pos, if_neg, u3]
                exact fin v
              · rw [z3] at u1
                cases u1
            · rcases m4 with ⟨v', u1, u2, u3⟩ | ⟨u1, u2⟩
              · rw [z3] at u1
                cases u1
              · rw [u2, z4]
                simp (disch := omega) only [pt_lt_, pt_clsome, pt_ck, pt_ckL, pt_cl, pt_clL, pt_cz0, pt_cz1, pt_czi, pt_add, pt_addL, pt_Ladd, pt_mul, pt_mulL, pt_Lmul, pt_sub, pt_subL, pt_Lsub, pt_rem, pt_le, pt_leL, pt_Lle, pt_lt, pt_ltL, pt_Llt, pt_eq, pt_eqL, pt_Leq, pt_m1, pt_lt0, pt_ge0, pt_m1lt0, pt_m1ge0, pt_10, pt_01, pt_00, pt_11, pt_m11, pt_0m1, pt_1m1, pt_ib, pt_ib1, pt_hs, pt_so, pt_ofNat, pt_si, pt_sin, pt_si1, pt_si2, pt_sl, pt_sln, pt_sl0, pt_sl2, pt_sr, pt_srn, pt_sr0, pt_sr1, if_true, if_false, ite_true, ite_false, not_true_eq_false, not_false_eq_true, if_pos, if_neg]
                exact fin _
        · rw [if_neg q5, if_neg q5]
          exact no
      · rw [if_neg q4, if_neg q4]
        exact no
    · rw [if_neg q3, if_neg q3]
      exact no
  · rw [if_neg q2, if_neg q2]
    exact no
theorem px_law_no {hb : Nat} {hu : hd_T} {κ : kp_K} {v2 v3 v4 v5 : Int32} : bX1_law_30 hb hu κ v2 v3 v4 v5 none = some ((-9223372036854775808 : Int64), κ) := by
  have h : ∀ s, bX1_law_83 hb hu κ v2 v3 v4 v5 none s = some ((-9223372036854775808 : Int64), κ) := fun s => rfl
  unfold bX1_law_30 bX1_law_82
  simp only [h, px_isIn, pt_clsome, ite_self]
theorem ls_law {F : Nat} {hu : hd_T} {hb : Nat} {κx κm : kp_K} (hF : 80 ≤ F) (I : INV hu hb κx κm) (v1 v2 v3 v4 v5 : Int32) : iLS hu hb κx κm (pX1_law hb hu κx v1 v2 v3 v4 v5) (pX6_law F κm v1 v2 v3 v4 v5) := by
  have no : iLS hu hb κx κm (some ((-9223372036854775808 : Int64), κx)) (some ((-9223372036854775808 : Int64), s_i κm 66 0 0)) := ⟨_, _, _, rfl, rfl, I.th, fun _ _ _ => ⟨rfl, rfl⟩, MF0⟩
  have hM := I.2.1
  have hs := I.2.2.1
  unfold pX1_law
  by_cases h0 : v1 = 0
  · rw [if_pos h0, hs, pt_hs, h0]
    exact ls_law1 (s := 0) hF I (by omega) hM.2.2.2.2.2.2.2.2.2.1 v2 v3 v4 v5
  · rw [if_neg h0]
    by_cases h1 : v1 = 1
    · rw [if_pos h1, hs, pt_hs, h1]
      exact ls_law1 (s := 1) hF I (by omega) hM.2.2.2.2.2.2.2.2.2.2.1 v2 v3 v4 v5
    · rw [if_neg h1, px_law_no]
      unfold pX6_law
      simp only [pt_lt_]
      by_cases h2 : v1 < 0
      · rw [if_pos h2]
        exact no
      · rw [if_neg h2]
        by_cases h3 : (1 : Int32) < v1
        · rw [if_pos h3]
          exact no
        · exfalso
          obtain ⟨j, hj, rfl⟩ := nI_of2 (M := 1) (n := 1) (by decide) h2 (Int32.not_lt.mp h3)
          rcases (show j = 0 ∨ j = 1 by omega) with rfl | rfl
          · exact h0 rfl
          · exact h1 rfl
