/-! PURE LAYER: where two rumours differ, in lock step -/
set_option maxRecDepth 100000
theorem hoW_lt {hu : hd_T} {x y d : Nat} (hxy : ¬ x = y) (hx : x < 4) (hy : y < 4) : (hoW hu x y d < 0) = (hoW hu x y d = -1) := by
  rcases hoW_eq (hu := hu) (d := d) hxy with ⟨-, -, h⟩ | ⟨k, -, -, h⟩ | ⟨k, -, -, h⟩
  · rw [h]
    simp
  · rw [h, pt_lt0 (by omega), pt_m1 (by omega)]
  · rw [h, pt_lt0 (by omega), pt_m1 (by omega)]
theorem differ_loop {F hb x y : Nat} {hu : hd_T} {κx κm : kp_K} {v3 : Int32} (hF : 80 ≤ F) (hT : TW hu) (hM : MT hu κm) (hs : κx.2.2 0 4 = some hb) (hx : x < 4) (hy : y < 4) (hxy : ¬ x = y) : ∀ m i, i + m = hu.2.1 0 → ∀ fx fm, m < fx → m < fm → ∃ z, bX1_differ_35 F hb hu fx κx (nI x) (nI y) v3 (nI i) = some z ∧ bX6_differ_40 F fm κm (nI x) (nI y) v3 (nI i) = some (z, κm) := by
  have t0 := hT.1.1
  intro m
  induction m with
  | zero =>
    intro i hi fx fm hfx hfm
    obtain ⟨fx, rfl⟩ : ∃ f', fx = f' + 1 := ⟨fx - 1, by omega⟩
    obtain ⟨fm, rfl⟩ : ∃ f', fm = f' + 1 := ⟨fm - 1, by omega⟩
    have hle : hu.2.1 0 ≤ i := by omega
    rw [bX1_differ_35, bX6_differ_40]
    unfold pX1_desks
    simp (disch := omega) only [pt_lt_, pt_clsome, pt_ck, pt_ckL, pt_cl, pt_clL, pt_cz0, pt_cz1, pt_czi, pt_add, pt_addL, pt_Ladd, pt_mul, pt_mulL, pt_Lmul, pt_sub, pt_subL, pt_Lsub, pt_rem, pt_le, pt_leL, pt_Lle, pt_lt, pt_ltL, pt_Llt, pt_eq, pt_eqL, pt_Leq, pt_m1, pt_lt0, pt_ge0, pt_m1lt0, pt_m1ge0, pt_10, pt_01, pt_00, pt_11, pt_m11, pt_0m1, pt_1m1, pt_ib, pt_ib1, pt_hs, pt_so, pt_ofNat, pt_si, pt_sin, pt_si1, pt_si2, pt_sl, pt_sln, pt_sl0, pt_sl2, pt_sr, pt_srn, pt_sr0, pt_sr1, if_true, if_false, ite_true, ite_false, not_true_eq_false, not_false_eq_true, if_pos, if_neg, hs, hM.1 0 (by omega), hle]
    exact ⟨_, rfl, rfl⟩
  | succ m ih =>
    intro i hi fx fm hfx hfm
    obtain ⟨fx, rfl⟩ : ∃ f', fx = f' + 1 := ⟨fx - 1, by omega⟩
    obtain ⟨fm, rfl⟩ : ∃ f', fm = f' + 1 := ⟨fm - 1, by omega⟩
    have next := ih (i + 1) (by omega) fx fm (by omega) (by omega)
    have hd : i < hu.2.1 0 := by omega
    have hle : ¬ hu.2.1 0 ≤ i := by omega
    have e71 := (hM.2.2.2.1 i hd).2.2
    rw [bX1_differ_35, bX6_differ_40]
    unfold pX1_desks pX1_asks
    simp (disch := omega) only [pt_lt_, pt_clsome, pt_ck, pt_ckL, pt_cl, pt_clL, pt_cz0, pt_cz1, pt_czi, pt_add, pt_addL, pt_Ladd, pt_mul, pt_mulL, pt_Lmul, pt_sub, pt_subL, pt_Lsub, pt_rem, pt_le, pt_leL, pt_Lle, pt_lt, pt_ltL, pt_Llt, pt_eq, pt_eqL, pt_Leq, pt_m1, pt_lt0, pt_ge0, pt_m1lt0, pt_m1ge0, pt_10, pt_01, pt_00, pt_11, pt_m11, pt_0m1, pt_1m1, pt_ib, pt_ib1, pt_hs, pt_so, pt_ofNat, pt_si, pt_sin, pt_si1, pt_si2, pt_sl, pt_sln, pt_sl0, pt_sl2, pt_sr, pt_srn, pt_sr0, pt_sr1, if_true, if_false, ite_true, ite_false, not_true_eq_false, not_false_eq_true, hs, hM.1 0 (by omega), hle, e71]
    rcases asA_of hT hd with ⟨h1, h2⟩ | ⟨a, h1, h2, h3, h4⟩
    · rw [h2]
      simp (disch := omega) only [pt_lt_, pt_clsome, pt_ck, pt_ckL, pt_cl, pt_clL, pt_cz0, pt_cz1, pt_czi, pt_add, pt_addL, pt_Ladd, pt_mul, pt_mulL, pt_Lmul, pt_sub, pt_subL, pt_Lsub, pt_rem, pt_le, pt_leL, pt_Lle, pt_lt, pt_ltL, pt_Llt, pt_eq, pt_eqL, pt_Leq, pt_m1, pt_lt0, pt_ge0, pt_m1lt0, pt_m1ge0, pt_10, pt_01, pt_00, pt_11, pt_m11, pt_0m1, pt_1m1, pt_ib, pt_ib1, pt_hs, pt_so, pt_ofNat, pt_si, pt_sin, pt_si1, pt_si2, pt_sl, pt_sln, pt_sl0, pt_sl2, pt_sr, pt_srn, pt_sr0, pt_sr1, if_true, if_false, ite_true, ite_false, not_true_eq_false, not_false_eq_true, if_pos, if_neg]
      exact next
    · rw [h4]
      have g0 : 0 ≤ a := Nat.zero_le a
      rw [px_holds hF hT hs hx hy hxy hd, px_holds hF hT hs hx hy hxy h1, pm_ends hF hT hM hx hy hd, pm_ends hF hT hM hx hy h1]
      simp (disch := omega) only [pt_lt_, pt_clsome, pt_ck, pt_ckL, pt_cl, pt_clL, pt_cz0, pt_cz1, pt_czi, pt_add, pt_addL, pt_Ladd, pt_mul, pt_mulL, pt_Lmul, pt_sub, pt_subL, pt_Lsub, pt_rem, pt_le, pt_leL, pt_Lle, pt_lt, pt_ltL, pt_Llt, pt_eq, pt_eqL, pt_Leq, pt_m1, pt_lt0, pt_ge0, pt_m1lt0, pt_m1ge0, pt_10, pt_01, pt_00, pt_11, pt_m11, pt_0m1, pt_1m1, pt_ib, pt_ib1, pt_hs, pt_so, pt_ofNat, pt_si, pt_sin, pt_si1, pt_si2, pt_sl, pt_sln, pt_sl0, pt_sl2, pt_sr, pt_srn, pt_sr0, pt_sr1, if_true, if_false, ite_true, ite_false, not_true_eq_false, not_false_eq_true, hoW_lt hxy hx hy, g0]
      by_cases q1 : hoW hu x y i = -1
      · rw [if_pos q1, if_pos q1]; exact next
      · rw [if_neg q1, if_neg q1]
        by_cases q2 : hoW hu x y a = -1
        · rw [if_pos q2, if_pos q2]; exact next
        · rw [if_neg q2, if_neg q2]
          by_cases q3 : hoW hu x y i = hoW hu x y a
          · rw [if_pos q3, if_pos q3]; exact next
          · rw [if_neg q3, if_neg q3]
            by_cases q4 : v3 = 0
            · rw [if_pos q4, if_pos q4]; exact ⟨_, rfl, rfl⟩
            · rw [if_neg q4, if_neg q4]; exact ⟨_, rfl, rfl⟩
theorem ls_differ {F : Nat} {hu : hd_T} {hb : Nat} {κx κm : kp_K} (hF : 80 ≤ F) (I : INV hu hb κx κm) (v1 v2 v3 : Int32) : iLR hu hb κx κm (pX1_differ F hb hu κx v1 v2 v3) (pX6_differ F κm v1 v2 v3) := by
  obtain ⟨hT, hM, hs, -⟩ := id I
  have hM' := (I.th (v := 0)).2.1
  have t0 := hT.1.1
  have done : ∀ z : Int32, iLR hu hb κx κm (some z) (some (z, s_i κm 66 0 0)) := fun z => ⟨_, _, rfl, rfl, I.th, MF0⟩
  unfold pX1_differ pX6_differ
  simp only [pt_lt_, px_isDesk hs t0, pm_isDesk hM', pt_clsome, pt_ib, ite_not, px_isIn]
  by_cases h1 : 0 ≤ v1 ∧ v1 < nI (hu.2.1 0)
  · rw [if_pos h1, if_pos h1]
    by_cases h2 : 0 ≤ v2 ∧ v2 < nI (hu.2.1 0)
    · rw [if_pos h2, if_pos h2]
      obtain ⟨x, hx, rfl⟩ := below h1 (by omega)
      obtain ⟨y, hy, rfl⟩ := below h2 (by omega)
      by_cases hxy : nI x = nI y
      · rw [if_pos hxy, if_pos hxy]
        exact done _
      · rw [if_neg hxy, if_neg hxy]
        have hxy' : ¬ x = y := fun q => hxy (by rw [q])
        by_cases h3 : v3 < 0
        · rw [if_pos h3, if_neg (fun q => Int32.not_le.mpr h3 q.1)]
          exact done _
        · rw [if_neg h3]
          by_cases h4 : v3 ≤ 1
          · rw [if_pos h4, if_pos ⟨Int32.not_lt.mp h3, h4⟩]
            obtain ⟨z, z1, z2⟩ := differ_loop (F := F) (v3 := v3) hF hT hM' hs (by omega : x < 4) (by omega : y < 4) hxy' (hu.2.1 0) 0 (by omega) F F (by omega) (by omega)
            have z1' : bX1_differ_35 F hb hu F κx (nI x) (nI y) v3 0 = some z := z1
            have z2' : bX6_differ_40 F F (s_i κm 66 0 0) (nI x) (nI y) v3 0 = some (z, s_i κm 66 0 0) := z2
            rw [z1', z2']
            exact done _
          · rw [if_neg h4, if_neg (fun q => h4 q.2)]
            exact done _
    · rw [if_neg h2, if_neg h2]
      exact done _
  · rw [if_neg h1, if_neg h1]
    exact done _
