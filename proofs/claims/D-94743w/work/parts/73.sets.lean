/-! PURE LAYER: the table of shares: all sets of desks for one fact -/
set_option maxRecDepth 100000
/-- an entry is reached by some set -/
def ATT (F : Nat) (W : Nat → Int32) (N f : Nat) (κ : kp_K) (e : Nat) : Prop := ∃ c z : Nat, c < N ∧ pX1_keeping F (nI e) (nI c) = some (nI z) ∧ z ≤ e ∧ κ.1 62 (2401 * f + e) = W c + κ.1 62 (2401 * (f + 1) + z)
theorem tz_sets {F hb f n : Nat} {hu : hd_T} {v1 : Int32} {W : Nat → Int32} {k43 k42 : kp_K → Int32 → Int32 → Option kp_K} (hF : 3000 ≤ F) (hf : f < 7) (hn : hu.2.1 0 = n) (hn4 : n ≤ 4) (hW0 : W 0 = 0) (hk0 : ∀ e, e < 2401 → pX1_keeping F (nI e) (nI 0) = some (nI e)) (hWx : ∀ c, c < 2 ^ n → ∀ κ : kp_K, κ.2.2 0 4 = some hb → pX1_shareOf F hb hu κ (nI f) (nI c) v1 = some (W c)) (hWm : ∀ c, c < 2 ^ n → ∀ κ : kp_K, MT hu κ → pX6_worthBy F κ (nI f) (nI c) v1 = some (W c)) : ∀ m c, c + m = 2 ^ n → ∀ fx fm, m < fx → m < fm → ∀ κx κm : kp_K, κx.2.2 0 4 = some hb → MT hu κm → (∀ e, e < 2401 → κx.1 62 (2401 * f + e) = κm.1 112 (2401 * f + e)) → (∀ e, e < 2401 → κx.1 62 (2401 * (f + 1) + e) = κm.1 112 (2401 * (f + 1) + e)) → (∀ e, e < 2401 → ¬ κx.1 62 (2401 * (f + 1) + e) < 0) → (∀ e, e < 2401 → ¬ κx.1 62 (2401 * f + e) < 0) → (∀ e, e < 2401 → (c = 0 ∧ κx.1 62 (2401 * f + e) = 0) ∨ ATT F W (2 ^ n) f κx e) → ∃ κx' κm', bX1_layShares_81 F hb hu k43 fx κx v1 (nI f) (nI c) = k43 κx' v1 (nI f + -1) ∧ bX6_layShares_76 F k42 fm κm v1 (nI f) (nI c) = k42 κm' v1 (nI f + -1) ∧ (∀ e, e < 2401 → κx'.1 62 (2401 * f + e) = κm'.1 112 (2401 * f + e)) ∧ (∀ e, e < 2401 → ¬ κx'.1 62 (2401 * f + e) < 0) ∧ (∀ e, e < 2401 → ATT F W (2 ^ n) f κx' e) ∧ Fr (fun j k => j = 62 ∧ 2401 * f ≤ k ∧ k < 2401 * f + 2401) κx κx' ∧ Fr (fun j k => j = 112 ∧ 2401 * f ≤ k ∧ k < 2401 * f + 2401) κm κm' := by
  have hp := (full_pc hn4).2
  intro m
  induction m with
  | zero =>
    intro c hc fx fm hfx hfm κx κm hs hM h0 h1 h2 h3 h4
    obtain ⟨fx, rfl⟩ : ∃ f', fx = f' + 1 := ⟨fx - 1, by omega⟩
    obtain ⟨fm, rfl⟩ : ∃ f', fm = f' + 1 := ⟨fm - 1, by omega⟩
    have e68 := hM.1 0 (by omega)
    rw [hn] at e68
    have hle : nI (2 ^ n) ≤ nI c := by
      generalize 2 ^ n = p at *
      simp (disch := omega) only [pt_lt_, pt_clsome, pt_ck, pt_ckL, pt_cl, pt_clL, pt_cz0, pt_cz1, pt_czi, pt_add, pt_addL, pt_Ladd, pt_mul, pt_mulL, pt_Lmul, pt_sub, pt_subL, pt_Lsub, pt_rem, pt_le, pt_leL, pt_Lle, pt_lt, pt_ltL, pt_Llt, pt_eq, pt_eqL, pt_Leq, pt_m1, pt_lt0, pt_ge0, pt_m1lt0, pt_m1ge0, pt_10, pt_01, pt_00, pt_11, pt_m11, pt_0m1, pt_1m1, pt_ib, pt_ib1, pt_hs, pt_so, pt_ofNat, pt_si, pt_sin, pt_si1, pt_si2, pt_sl, pt_sln, pt_sl0, pt_sl2, pt_sr, pt_srn, pt_sr0, pt_sr1, if_true, if_false, ite_true, ite_false, not_true_eq_false, not_false_eq_true, if_pos, if_neg]
      omega
    rw [bX1_layShares_81, bX6_layShares_76]
    unfold pX1_desks
    simp (disch := omega) only [pt_lt_, pt_clsome, pt_ck, pt_ckL, pt_cl, pt_clL, pt_cz0, pt_cz1, pt_czi, pt_add, pt_addL, pt_Ladd, pt_mul, pt_mulL, pt_Lmul, pt_sub, pt_subL, pt_Lsub, pt_rem, pt_leL, pt_Lle, pt_lt, pt_ltL, pt_Llt, pt_eq, pt_eqL, pt_Leq, pt_m1, pt_lt0, pt_ge0, pt_m1lt0, pt_m1ge0, pt_10, pt_01, pt_00, pt_11, pt_m11, pt_0m1, pt_1m1, pt_ib, pt_ib1, pt_hs, pt_so, pt_ofNat, pt_si, pt_sin, pt_si1, pt_si2, pt_sl, pt_sln, pt_sl0, pt_sl2, pt_sr, pt_srn, pt_sr0, pt_sr1, if_true, if_false, ite_true, ite_false, not_true_eq_false, not_false_eq_true, hs, hn, e68, shl32 (by omega : n ≤ 7)]
    rw [if_pos hle, if_pos hle]
    refine ⟨κx, κm, rfl, rfl, h0, h3, fun e he => ?_, Fr.rf, Fr.rf⟩
    rcases h4 e he with ⟨q, -⟩ | q
    · omega
    · exact q
  | succ m ih =>
    intro c hc fx fm hfx hfm κx κm hs hM h0 h1 h2 h3 h4
    obtain ⟨fx, rfl⟩ : ∃ f', fx = f' + 1 := ⟨fx - 1, by omega⟩
    obtain ⟨fm, rfl⟩ : ∃ f', fm = f' + 1 := ⟨fm - 1, by omega⟩
    have e68 := hM.1 0 (by omega)
    rw [hn] at e68
    have hcl : c < 2 ^ n := by omega
    have hle : ¬ nI (2 ^ n) ≤ nI c := by
      generalize 2 ^ n = p at *
      simp (disch := omega) only [pt_lt_, pt_clsome, pt_ck, pt_ckL, pt_cl, pt_clL, pt_cz0, pt_cz1, pt_czi, pt_add, pt_addL, pt_Ladd, pt_mul, pt_mulL, pt_Lmul, pt_sub, pt_subL, pt_Lsub, pt_rem, pt_le, pt_leL, pt_Lle, pt_lt, pt_ltL, pt_Llt, pt_eq, pt_eqL, pt_Leq, pt_m1, pt_lt0, pt_ge0, pt_m1lt0, pt_m1ge0, pt_10, pt_01, pt_00, pt_11, pt_m11, pt_0m1, pt_1m1, pt_ib, pt_ib1, pt_hs, pt_so, pt_ofNat, pt_si, pt_sin, pt_si1, pt_si2, pt_sl, pt_sln, pt_sl0, pt_sl2, pt_sr, pt_srn, pt_sr0, pt_sr1, if_true, if_false, ite_true, ite_false, not_true_eq_false, not_false_eq_true, if_pos, if_neg]
      omega
    rw [bX1_layShares_81, bX6_layShares_76]
    unfold pX1_desks
    simp (disch := omega) only [pt_lt_, pt_clsome, pt_ck, pt_ckL, pt_cl, pt_clL, pt_cz0, pt_cz1, pt_czi, pt_add, pt_addL, pt_Ladd, pt_mul, pt_mulL, pt_Lmul, pt_sub, pt_subL, pt_Lsub, pt_rem, pt_leL, pt_Lle, pt_lt, pt_ltL, pt_Llt, pt_eq, pt_eqL, pt_Leq, pt_m1, pt_lt0, pt_ge0, pt_m1lt0, pt_m1ge0, pt_10, pt_01, pt_00, pt_11, pt_m11, pt_0m1, pt_1m1, pt_ib, pt_ib1, pt_hs, pt_so, pt_ofNat, pt_si, pt_sin, pt_si1, pt_si2, pt_sl, pt_sln, pt_sl0, pt_sl2, pt_sr, pt_srn, pt_sr0, pt_sr1, if_true, if_false, ite_true, ite_false, not_true_eq_false, not_false_eq_true, hs, hn, e68, shl32 (by omega : n ≤ 7), hWx c hcl κx hs, hWm c hcl κm hM]
    rw [if_neg hle, if_neg hle]
    obtain ⟨x1, m1, a1, a2, a3, a4, a5, a6⟩ := tz_set (F := F) (hb := hb) (hu := hu) (v1 := v1) (v4 := nI c) (t := W c) (k43 := k43) (k42 := k42) (k81 := bX1_layShares_81 F hb hu k43 fx) (k76 := bX6_layShares_76 F k42 fm) (by omega) hf 2401 0 (by omega) F F (by omega) (by omega) κx κm h0 h1
    have a1' : bX1_layShares_105 F hb hu k43 (bX1_layShares_81 F hb hu k43 fx) F κx v1 (nI f) (nI c) (W c) 0 = _ := a1
    have a2' : bX6_layShares_100 F k42 (bX6_layShares_76 F k42 fm) F κm v1 (nI f) (nI c) (W c) 0 = _ := a2
    rw [a1', a2', pt_addL]
    have gx : ∀ e, x1.1 62 (2401 * (f + 1) + e) = κx.1 62 (2401 * (f + 1) + e) := fun e => (a5.1 62 _ (by omega)).1
    have gm : ∀ e, m1.1 112 (2401 * (f + 1) + e) = κm.1 112 (2401 * (f + 1) + e) := fun e => (a6.1 112 _ (by omega)).1
    obtain ⟨x2, m2, b1, b2, b3, b4, b5, b6, b7⟩ := ih (c + 1) (by omega) fx fm (by omega) (by omega) x1 m1 (by rw [a5.2]; exact hs) (hM.same (fun j i p q => (a6.1 j i (by omega)).1)) a3 (fun e he => by rw [gx, gm]; exact h1 e he) (fun e he => by rw [gx]; exact h2 e he) (fun e he => by
      obtain ⟨r, -, q⟩ := a4 e (Nat.zero_le e) he
      rcases q with ⟨-, q⟩ | ⟨z, -, -, q⟩
      · rw [q]; exact h3 e he
      · rw [q]
        split
        · rename_i w
          intro w2
          exact h3 e he (Int32.lt_trans w w2)
        · exact h3 e he) (fun e he => by
      obtain ⟨r, r1, q⟩ := a4 e (Nat.zero_le e) he
      right
      rcases h4 e he with ⟨rfl, w⟩ | ⟨c', z', w1, w2, w3, w4⟩
      · -- the empty set
        rw [hk0 e he] at r1
        cases r1
        rcases q with ⟨q, -⟩ | ⟨z, z1, q1, q2⟩
        · rw [pt_m1 (by omega)] at q
          exact q.elim
        · rw [pt_eq (by omega) (by omega)] at q1
          subst q1
          refine ⟨0, e, hcl, hk0 e he, Nat.le_refl e, ?_⟩
          rw [gx, q2, w, hW0, Int32.zero_add]
          split
          · rfl
          · rename_i w2
            have w3 := h2 e he
            rw [Int32.lt_iff_toInt_lt] at w2 w3
            refine Int32.toInt_inj.mp ?_
            have : (0 : Int32).toInt = 0 := by decide
            omega
      · rcases q with ⟨-, q⟩ | ⟨z, z1, q1, q2⟩
        · exact ⟨c', z', w1, w2, w3, by rw [gx, q]; exact w4⟩
        · by_cases w5 : κx.1 62 (2401 * f + e) < W c + κx.1 62 (2401 * (f + 1) + z)
          · rw [if_pos w5] at q2
            subst q1
            exact ⟨c, z, hcl, r1, z1, by rw [gx, q2]⟩
          · rw [if_neg w5] at q2
            exact ⟨c', z', w1, w2, w3, by rw [gx, q2]; exact w4⟩)
    exact ⟨x2, m2, b1, b2, b3, b4, b5, (a5.mono (fun j k q => by omega)).tr b6, (a6.mono (fun j k q => by omega)).tr b7⟩
