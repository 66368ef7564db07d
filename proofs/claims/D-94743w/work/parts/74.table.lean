/-! PURE LAYER: the table of shares, whole -/
set_option maxRecDepth 100000
/-- the rows from one on -/
def TBL (F N nF : Nat) (W : Nat → Nat → Int32) (k : Nat) (κx κm : kp_K) : Prop :=
  (∀ g, k ≤ g → g ≤ nF → ∀ e, e < 2401 → κx.1 62 (2401 * g + e) = κm.1 112 (2401 * g + e) ∧ ¬ κx.1 62 (2401 * g + e) < 0) ∧ ∀ g, k ≤ g → g < nF → ∀ e, e < 2401 → ATT F (W g) N g κx e
theorem tz_all {F hb n nF : Nat} {hu : hd_T} {v1 : Int32} {W : Nat → Nat → Int32} (hF : 3000 ≤ F) (hF7 : nF ≤ 7) (hn : hu.2.1 0 = n) (hn4 : n ≤ 4) (hW0 : ∀ f, f < nF → W f 0 = 0) (hk0 : ∀ e, e < 2401 → pX1_keeping F (nI e) (nI 0) = some (nI e)) (hWx : ∀ f, f < nF → ∀ c, c < 2 ^ n → ∀ κ : kp_K, κ.2.2 0 4 = some hb → pX1_shareOf F hb hu κ (nI f) (nI c) v1 = some (W f c)) (hWm : ∀ f, f < nF → ∀ c, c < 2 ^ n → ∀ κ : kp_K, MT hu κ → pX6_worthBy F κ (nI f) (nI c) v1 = some (W f c)) : ∀ k, k ≤ nF → ∀ fx fm, k < fx → k < fm → ∀ κx κm : kp_K, κx.2.2 0 4 = some hb → MT hu κm → TBL F (2 ^ n) nF W k κx κm → ∃ κx' κm', bX1_layShares_43 F hb hu fx κx v1 (nI k - 1) = some κx' ∧ bX6_layShares_42 F fm κm v1 (nI k - 1) = some κm' ∧ TBL F (2 ^ n) nF W 0 κx' κm' ∧ Fr (fun j _ => j = 62) κx κx' ∧ Fr (fun j _ => j = 112) κm κm' := by
  have hp := (full_pc hn4).2
  intro k
  induction k with
  | zero =>
    intro hk fx fm hfx hfm κx κm hs hM hT
    obtain ⟨fx, rfl⟩ : ∃ f', fx = f' + 1 := ⟨fx - 1, by omega⟩
    obtain ⟨fm, rfl⟩ : ∃ f', fm = f' + 1 := ⟨fm - 1, by omega⟩
    have e : nI 0 - 1 = -1 := by decide
    rw [e, bX1_layShares_43, bX6_layShares_42]
    simp (disch := omega) only [pt_lt_, pt_clsome, pt_ck, pt_ckL, pt_cl, pt_clL, pt_cz0, pt_cz1, pt_czi, pt_add, pt_addL, pt_Ladd, pt_mul, pt_mulL, pt_Lmul, pt_sub, pt_subL, pt_Lsub, pt_rem, pt_le, pt_leL, pt_Lle, pt_lt, pt_ltL, pt_Llt, pt_eq, pt_eqL, pt_Leq, pt_m1, pt_lt0, pt_ge0, pt_m1lt0, pt_m1ge0, pt_10, pt_01, pt_00, pt_11, pt_m11, pt_0m1, pt_1m1, pt_ib, pt_ib1, pt_hs, pt_so, pt_ofNat, pt_si, pt_sin, pt_si1, pt_si2, pt_sl, pt_sln, pt_sl0, pt_sl2, pt_sr, pt_srn, pt_sr0, pt_sr1, if_true, if_false, ite_true, ite_false, not_true_eq_false, not_false_eq_true, if_pos, if_neg]
    exact ⟨κx, κm, rfl, rfl, hT, Fr.rf, Fr.rf⟩
  | succ k ih =>
    intro hk fx fm hfx hfm κx κm hs hM hT
    obtain ⟨fx, rfl⟩ : ∃ f', fx = f' + 1 := ⟨fx - 1, by omega⟩
    obtain ⟨fm, rfl⟩ : ∃ f', fm = f' + 1 := ⟨fm - 1, by omega⟩
    have n1 : ¬ nI k < 0 := by rw [pt_lt0 (by omega)]; exact id
    rw [nI_pred9, bX1_layShares_43, bX6_layShares_42, if_neg n1, if_neg n1]
    obtain ⟨x1, m1, a1, a2, a3, a4, a5⟩ := tz_row (F := F) (hb := hb) (hu := hu) (v1 := v1) (f := k) (k43 := bX1_layShares_43 F hb hu fx) (k42 := bX6_layShares_42 F fm) (by omega) 2401 0 (by omega) F F (by omega) (by omega) κx κm
    have a1' : bX1_layShares_50 F hb hu (bX1_layShares_43 F hb hu fx) F κx v1 (nI k) 0 = _ := a1
    have a2' : bX6_layShares_48 F (bX6_layShares_42 F fm) F κm v1 (nI k) 0 = _ := a2
    rw [a1', a2']
    have gx : ∀ g e, k + 1 ≤ g → x1.1 62 (2401 * g + e) = κx.1 62 (2401 * g + e) := fun g e hg => (a4.1 62 _ (by omega)).1
    have gm : ∀ g e, k + 1 ≤ g → m1.1 112 (2401 * g + e) = κm.1 112 (2401 * g + e) := fun g e hg => (a5.1 112 _ (by omega)).1
    obtain ⟨x2, m2, b1, b2, b3, b4, b5, b6, b7⟩ := tz_sets (F := F) (hb := hb) (hu := hu) (f := k) (n := n) (v1 := v1) (W := W k) (k43 := bX1_layShares_43 F hb hu fx) (k42 := bX6_layShares_42 F fm) hF (by omega) hn hn4 (hW0 k (by omega)) hk0 (hWx k (by omega)) (hWm k (by omega)) (2 ^ n) 0 (by omega) F F (by omega) (by omega) x1 m1 (by rw [a4.2]; exact hs) (hM.same (fun j i p q => (a5.1 j i (by omega)).1)) (fun e he => by rw [(a3 e (by omega) he).1, (a3 e (by omega) he).2]) (fun e he => by rw [gx _ _ (Nat.le_refl _), gm _ _ (Nat.le_refl _)]; exact (hT.1 (k + 1) (by omega) hk e he).1) (fun e he => by rw [gx _ _ (Nat.le_refl _)]; exact (hT.1 (k + 1) (by omega) hk e he).2) (fun e he => by rw [(a3 e (by omega) he).1]; decide) (fun e he => Or.inl ⟨rfl, (a3 e (by omega) he).1⟩)
    have b1' : bX1_layShares_81 F hb hu (bX1_layShares_43 F hb hu fx) F x1 v1 (nI k) 0 = _ := b1
    have b2' : bX6_layShares_76 F (bX6_layShares_42 F fm) F m1 v1 (nI k) 0 = _ := b2
    rw [b1', b2', nI_m1]
    have gx2 : ∀ g e, k + 1 ≤ g → x2.1 62 (2401 * g + e) = κx.1 62 (2401 * g + e) := fun g e hg => (b6.1 62 _ (by omega)).1.trans (gx g e hg)
    have gm2 : ∀ g e, k + 1 ≤ g → m2.1 112 (2401 * g + e) = κm.1 112 (2401 * g + e) := fun g e hg => (b7.1 112 _ (by omega)).1.trans (gm g e hg)
    obtain ⟨x3, m3, c1, c2, c3, c4, c5⟩ := ih (by omega) fx fm (by omega) (by omega) x2 m2 (by rw [b6.2, a4.2]; exact hs) (hM.same (fun j i p q => (b7.1 j i (by omega)).1.trans (a5.1 j i (by omega)).1)) ⟨fun g g1 g2 e he => by
      by_cases h : g = k
      · subst h
        exact ⟨b3 e he, b4 e he⟩
      · rw [gx2 g e (by omega), gm2 g e (by omega)]
        exact hT.1 g (by omega) g2 e he, fun g g1 g2 e he => by
      by_cases h : g = k
      · subst h
        exact b5 e he
      · obtain ⟨c, z, w1, w2, w3, w4⟩ := hT.2 g (by omega) g2 e he
        exact ⟨c, z, w1, w2, w3, by rw [gx2 g e (by omega), gx2 (g + 1) z (by omega)]; exact w4⟩⟩
    exact ⟨x3, m3, c1, c2, c3, (a4.mono (fun j k q => q.1)).tr ((b6.mono (fun j k q => q.1)).tr c4), (a5.mono (fun j k q => q.1)).tr ((b7.mono (fun j k q => q.1)).tr c5)⟩
