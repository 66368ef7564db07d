/-! PURE LAYER: the fewest desks that keep a fact's worth -/
set_option maxRecDepth 100000
theorem cn_le {hu : hd_T} {f : Nat} : ∀ m i, cnF hu f i m ≤ m := by
  intro m
  induction m with
  | zero => intro i; exact Nat.le_refl 0
  | succ m ih =>
    intro i
    rw [cnF]
    have := ih (i + 1)
    split <;> omega
theorem if_min {x y : Nat} : (if x < y then nI x else nI y) = nI (min x y) := by
  split <;> congr 1 <;> omega
theorem few_in {F hb f n p w : Nat} {hu : hd_T} {κx κm : kp_K} {z0 v1 : Int32} {kX : kp_K → Int32 → Int32 → Int32 → Option Int32} {kM : kp_K → Int32 → Int32 → Option (Int32 × kp_K)} (hF : 80 ≤ F) (hT : TW hu) (hM : MT hu κm) (hs : κx.2.2 0 4 = some hb) (hf : f < hu.2.1 1) (hn : hu.2.1 0 = n) (hp : 2 ^ n = p + 1) (hw : hu.1 11 f = nI w) (hw9 : w ≤ 99) (hz0 : pX1_shareOf F hb hu κx (nI f) (nI p) 0 = some z0) (Z : Prop) (hZ : Z → ∀ v, pX1_shareOf F hb hu κx (nI f) v 0 = some 0) : ∀ m j, j + m = p → ∀ fx fm, m < fx → m + 1 < fm → ∀ a, a ≤ 4 → (Z → 1 ≤ j → a = 0) → ∃ a', (Z → a' = 0) ∧
    bX1_fewest_36 F hb hu kX fx κx v1 (nI p) (nI f) (nI (min a n)) (nI j) = (if w = 0 then kX κx (v1 + 0) (nI p) (nI (f + 1)) else kX κx (v1 + nI a') (nI p) (nI (f + 1))) ∧
    bX6_fewest_34 F kM fm κm v1 (nI f) z0 (nI a) (nI j) = (if z0 ≤ 0 then kM κm (v1 + 0) (nI (f + 1)) else kM κm (v1 + nI a') (nI (f + 1))) := by
  have t0 := hT.1.1
  have t1 := hT.1.2.1
  have hn4 : n ≤ 4 := by omega
  have hfp := full_pc hn4
  rw [hp, Nat.add_sub_cancel] at hfp
  have ew := px_worth (κ := κx) hs hf t1
  have e68 := hM.1 0 (by omega)
  rw [hn] at e68
  have pcle : ∀ k, pcN k ≤ 4 := fun k => by unfold pcN; omega
  intro m
  induction m with
  | zero =>
    intro j hj fx fm hfx hfm a ha hza
    obtain ⟨fx, rfl⟩ : ∃ f', fx = f' + 1 := ⟨fx - 1, by omega⟩
    obtain ⟨fm, rfl⟩ : ∃ f', fm = f' + 2 := ⟨fm - 2, by omega⟩
    have hj' : j = p := by omega
    subst hj'
    obtain ⟨z1, b1, b2⟩ := sh_ls (F := F) (v2 := nI j) (v2' := nI j) (v3 := 0) hF hT hM hs hf (fun _ _ => rfl)
    rw [hz0] at b1
    cases b1
    have l1 : j ≤ j := Nat.le_refl _
    have l2 : ¬ j + 1 ≤ j := by omega
    have l3 : j + 1 ≤ j + 1 := Nat.le_refl _
    have hbc := pm_bits (F := F) (k := j) hF (by omega)
    rw [hfp.1] at hbc
    refine ⟨min a n, fun hz => ?_, ?_, ?_⟩
    · by_cases h1 : 1 ≤ j
      · have := hza hz h1
        omega
      · have h0 : j = 0 := by omega
        subst h0
        have : n = 0 := by
          have h3 := hfp.1
          have : pcN 0 = 0 := by decide
          omega
        omega
    · rw [bX1_fewest_36]
      simp (disch := omega) only [pt_lt_, pt_clsome, pt_ck, pt_ckL, pt_cl, pt_clL, pt_cz0, pt_cz1, pt_czi, pt_add, pt_addL, pt_Ladd, pt_mul, pt_mulL, pt_Lmul, pt_sub, pt_subL, pt_Lsub, pt_rem, pt_le, pt_leL, pt_Lle, pt_lt, pt_ltL, pt_Llt, pt_eq, pt_eqL, pt_Leq, pt_m1, pt_lt0, pt_ge0, pt_m1lt0, pt_m1ge0, pt_10, pt_01, pt_00, pt_11, pt_m11, pt_0m1, pt_1m1, pt_ib, pt_ib1, pt_hs, pt_so, pt_ofNat, pt_si, pt_sin, pt_si1, pt_si2, pt_sl, pt_sln, pt_sl0, pt_sl2, pt_sr, pt_srn, pt_sr0, pt_sr1, if_true, if_false, ite_true, ite_false, not_true_eq_false, not_false_eq_true, l1, ew, hw]
      by_cases h : w = 0
      · have h2 : w ≤ 0 := by omega
        rw [if_pos h2, if_pos h]
      · have h2 : ¬ w ≤ 0 := by omega
        rw [if_neg h2, if_neg h]
    · rw [bX6_fewest_34]
      simp (disch := omega) only [pt_lt_, pt_clsome, pt_ck, pt_ckL, pt_cl, pt_clL, pt_cz0, pt_cz1, pt_czi, pt_add, pt_addL, pt_Ladd, pt_mul, pt_mulL, pt_Lmul, pt_sub, pt_subL, pt_Lsub, pt_rem, pt_le, pt_leL, pt_Lle, pt_lt, pt_ltL, pt_Llt, pt_eq, pt_eqL, pt_Leq, pt_m1, pt_lt0, pt_ge0, pt_m1lt0, pt_m1ge0, pt_10, pt_01, pt_00, pt_11, pt_m11, pt_0m1, pt_1m1, pt_ib, pt_ib1, pt_hs, pt_so, pt_ofNat, pt_si, pt_sin, pt_si1, pt_si2, pt_sl, pt_sln, pt_sl0, pt_sl2, pt_sr, pt_srn, pt_sr0, pt_sr1, if_true, if_false, ite_true, ite_false, not_true_eq_false, not_false_eq_true, e68, shl32 (by omega : n ≤ 7), hp, l2, b2, hbc, if_min]
      rw [bX6_fewest_34]
      simp (disch := omega) only [pt_lt_, pt_clsome, pt_ck, pt_ckL, pt_cl, pt_clL, pt_cz0, pt_cz1, pt_czi, pt_add, pt_addL, pt_Ladd, pt_mul, pt_mulL, pt_Lmul, pt_sub, pt_subL, pt_Lsub, pt_rem, pt_le, pt_leL, pt_Lle, pt_lt, pt_ltL, pt_Llt, pt_eq, pt_eqL, pt_Leq, pt_m1, pt_lt0, pt_ge0, pt_m1lt0, pt_m1ge0, pt_10, pt_01, pt_00, pt_11, pt_m11, pt_0m1, pt_1m1, pt_ib, pt_ib1, pt_hs, pt_so, pt_ofNat, pt_si, pt_sin, pt_si1, pt_si2, pt_sl, pt_sln, pt_sl0, pt_sl2, pt_sr, pt_srn, pt_sr0, pt_sr1, if_true, if_false, ite_true, ite_false, not_true_eq_false, not_false_eq_true, e68, shl32 (by omega : n ≤ 7), hp, l3]
      rw [Nat.min_comm]
  | succ m ih =>
    intro j hj fx fm hfx hfm a ha hza
    obtain ⟨fx, rfl⟩ : ∃ f', fx = f' + 1 := ⟨fx - 1, by omega⟩
    obtain ⟨fm, rfl⟩ : ∃ f', fm = f' + 1 := ⟨fm - 1, by omega⟩
    obtain ⟨z1, b1, b2⟩ := sh_ls (F := F) (v2 := nI j) (v2' := nI j) (v3 := 0) hF hT hM hs hf (fun _ _ => rfl)
    have hbx := px_bits (k := j) (by omega)
    have hbm := pm_bits (F := F) (k := j) hF (by omega)
    have l1 : ¬ p ≤ j := by omega
    have l2 : ¬ p + 1 ≤ j := by omega
    have pj := pcle j
    rw [bX1_fewest_36, bX6_fewest_34]
    simp (disch := omega) only [pt_lt_, pt_clsome, pt_ck, pt_ckL, pt_cl, pt_clL, pt_cz0, pt_cz1, pt_czi, pt_add, pt_addL, pt_Ladd, pt_mul, pt_mulL, pt_Lmul, pt_sub, pt_subL, pt_Lsub, pt_rem, pt_le, pt_leL, pt_Lle, pt_lt, pt_ltL, pt_Llt, pt_eq, pt_eqL, pt_Leq, pt_m1, pt_lt0, pt_ge0, pt_m1lt0, pt_m1ge0, pt_10, pt_01, pt_00, pt_11, pt_m11, pt_0m1, pt_1m1, pt_ib, pt_ib1, pt_hs, pt_so, pt_ofNat, pt_si, pt_sin, pt_si1, pt_si2, pt_sl, pt_sln, pt_sl0, pt_sl2, pt_sr, pt_srn, pt_sr0, pt_sr1, if_true, if_false, ite_true, ite_false, not_true_eq_false, not_false_eq_true, e68, shl32 (by omega : n ≤ 7), hp, l1, l2, b1, b2, hz0, hbx, hbm, if_min]
    by_cases hz : z1 = z0
    · rw [if_pos hz, if_pos hz]
      have e : min (pcN j) (min a n) = min (min (pcN j) a) n := by omega
      rw [e]
      exact ih (j + 1) (by omega) fx fm (by omega) (by omega) (min (pcN j) a) (by have := pcle j; omega) (fun q _ => by
        by_cases h1 : 1 ≤ j
        · have := hza q h1
          omega
        · have h0 : j = 0 := by omega
          subst h0
          have : pcN 0 = 0 := by decide
          omega)
    · rw [if_neg hz, if_neg hz]
      refine ih (j + 1) (by omega) fx fm (by omega) (by omega) a ha (fun q _ => ?_)
      exfalso
      have c1 := hZ q (nI j)
      have c2 := hZ q (nI p)
      rw [b1] at c1
      rw [hz0] at c2
      exact hz (by rw [Option.some.inj c1, Option.some.inj c2])
theorem few_loop {F hb n p : Nat} {hu : hd_T} {κx κm : kp_K} (hF : 80 ≤ F) (hT : TW hu) (hM : MT hu κm) (hs : κx.2.2 0 4 = some hb) (hn : hu.2.1 0 = n) (hp : 2 ^ n = p + 1) : ∀ m f, f + m = hu.2.1 1 → ∀ fx fm, m < fx → m < fm → ∀ v1, ∃ z, bX1_fewest_13 F hb hu fx κx v1 (nI p) (nI f) = some z ∧ bX6_fewest_9 F fm κm v1 (nI f) = some (z, κm) := by
  have t0 := hT.1.1
  have t1 := hT.1.2.1
  have t3 := hT.1.2.2.2.1
  have hn4 : n ≤ 4 := by omega
  have hfp := full_pc hn4
  rw [hp, Nat.add_sub_cancel] at hfp
  have hbp : p = 2 ^ n - 1 := by omega
  intro m
  induction m with
  | zero =>
    intro f hf fx fm hfx hfm v1
    obtain ⟨fx, rfl⟩ : ∃ f', fx = f' + 1 := ⟨fx - 1, by omega⟩
    obtain ⟨fm, rfl⟩ : ∃ f', fm = f' + 1 := ⟨fm - 1, by omega⟩
    have hle : hu.2.1 1 ≤ f := by omega
    rw [bX1_fewest_13, bX6_fewest_9]
    simp (disch := omega) only [pt_lt_, pt_clsome, pt_ck, pt_ckL, pt_cl, pt_clL, pt_cz0, pt_cz1, pt_czi, pt_add, pt_addL, pt_Ladd, pt_mul, pt_mulL, pt_Lmul, pt_sub, pt_subL, pt_Lsub, pt_rem, pt_le, pt_leL, pt_Lle, pt_lt, pt_ltL, pt_Llt, pt_eq, pt_eqL, pt_Leq, pt_m1, pt_lt0, pt_ge0, pt_m1lt0, pt_m1ge0, pt_10, pt_01, pt_00, pt_11, pt_m11, pt_0m1, pt_1m1, pt_ib, pt_ib1, pt_hs, pt_so, pt_ofNat, pt_si, pt_sin, pt_si1, pt_si2, pt_sl, pt_sln, pt_sl0, pt_sl2, pt_sr, pt_srn, pt_sr0, pt_sr1, if_true, if_false, ite_true, ite_false, not_true_eq_false, not_false_eq_true, if_pos, if_neg, hs, hM.1 1 (by omega), hle]
    exact ⟨_, rfl, rfl⟩
  | succ m ih =>
    intro f hf fx fm hfx hfm v1
    obtain ⟨fx, rfl⟩ : ∃ f', fx = f' + 1 := ⟨fx - 1, by omega⟩
    obtain ⟨fm, rfl⟩ : ∃ f', fm = f' + 1 := ⟨fm - 1, by omega⟩
    have hle : ¬ hu.2.1 1 ≤ f := by omega
    have hff : f < hu.2.1 1 := by omega
    have next := ih (f + 1) (by omega) fx fm (by omega) (by omega)
    obtain ⟨w, hw9, hw⟩ := hT.2.2.1 f hff
    have fb : ∀ d, d < hu.2.1 0 → ob (nI p) (nI d) = 1 ∧ ob 15 (nI d) = 1 := fun d hd => by rw [hbp]; exact full_bit hn4 (by omega)
    obtain ⟨z0, b1, b2⟩ := sh_ls (F := F) (v2 := nI p) (v2' := 15) (v3 := 0) hF hT hM hs hff (fun d hd => by rw [(fb d hd).1, (fb d hd).2])
    have b3 : pX1_shareOf F hb hu κx (nI f) (nI p) 0 = some (nI (0 + w * cnF hu f 0 (hu.2.1 3))) := sh_all hT hs hff hw (fun d hd => (fb d hd).1) (hu.2.1 3) 0 (by omega) F (by omega) 0
    have hc16 := cn_le (hu := hu) (f := f) (hu.2.1 3) 0
    have ez : z0 = nI (w * cnF hu f 0 (hu.2.1 3)) := by
      rw [b1, Nat.zero_add] at b3
      exact Option.some.inj b3
    have hbx := px_bits (k := p) (by omega)
    rw [hfp.1] at hbx
    obtain ⟨a', a1, a2, a3⟩ := few_in (F := F) (v1 := v1) (kX := bX1_fewest_13 F hb hu fx) (kM := bX6_fewest_9 F fm) hF hT hM hs hff hn hp hw hw9 b1 (cnF hu f 0 (hu.2.1 3) = 0) (fun hz v => sh_none hT hs hff (hu.2.1 3) 0 (by omega) hz F (by omega) 0) p 0 (by omega) F F (by omega) (by omega) 4 (Nat.le_refl 4) (fun _ h => by omega)
    have emin : min 4 n = n := by omega
    rw [emin] at a2
    have a2' : bX1_fewest_36 F hb hu (bX1_fewest_13 F hb hu fx) F κx v1 (nI p) (nI f) (nI n) 0 = _ := a2
    have a3' : bX6_fewest_34 F (bX6_fewest_9 F fm) F κm v1 (nI f) z0 4 0 = _ := a3
    rw [bX1_fewest_13, bX6_fewest_9]
    simp (disch := omega) only [pt_lt_, pt_clsome, pt_ck, pt_ckL, pt_cl, pt_clL, pt_cz0, pt_cz1, pt_czi, pt_add, pt_addL, pt_Ladd, pt_mul, pt_mulL, pt_Lmul, pt_sub, pt_subL, pt_Lsub, pt_rem, pt_le, pt_leL, pt_Lle, pt_lt, pt_ltL, pt_Llt, pt_eq, pt_eqL, pt_Leq, pt_m1, pt_lt0, pt_ge0, pt_m1lt0, pt_m1ge0, pt_10, pt_01, pt_00, pt_11, pt_m11, pt_0m1, pt_1m1, pt_ib, pt_ib1, pt_hs, pt_so, pt_ofNat, pt_si, pt_sin, pt_si1, pt_si2, pt_sl, pt_sln, pt_sl0, pt_sl2, pt_sr, pt_srn, pt_sr0, pt_sr1, if_true, if_false, ite_true, ite_false, not_true_eq_false, not_false_eq_true, if_pos, if_neg, hs, hM.1 1 (by omega), hle, hbx, b2]
    rw [a2', a3']
    have hwc : w * cnF hu f 0 (hu.2.1 3) ≤ 99 * 16 := Nat.mul_le_mul hw9 (by omega)
    by_cases hw0 : w = 0
    · have hz : z0 ≤ 0 := by rw [ez, hw0, Nat.zero_mul]; decide
      rw [if_pos hw0, if_pos hz]
      exact next _
    · rw [if_neg hw0]
      by_cases hc : cnF hu f 0 (hu.2.1 3) = 0
      · have hz : z0 ≤ 0 := by rw [ez, hc, Nat.mul_zero]; decide
        rw [if_pos hz, a1 hc]
        exact next _
      · have hpos : 0 < w * cnF hu f 0 (hu.2.1 3) := Nat.mul_pos (by omega) (by omega)
        have hz : ¬ z0 ≤ 0 := by
          rw [ez]
          generalize w * cnF hu f 0 (hu.2.1 3) = x at *
          simp (disch := omega) only [pt_lt_, pt_clsome, pt_ck, pt_ckL, pt_cl, pt_clL, pt_cz0, pt_cz1, pt_czi, pt_add, pt_addL, pt_Ladd, pt_mul, pt_mulL, pt_Lmul, pt_sub, pt_subL, pt_Lsub, pt_rem, pt_le, pt_leL, pt_Lle, pt_lt, pt_ltL, pt_Llt, pt_eq, pt_eqL, pt_Leq, pt_m1, pt_lt0, pt_ge0, pt_m1lt0, pt_m1ge0, pt_10, pt_01, pt_00, pt_11, pt_m11, pt_0m1, pt_1m1, pt_ib, pt_ib1, pt_hs, pt_so, pt_ofNat, pt_si, pt_sin, pt_si1, pt_si2, pt_sl, pt_sln, pt_sl0, pt_sl2, pt_sr, pt_srn, pt_sr0, pt_sr1, if_true, if_false, ite_true, ite_false, not_true_eq_false, not_false_eq_true, if_pos, if_neg]
          omega
        rw [if_neg hz]
        exact next _
theorem ls_fewest {F : Nat} {hu : hd_T} {hb : Nat} {κx κm : kp_K} (hF : 80 ≤ F) (I : INV hu hb κx κm) : iLR hu hb κx κm (pX1_fewest F hb hu κx) (pX6_fewest F κm) := by
  obtain ⟨hT, hM, hs, -⟩ := id I
  have hM' := (I.th (v := 0)).2.1
  have t0 := hT.1.1
  have t1 := hT.1.2.1
  have h1 := (full_pc t0).2.2
  obtain ⟨p, hp⟩ : ∃ p, 2 ^ hu.2.1 0 = p + 1 := ⟨2 ^ hu.2.1 0 - 1, by omega⟩
  obtain ⟨z, z1, z2⟩ := few_loop (F := F) (p := p) hF hT hM' hs rfl hp (hu.2.1 1) 0 (by omega) F F (by omega) (by omega) 0
  have z1' : bX1_fewest_13 F hb hu F κx 0 (nI p) 0 = some z := z1
  have z2' : bX6_fewest_9 F F (s_i κm 66 0 0) 0 0 = some (z, s_i κm 66 0 0) := z2
  have hX : pX1_desks hb hu κx = some (nI (hu.2.1 0)) := by
    unfold pX1_desks
    simp (disch := omega) only [pt_lt_, pt_clsome, pt_ck, pt_ckL, pt_cl, pt_clL, pt_cz0, pt_cz1, pt_czi, pt_add, pt_addL, pt_Ladd, pt_mul, pt_mulL, pt_Lmul, pt_sub, pt_subL, pt_Lsub, pt_rem, pt_le, pt_leL, pt_Lle, pt_lt, pt_ltL, pt_Llt, pt_eq, pt_eqL, pt_Leq, pt_m1, pt_lt0, pt_ge0, pt_m1lt0, pt_m1ge0, pt_10, pt_01, pt_00, pt_11, pt_m11, pt_0m1, pt_1m1, pt_ib, pt_ib1, pt_hs, pt_so, pt_ofNat, pt_si, pt_sin, pt_si1, pt_si2, pt_sl, pt_sln, pt_sl0, pt_sl2, pt_sr, pt_srn, pt_sr0, pt_sr1, if_true, if_false, ite_true, ite_false, not_true_eq_false, not_false_eq_true, if_pos, if_neg, hs]
  unfold pX1_fewest pX6_fewest
  rw [hX]
  simp only [pt_clsome, pt_lt_]
  rw [shl32 (by omega), hp]
  simp (disch := omega) only [pt_lt_, pt_clsome, pt_ck, pt_ckL, pt_cl, pt_clL, pt_cz0, pt_cz1, pt_czi, pt_add, pt_addL, pt_Ladd, pt_mul, pt_mulL, pt_Lmul, pt_sub, pt_subL, pt_Lsub, pt_rem, pt_le, pt_leL, pt_Lle, pt_lt, pt_ltL, pt_Llt, pt_eq, pt_eqL, pt_Leq, pt_m1, pt_lt0, pt_ge0, pt_m1lt0, pt_m1ge0, pt_10, pt_01, pt_00, pt_11, pt_m11, pt_0m1, pt_1m1, pt_ib, pt_ib1, pt_hs, pt_so, pt_ofNat, pt_si, pt_sin, pt_si1, pt_si2, pt_sl, pt_sln, pt_sl0, pt_sl2, pt_sr, pt_srn, pt_sr0, pt_sr1, if_true, if_false, ite_true, ite_false, not_true_eq_false, not_false_eq_true, if_pos, if_neg]
  rw [Nat.add_sub_cancel, z1', z2']
  exact ⟨_, _, rfl, rfl, I.th, MF0⟩
