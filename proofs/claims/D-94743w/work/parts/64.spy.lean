/-! PURE LAYER: how many of a set of desks hold a fact -/
set_option maxRecDepth 100000
theorem shr_toInt (x q : Int32) (k : Nat) (hk : q.toBitVec.toNat % 32 = k) : (x >>> (q &&& 31)).toInt = x.toInt / (2 ^ k : Nat) := by
  have e : (q &&& 31).toBitVec.smod 32 = BitVec.ofNat 32 k := by
    have h1 : (q &&& 31).toBitVec.toNat = k := by
      rw [Int32.toBitVec_and, BitVec.toNat_and, show (31 : Int32).toBitVec.toNat = 2 ^ 5 - 1 from rfl, Nat.and_two_pow_sub_one_eq_mod]
      exact hk
    have hk32 : k < 32 := by omega
    have h2 : (q &&& 31).toBitVec = BitVec.ofNat 32 k := BitVec.eq_of_toNat_eq (by rw [h1, BitVec.toNat_ofNat]; omega)
    rw [h2]
    clear h1 h2 hk
    have : ∀ k : Fin 32, (BitVec.ofNat 32 k.val).smod 32 = BitVec.ofNat 32 k.val := by decide +kernel
    exact this ⟨k, hk32⟩
  have hk32 : k < 32 := by omega
  unfold Int32.toInt
  rw [Int32.toBitVec_shiftRight, e, BitVec.sshiftRight_eq', BitVec.toInt_sshiftRight, BitVec.toNat_ofNat, Nat.mod_eq_of_lt (by omega), Int.shiftRight_eq_div_pow]
theorem shr_zero {k n : Nat} (hk : k < 2147483648) (hn : n ≤ 4) : (nI k >>> (nI n &&& 31) = 0) = ¬ ((1 : Int32) <<< (nI n &&& 31)) ≤ nI k := by
  have e1 : (nI n).toBitVec.toNat % 32 = n := by
    rcases (show n = 0 ∨ n = 1 ∨ n = 2 ∨ n = 3 ∨ n = 4 by omega) with rfl | rfl | rfl | rfl | rfl <;> decide
  have h := shr_toInt (nI k) (nI n) n e1
  rw [pt_toInt hk] at h
  have e2 : ((1 : Int32) <<< (nI n &&& 31)).toInt = (2 ^ n : Nat) := by
    rcases (show n = 0 ∨ n = 1 ∨ n = 2 ∨ n = 3 ∨ n = 4 by omega) with rfl | rfl | rfl | rfl | rfl <;> decide
  rw [Int32.le_iff_toInt_le, pt_toInt hk, e2]
  have hp : (0 : Int) < (2 ^ n : Nat) := by exact_mod_cast Nat.two_pow_pos n
  refine propext ⟨fun q => ?_, fun q => ?_⟩
  · rw [q] at h
    have h' : (k : Int) / (2 ^ n : Nat) = 0 := h.symm
    intro hle
    have : (1 : Int) ≤ (k : Int) / (2 ^ n : Nat) := (Int.le_ediv_iff_mul_le hp).mpr (by omega)
    omega
  · refine Int32.toInt_inj.mp ?_
    rw [h]
    exact Int.ediv_eq_zero_of_lt (by omega) (by omega)
theorem spy_loop {F hb : Nat} {hu : hd_T} {κx κm : kp_K} {v x : Int32} {L : Nat → Option Nat} (hF : 80 ≤ F) (hT : TW hu) (hM : MT hu κm) (hs : κx.2.2 0 4 = some hb) (hX : ∀ d, d < 4 → (∀ k, L d = some k → k < 8) ∧ pX5_lineOf F 0 κx (nI d) x = some (oI (L d))) (hm : ∀ d, d < 4 → (∀ k, L d = some k → k < 8) ∧ pX6_lineOf F κm 0 (nI d) x = some (oI (L d))) : ∀ m i, i + m = hu.2.1 0 → ∀ fx fm, m < fx → m < fm → ∀ acc, ∃ z, bX1_spy_28 F hb hu fx κx v x acc (nI i) = some z ∧ bX6_spy_36 F fm κm v x acc (nI i) = some (z, κm) := by
  have t0 := hT.1.1
  intro m
  induction m with
  | zero =>
    intro i hi fx fm hfx hfm acc
    obtain ⟨fx, rfl⟩ : ∃ f', fx = f' + 1 := ⟨fx - 1, by omega⟩
    obtain ⟨fm, rfl⟩ : ∃ f', fm = f' + 1 := ⟨fm - 1, by omega⟩
    have hle : hu.2.1 0 ≤ i := by omega
    rw [bX1_spy_28, bX6_spy_36]
    unfold pX1_desks
    simp (disch := omega) only [pt_lt_, pt_clsome, pt_ck, pt_ckL, pt_cl, pt_clL, pt_cz0, pt_cz1, pt_czi, pt_add, pt_addL, pt_Ladd, pt_mul, pt_mulL, pt_Lmul, pt_sub, pt_subL, pt_Lsub, pt_rem, pt_le, pt_leL, pt_Lle, pt_lt, pt_ltL, pt_Llt, pt_eq, pt_eqL, pt_Leq, pt_m1, pt_lt0, pt_ge0, pt_m1lt0, pt_m1ge0, pt_10, pt_01, pt_00, pt_11, pt_m11, pt_0m1, pt_1m1, pt_ib, pt_ib1, pt_hs, pt_so, pt_ofNat, pt_si, pt_sin, pt_si1, pt_si2, pt_sl, pt_sln, pt_sl0, pt_sl2, pt_sr, pt_srn, pt_sr0, pt_sr1, if_true, if_false, ite_true, ite_false, not_true_eq_false, not_false_eq_true, if_pos, if_neg, hs, hM.1 0 (by omega), hle]
    exact ⟨_, rfl, rfl⟩
  | succ m ih =>
    intro i hi fx fm hfx hfm acc
    obtain ⟨fx, rfl⟩ : ∃ f', fx = f' + 1 := ⟨fx - 1, by omega⟩
    obtain ⟨fm, rfl⟩ : ∃ f', fm = f' + 1 := ⟨fm - 1, by omega⟩
    have next := ih (i + 1) (by omega) fx fm (by omega) (by omega)
    have hle : ¬ hu.2.1 0 ≤ i := by omega
    obtain ⟨l1, l2⟩ := hX i (by omega)
    obtain ⟨-, l3⟩ := hm i (by omega)
    obtain ⟨o1, o2, o3⟩ := oI_neg l1
    have hob : ((v >>> (nI i &&& 31)) &&& 1) = ob v (nI i) := rfl
    have e10 : ((1 : Int32) = 0) = False := by decide
    have e01 : ((0 : Int32) = 1) = False := by decide
    rw [bX1_spy_28, bX6_spy_36]
    unfold pX1_desks bX1_spy_64 bX6_spy_74
    simp (disch := omega) only [pt_lt_, pt_clsome, pt_ck, pt_ckL, pt_cl, pt_clL, pt_cz0, pt_cz1, pt_czi, pt_add, pt_addL, pt_Ladd, pt_mul, pt_mulL, pt_Lmul, pt_sub, pt_subL, pt_Lsub, pt_rem, pt_le, pt_leL, pt_Lle, pt_lt, pt_ltL, pt_Llt, pt_eq, pt_eqL, pt_Leq, pt_m1, pt_lt0, pt_ge0, pt_m1lt0, pt_m1ge0, pt_10, pt_01, pt_00, pt_11, pt_m11, pt_0m1, pt_1m1, pt_ib, pt_ib1, pt_hs, pt_so, pt_ofNat, pt_si, pt_sin, pt_si1, pt_si2, pt_sl, pt_sln, pt_sl0, pt_sl2, pt_sr, pt_srn, pt_sr0, pt_sr1, if_true, if_false, ite_true, ite_false, not_true_eq_false, not_false_eq_true, hs, hM.1 0 (by omega), hle, px_isOf, l2, l3, o2, o3, hob]
    rcases ob_01 v (nI i) with q | q
    · rw [q]
      simp only [e01, if_false, if_true]
      exact next _
    · rw [q]
      simp only [e10, if_false, if_true]
      cases (L i).isSome with
      | true => exact next _
      | false => exact next _
theorem ls_spy {F : Nat} {hu : hd_T} {hb : Nat} {κx κm : kp_K} (hF : 80 ≤ F) (I : INV hu hb κx κm) (v1 v2 : Int32) : iLR hu hb κx κm (pX1_spy F hb hu κx v1 v2) (pX6_spy F κm v1 v2) := by
  obtain ⟨hT, hM, hs, -⟩ := id I
  have hM' := (I.th (v := 0)).2.1
  have t0 := hT.1.1
  have done : ∀ z : Int32, iLR hu hb κx κm (some z) (some (z, s_i κm 66 0 0)) := fun z => ⟨_, _, rfl, rfl, I.th, MF0⟩
  have e68 : (s_i κm 66 0 0).1 68 0 = nI (hu.2.1 0) := hM'.1 0 (by omega)
  have hX : pX1_desks hb hu κx = some (nI (hu.2.1 0)) := by
    unfold pX1_desks
    simp (disch := omega) only [pt_lt_, pt_clsome, pt_ck, pt_ckL, pt_cl, pt_clL, pt_cz0, pt_cz1, pt_czi, pt_add, pt_addL, pt_Ladd, pt_mul, pt_mulL, pt_Lmul, pt_sub, pt_subL, pt_Lsub, pt_rem, pt_le, pt_leL, pt_Lle, pt_lt, pt_ltL, pt_Llt, pt_eq, pt_eqL, pt_Leq, pt_m1, pt_lt0, pt_ge0, pt_m1lt0, pt_m1ge0, pt_10, pt_01, pt_00, pt_11, pt_m11, pt_0m1, pt_1m1, pt_ib, pt_ib1, pt_hs, pt_so, pt_ofNat, pt_si, pt_sin, pt_si1, pt_si2, pt_sl, pt_sln, pt_sl0, pt_sl2, pt_sr, pt_srn, pt_sr0, pt_sr1, if_true, if_false, ite_true, ite_false, not_true_eq_false, not_false_eq_true, if_pos, if_neg, hs]
  unfold pX1_spy pX6_spy
  simp only [pt_lt_]
  by_cases h0 : v1 < 0
  · rw [if_pos h0, if_pos h0]
    exact done _
  · rw [if_neg h0, if_neg h0]
    obtain ⟨k, hk, rfl⟩ := nI_of h0
    have ec : (0 : Int32).toNatClampNeg = 0 := rfl
    have eck : ∀ {X : Type} (K : Option X), p_ck (0 : Int32) 16 K = K := fun K => pt_ckL (by decide) (by decide)
    rw [hX, eck, ec, e68]
    simp only [pt_clsome, shr_zero hk t0, px_isFact hs hT.1.2.1, pm_isFact hM', pt_ib, ite_not]
    by_cases h1 : ((1 : Int32) <<< (nI (hu.2.1 0) &&& 31)) ≤ nI k
    · rw [if_pos h1, if_pos h1]
      exact done _
    · rw [if_neg h1, if_neg h1]
      by_cases h2 : 0 ≤ v2 ∧ v2 < nI (hu.2.1 1)
      · rw [if_pos h2, if_pos h2]
        obtain ⟨L, L1, L2⟩ := tr_lines (F := F) hF I v2
        obtain ⟨z, z1, z2⟩ := spy_loop (v := nI k) hF hT hM' hs L1 L2 (hu.2.1 0) 0 (by omega) F F (by omega) (by omega) 0
        have z1' : bX1_spy_28 F hb hu F κx (nI k) v2 0 0 = some z := z1
        have z2' : bX6_spy_36 F F (s_i κm 66 0 0) (nI k) v2 0 0 = some (z, s_i κm 66 0 0) := z2
        rw [z1', z2']
        exact done _
      · rw [if_neg h2, if_neg h2]
        exact done _
