/-! PURE LAYER: lines given by codes: gives and shows -/
set_option maxRecDepth 100000
theorem mk_17 {F : Nat} {k : Int32 → Int64 → Int32 → Int32 → Option Int32} {v0 v3 v4 : Int32} {v1 : Int64} : ∀ f v5 v6, bX1_makes_17 F k f v0 v1 v3 v4 v5 v6 = bX6_shownBy_17 F k f v0 v1 v3 v4 v5 v6 := by
  intro f
  induction f with
  | zero => intro v5 v6; rfl
  | succ f ih =>
    intro v5 v6
    have e10 : ((1 : Int32) = 0) = False := by decide
    have e01 : ((0 : Int32) = 1) = False := by decide
    have hob : ((v4 >>> (v6 &&& 31)) &&& 1) = ob v4 v6 := rfl
    rw [bX1_makes_17, bX6_shownBy_17, px_isOf, hob]
    unfold pX1_code
    simp only [pt_clsome, pt_lt_]
    by_cases h : v0 ≤ v6
    · rw [if_pos h, if_pos h]
    · rw [if_neg h, if_neg h]
      rcases ob_01 v4 v6 with q | q
      · rw [q]
        simp only [e01, if_false, if_true]
        exact ih _ _
      · rw [q]
        simp only [e10, if_false, if_true]
        exact ih _ _
theorem mk_3 {F : Nat} : ∀ f v0 v1 v3 v4, bX1_makes_3 F f v0 v1 v3 v4 = bX6_shownBy_3 F f v0 v1 v3 v4 := by
  intro f
  induction f with
  | zero => intro v0 v1 v3 v4; rfl
  | succ f ih =>
    intro v0 v1 v3 v4
    rw [bX1_makes_3, bX6_shownBy_3, mk_17]
    have e : bX1_makes_3 F f = bX6_shownBy_3 F f := by
      funext a b c d
      exact ih a b c d
    rw [e]
theorem shl32 {n : Nat} (hn : n ≤ 7) : (1 : Int32) <<< (nI n &&& 31) = nI (2 ^ n) := by
  rcases (show n = 0 ∨ n = 1 ∨ n = 2 ∨ n = 3 ∨ n = 4 ∨ n = 5 ∨ n = 6 ∨ n = 7 by omega) with rfl | rfl | rfl | rfl | rfl | rfl | rfl | rfl <;> decide
theorem pow7 {n : Nat} (hn : n ≤ 7) : 1 ≤ 2 ^ n ∧ 2 ^ n ≤ 128 := by
  rcases (show n = 0 ∨ n = 1 ∨ n = 2 ∨ n = 3 ∨ n = 4 ∨ n = 5 ∨ n = 6 ∨ n = 7 by omega) with rfl | rfl | rfl | rfl | rfl | rfl | rfl | rfl <;> decide
theorem sb_17 {F n : Nat} {k3 : Int32 → Int64 → Int32 → Int32 → Option Int32} {v2 : Int64} {f v5 : Int32} (hn : n ≤ 7) : ∀ m i, i + m = n → ∀ fu, m < fu → ∀ acc, bX6_shownBy_17 F k3 fu (nI n) v2 f v5 acc (nI i) = some v5 ∨ bX6_shownBy_17 F k3 fu (nI n) v2 f v5 acc (nI i) = k3 (nI n) v2 f (v5 + 1) := by
  intro m
  induction m with
  | zero =>
    intro i hi fu hfu acc
    obtain ⟨fu, rfl⟩ : ∃ f', fu = f' + 1 := ⟨fu - 1, by omega⟩
    have hle : nI n ≤ nI i := by simp (disch := omega) only [pt_lt_, pt_clsome, pt_ck, pt_ckL, pt_cl, pt_clL, pt_cz0, pt_cz1, pt_czi, pt_add, pt_addL, pt_Ladd, pt_mul, pt_mulL, pt_Lmul, pt_sub, pt_subL, pt_Lsub, pt_rem, pt_le, pt_leL, pt_Lle, pt_lt, pt_ltL, pt_Llt, pt_eq, pt_eqL, pt_Leq, pt_m1, pt_lt0, pt_ge0, pt_m1lt0, pt_m1ge0, pt_10, pt_01, pt_00, pt_11, pt_m11, pt_0m1, pt_1m1, pt_ib, pt_ib1, pt_hs, pt_so, pt_ofNat, pt_si, pt_sin, pt_si1, pt_si2, pt_sl, pt_sln, pt_sl0, pt_sl2, pt_sr, pt_srn, pt_sr0, pt_sr1, if_true, if_false, ite_true, ite_false, not_true_eq_false, not_false_eq_true, if_pos, if_neg]; omega
    rw [bX6_shownBy_17, if_pos hle]
    split
    · exact Or.inl rfl
    · exact Or.inr rfl
  | succ m ih =>
    intro i hi fu hfu acc
    obtain ⟨fu, rfl⟩ : ∃ f', fu = f' + 1 := ⟨fu - 1, by omega⟩
    have hle : ¬ nI n ≤ nI i := by simp (disch := omega) only [pt_lt_, pt_clsome, pt_ck, pt_ckL, pt_cl, pt_clL, pt_cz0, pt_cz1, pt_czi, pt_add, pt_addL, pt_Ladd, pt_mul, pt_mulL, pt_Lmul, pt_sub, pt_subL, pt_Lsub, pt_rem, pt_le, pt_leL, pt_Lle, pt_lt, pt_ltL, pt_Llt, pt_eq, pt_eqL, pt_Leq, pt_m1, pt_lt0, pt_ge0, pt_m1lt0, pt_m1ge0, pt_10, pt_01, pt_00, pt_11, pt_m11, pt_0m1, pt_1m1, pt_ib, pt_ib1, pt_hs, pt_so, pt_ofNat, pt_si, pt_sin, pt_si1, pt_si2, pt_sl, pt_sln, pt_sl0, pt_sl2, pt_sr, pt_srn, pt_sr0, pt_sr1, if_true, if_false, ite_true, ite_false, not_true_eq_false, not_false_eq_true, if_pos, if_neg]; omega
    rw [bX6_shownBy_17, if_neg hle, pt_addL]
    simp only [pt_lt_]
    split
    · exact ih (i + 1) (by omega) fu (by omega) _
    · exact ih (i + 1) (by omega) fu (by omega) _
theorem sb_3 {F n : Nat} {v2 : Int64} {f : Int32} (hF : 200 ≤ F) (hn : n ≤ 7) : ∀ m c, c + m = 2 ^ n → 1 ≤ c → ∀ fu, m < fu → ∃ z, bX6_shownBy_3 F fu (nI n) v2 f (nI c) = some z ∧ (z = -1 ∨ ∃ k, 1 ≤ k ∧ k < 128 ∧ z = nI k) := by
  have h7 := pow7 hn
  intro m
  induction m with
  | zero =>
    intro c hc h1 fu hfu
    obtain ⟨fu, rfl⟩ : ∃ f', fu = f' + 1 := ⟨fu - 1, by omega⟩
    have hle : nI (2 ^ n) ≤ nI c := by
      generalize 2 ^ n = p at *
      simp (disch := omega) only [pt_lt_, pt_clsome, pt_ck, pt_ckL, pt_cl, pt_clL, pt_cz0, pt_cz1, pt_czi, pt_add, pt_addL, pt_Ladd, pt_mul, pt_mulL, pt_Lmul, pt_sub, pt_subL, pt_Lsub, pt_rem, pt_le, pt_leL, pt_Lle, pt_lt, pt_ltL, pt_Llt, pt_eq, pt_eqL, pt_Leq, pt_m1, pt_lt0, pt_ge0, pt_m1lt0, pt_m1ge0, pt_10, pt_01, pt_00, pt_11, pt_m11, pt_0m1, pt_1m1, pt_ib, pt_ib1, pt_hs, pt_so, pt_ofNat, pt_si, pt_sin, pt_si1, pt_si2, pt_sl, pt_sln, pt_sl0, pt_sl2, pt_sr, pt_srn, pt_sr0, pt_sr1, if_true, if_false, ite_true, ite_false, not_true_eq_false, not_false_eq_true, if_pos, if_neg]
      omega
    rw [bX6_shownBy_3, shl32 hn, if_pos hle]
    exact ⟨_, rfl, Or.inl rfl⟩
  | succ m ih =>
    intro c hc h1 fu hfu
    obtain ⟨fu, rfl⟩ : ∃ f', fu = f' + 1 := ⟨fu - 1, by omega⟩
    have hle : ¬ nI (2 ^ n) ≤ nI c := by
      generalize 2 ^ n = p at *
      simp (disch := omega) only [pt_lt_, pt_clsome, pt_ck, pt_ckL, pt_cl, pt_clL, pt_cz0, pt_cz1, pt_czi, pt_add, pt_addL, pt_Ladd, pt_mul, pt_mulL, pt_Lmul, pt_sub, pt_subL, pt_Lsub, pt_rem, pt_le, pt_leL, pt_Lle, pt_lt, pt_ltL, pt_Llt, pt_eq, pt_eqL, pt_Leq, pt_m1, pt_lt0, pt_ge0, pt_m1lt0, pt_m1ge0, pt_10, pt_01, pt_00, pt_11, pt_m11, pt_0m1, pt_1m1, pt_ib, pt_ib1, pt_hs, pt_so, pt_ofNat, pt_si, pt_sin, pt_si1, pt_si2, pt_sl, pt_sln, pt_sl0, pt_sl2, pt_sr, pt_srn, pt_sr0, pt_sr1, if_true, if_false, ite_true, ite_false, not_true_eq_false, not_false_eq_true, if_pos, if_neg]
      omega
    rw [bX6_shownBy_3, shl32 hn, if_neg hle]
    have e := sb_17 (F := F) (k3 := bX6_shownBy_3 F fu) (v2 := v2) (f := f) (v5 := nI c) hn n 0 (by omega) F (by omega) 0
    have e0 : nI 0 = 0 := rfl
    rw [e0] at e
    rcases e with e | e
    · rw [e]
      exact ⟨_, rfl, Or.inr ⟨c, h1, by generalize 2 ^ n = p at *; omega, rfl⟩⟩
    · rw [e, pt_addL]
      exact ih (c + 1) (by generalize 2 ^ n = p at *; omega) (by omega) fu (by omega)
theorem sb_ok {F n : Nat} {v2 : Int64} {f : Int32} (hF : 200 ≤ F) (hn : n ≤ 7) : ∃ z, pX1_makes F (nI n) v2 f = some z ∧ pX6_shownBy F (nI n) v2 f = some z ∧ (z = -1 ∨ ∃ k, 1 ≤ k ∧ k < 128 ∧ z = nI k) := by
  have h7 := pow7 hn
  obtain ⟨z, z1, z2⟩ := sb_3 (F := F) (v2 := v2) (f := f) hF hn (2 ^ n - 1) 1 (by omega) (by omega) F (by omega)
  have z1' : bX6_shownBy_3 F F (nI n) v2 f 1 = some z := z1
  refine ⟨z, ?_, z1', z2⟩
  unfold pX1_makes
  rw [mk_3]
  exact z1'
theorem code_of (x : Int64) : ∃ k : Nat, k < 256 ∧ (x &&& 255).toInt = k ∧ (x &&& 255).toInt32 = nI k := by
  have h : (x &&& 255).toBitVec.toNat < 256 := by
    rw [Int64.toBitVec_and, BitVec.toNat_and]
    exact Nat.and_lt_two_pow (n := 8) _ (by decide)
  have e : (x &&& 255).toInt = ((x &&& 255).toBitVec.toNat : Int) := by
    show (x &&& 255).toBitVec.toInt = _
    rw [BitVec.toInt_eq_toNat_cond, if_pos (by omega)]
  refine ⟨(x &&& 255).toBitVec.toNat, h, e, ?_⟩
  refine Int32.toInt_inj.mp ?_
  rw [Int64.toInt_toInt32, e, pt_toInt (by omega)]
  rw [Int.bmod_def]
  omega
theorem lg_neg {a b : Int64} : (lg_cmp a b < 0) = (a < b) := by
  unfold lg_cmp
  split
  · rename_i h
    have h2 : b < a := h
    refine propext ⟨fun q => absurd q (by decide), fun q => ?_⟩
    exact absurd (Int64.lt_trans h2 q) (Int64.lt_irrefl)
  · rename_i h
    split
    · rename_i h2
      subst h2
      refine propext ⟨fun q => absurd q (by decide), fun q => absurd q (Int64.lt_irrefl)⟩
    · rename_i h2
      refine propext ⟨fun _ => ?_, fun _ => by decide⟩
      have h3 : ¬ b < a := h
      rw [Int64.lt_iff_toInt_lt] at h3 ⊢
      have : ¬ a.toInt = b.toInt := fun e => h2 (Int64.toInt_inj.mp e)
      omega
theorem shl64 {n : Nat} (hn : n ≤ 7) : ((1 : Int64) <<< ((nI n).toInt64 &&& 63)).toInt = (2 ^ n : Nat) := by
  rcases (show n = 0 ∨ n = 1 ∨ n = 2 ∨ n = 3 ∨ n = 4 ∨ n = 5 ∨ n = 6 ∨ n = 7 by omega) with rfl | rfl | rfl | rfl | rfl | rfl | rfl | rfl <;> decide +kernel
theorem shr_zero7 {k n : Nat} (hk : k < 2147483648) (hn : n ≤ 7) : (nI k >>> (nI n &&& 31) = 0) = (k < 2 ^ n) := by
  have e1 : (nI n).toBitVec.toNat % 32 = n := by
    rcases (show n = 0 ∨ n = 1 ∨ n = 2 ∨ n = 3 ∨ n = 4 ∨ n = 5 ∨ n = 6 ∨ n = 7 by omega) with rfl | rfl | rfl | rfl | rfl | rfl | rfl | rfl <;> decide
  have h := shr_toInt (nI k) (nI n) n e1
  rw [pt_toInt hk] at h
  have hp : (0 : Int) < (2 ^ n : Nat) := by exact_mod_cast Nat.two_pow_pos n
  refine propext ⟨fun q => ?_, fun q => ?_⟩
  · rw [q] at h
    have h' : (k : Int) / (2 ^ n : Nat) = 0 := h.symm
    refine Nat.lt_of_not_le (fun hle => ?_)
    have : (1 : Int) ≤ (k : Int) / (2 ^ n : Nat) := (Int.le_ediv_iff_mul_le hp).mpr (by omega)
    omega
  · refine Int32.toInt_inj.mp ?_
    rw [h]
    exact Int.ediv_eq_zero_of_lt (by omega) (by omega)
theorem codes_loop {F hb n : Nat} {hu : hd_T} {κx κm : kp_K} {v2 : Int64} (hT : TW hu) (hM : MT hu κm) (hs : κx.2.2 0 4 = some hb) (hn : n ≤ 7) : ∀ m i, i + m = n → ∀ fx fm, m < fx → m < fm → ∃ b : Bool, bX1_areCodes_15 F hb hu fx κx (nI n) v2 (nI i) = some (if b then 1 else 0) ∧ bX6_areLines_15 F fm κm (nI n) v2 (nI i) = some (if b then 1 else 0) := by
  have t1 := hT.1.2.1
  intro m
  induction m with
  | zero =>
    intro i hi fx fm hfx hfm
    obtain ⟨fx, rfl⟩ : ∃ f', fx = f' + 1 := ⟨fx - 1, by omega⟩
    obtain ⟨fm, rfl⟩ : ∃ f', fm = f' + 1 := ⟨fm - 1, by omega⟩
    have hle : n ≤ i := by omega
    rw [bX1_areCodes_15, bX6_areLines_15]
    simp (disch := omega) only [pt_lt_, pt_clsome, pt_ck, pt_ckL, pt_cl, pt_clL, pt_cz0, pt_cz1, pt_czi, pt_add, pt_addL, pt_Ladd, pt_mul, pt_mulL, pt_Lmul, pt_sub, pt_subL, pt_Lsub, pt_rem, pt_le, pt_leL, pt_Lle, pt_lt, pt_ltL, pt_Llt, pt_eq, pt_eqL, pt_Leq, pt_m1, pt_lt0, pt_ge0, pt_m1lt0, pt_m1ge0, pt_10, pt_01, pt_00, pt_11, pt_m11, pt_0m1, pt_1m1, pt_ib, pt_ib1, pt_hs, pt_so, pt_ofNat, pt_si, pt_sin, pt_si1, pt_si2, pt_sl, pt_sln, pt_sl0, pt_sl2, pt_sr, pt_srn, pt_sr0, pt_sr1, if_true, if_false, ite_true, ite_false, not_true_eq_false, not_false_eq_true, if_pos, if_neg, hle]
    exact ⟨true, rfl, rfl⟩
  | succ m ih =>
    intro i hi fx fm hfx hfm
    obtain ⟨fx, rfl⟩ : ∃ f', fx = f' + 1 := ⟨fx - 1, by omega⟩
    obtain ⟨fm, rfl⟩ : ∃ f', fm = f' + 1 := ⟨fm - 1, by omega⟩
    have next := ih (i + 1) (by omega) fx fm (by omega) (by omega)
    have hle : ¬ nI n ≤ nI i := by simp (disch := omega) only [pt_lt_, pt_clsome, pt_ck, pt_ckL, pt_cl, pt_clL, pt_cz0, pt_cz1, pt_czi, pt_add, pt_addL, pt_Ladd, pt_mul, pt_mulL, pt_Lmul, pt_sub, pt_subL, pt_Lsub, pt_rem, pt_le, pt_leL, pt_Lle, pt_lt, pt_ltL, pt_Llt, pt_eq, pt_eqL, pt_Leq, pt_m1, pt_lt0, pt_ge0, pt_m1lt0, pt_m1ge0, pt_10, pt_01, pt_00, pt_11, pt_m11, pt_0m1, pt_1m1, pt_ib, pt_ib1, pt_hs, pt_so, pt_ofNat, pt_si, pt_sin, pt_si1, pt_si2, pt_sl, pt_sln, pt_sl0, pt_sl2, pt_sr, pt_srn, pt_sr0, pt_sr1, if_true, if_false, ite_true, ite_false, not_true_eq_false, not_false_eq_true, if_pos, if_neg]; omega
    have e68 := hM.1 1 (by omega)
    obtain ⟨k, k1, k2, k3⟩ := code_of (v2 >>> (((8 : Int32) * nI i).toInt64 &&& 63))
    have eck : ∀ {X : Type} (K : Option X), p_ck (1 : Int32) 16 K = K := fun K => pt_ckL (by decide) (by decide)
    have ec : (1 : Int32).toNatClampNeg = 1 := rfl
    rw [bX1_areCodes_15, bX6_areLines_15, if_neg hle, if_neg hle]
    unfold pX1_code
    rw [hs, eck, ec, e68, k3]
    simp only [pt_clsome, pt_hs, pt_ofNat, pt_addL, shr_zero7 (by omega : k < 2147483648) t1, lg_neg]
    have e : (((v2 >>> (((8 : Int32) * nI i).toInt64 &&& 63)) &&& 255) < ((1 : Int64) <<< ((nI (hu.2.1 1)).toInt64 &&& 63))) = (k < 2 ^ hu.2.1 1) := by
      rw [Int64.lt_iff_toInt_lt, k2, shl64 t1]
      exact propext ⟨fun h => by exact_mod_cast h, fun h => by exact_mod_cast h⟩
    simp only [e]
    by_cases h : k < 2 ^ hu.2.1 1
    · rw [if_pos h, if_pos h]
      exact next
    · rw [if_neg h, if_neg h]
      exact ⟨false, rfl, rfl⟩
theorem ls_codes {F hb : Nat} {hu : hd_T} {κx κm : kp_K} (hF : 200 ≤ F) (hT : TW hu) (hM : MT hu κm) (hs : κx.2.2 0 4 = some hb) (v1 : Int32) (v2 : Int64) : ∃ b : Bool, pX1_areCodes F hb hu κx v1 v2 = some (if b then 1 else 0) ∧ pX6_areLines F κm v1 v2 = some (if b then 1 else 0) ∧ (b = true → ∃ n : Nat, n ≤ 7 ∧ v1 = nI n) := by
  unfold pX1_areCodes pX6_areLines
  simp only [px_isIn, pt_clsome, pt_ib, ite_not]
  by_cases h0 : v1 < 0
  · rw [if_neg (fun q => Int32.not_le.mpr h0 q.1), if_pos h0]
    exact ⟨false, rfl, rfl, fun h => by cases h⟩
  · rw [if_neg h0]
    by_cases h1 : v1 ≤ 7
    · rw [if_pos ⟨Int32.not_lt.mp h0, h1⟩, if_pos h1]
      obtain ⟨n, hn, rfl⟩ := nI_of2 (M := 7) (n := 7) (by decide) h0 h1
      obtain ⟨b, b1, b2⟩ := codes_loop (F := F) (v2 := v2) hT hM hs hn n 0 (by omega) F F (by omega) (by omega)
      exact ⟨b, b1, b2, fun _ => ⟨n, hn, rfl⟩⟩
    · rw [if_neg (fun q => h1 q.2), if_neg h1]
      exact ⟨false, rfl, rfl, fun h => by cases h⟩
theorem gives_loop {F hb n : Nat} {hu : hd_T} {κx κm : kp_K} {v2 : Int64} (hF : 200 ≤ F) (hT : TW hu) (hM : MT hu κm) (hs : κx.2.2 0 4 = some hb) (hn : n ≤ 7) : ∀ m i, i + m = hu.2.1 1 → ∀ fx fm, m < fx → m < fm → ∀ acc, ∃ z, bX1_gives_17 F hb hu fx κx (nI n) v2 acc (nI i) = some z ∧ bX6_gives_22 F fm κm (nI n) v2 acc (nI i) = some (z, κm) := by
  have t1 := hT.1.2.1
  intro m
  induction m with
  | zero =>
    intro i hi fx fm hfx hfm acc
    obtain ⟨fx, rfl⟩ : ∃ f', fx = f' + 1 := ⟨fx - 1, by omega⟩
    obtain ⟨fm, rfl⟩ : ∃ f', fm = f' + 1 := ⟨fm - 1, by omega⟩
    have hle : hu.2.1 1 ≤ i := by omega
    rw [bX1_gives_17, bX6_gives_22]
    simp (disch := omega) only [pt_lt_, pt_clsome, pt_ck, pt_ckL, pt_cl, pt_clL, pt_cz0, pt_cz1, pt_czi, pt_add, pt_addL, pt_Ladd, pt_mul, pt_mulL, pt_Lmul, pt_sub, pt_subL, pt_Lsub, pt_rem, pt_le, pt_leL, pt_Lle, pt_lt, pt_ltL, pt_Llt, pt_eq, pt_eqL, pt_Leq, pt_m1, pt_lt0, pt_ge0, pt_m1lt0, pt_m1ge0, pt_10, pt_01, pt_00, pt_11, pt_m11, pt_0m1, pt_1m1, pt_ib, pt_ib1, pt_hs, pt_so, pt_ofNat, pt_si, pt_sin, pt_si1, pt_si2, pt_sl, pt_sln, pt_sl0, pt_sl2, pt_sr, pt_srn, pt_sr0, pt_sr1, if_true, if_false, ite_true, ite_false, not_true_eq_false, not_false_eq_true, if_pos, if_neg, hs, hM.1 1 (by omega), hle]
    exact ⟨_, rfl, rfl⟩
  | succ m ih =>
    intro i hi fx fm hfx hfm acc
    obtain ⟨fx, rfl⟩ : ∃ f', fx = f' + 1 := ⟨fx - 1, by omega⟩
    obtain ⟨fm, rfl⟩ : ∃ f', fm = f' + 1 := ⟨fm - 1, by omega⟩
    have next := ih (i + 1) (by omega) fx fm (by omega) (by omega)
    have hle : ¬ hu.2.1 1 ≤ i := by omega
    obtain ⟨z, z1, z2, z3⟩ := sb_ok (F := F) (v2 := v2) (f := nI i) hF hn
    rw [bX1_gives_17, bX6_gives_22]
    simp (disch := omega) only [pt_lt_, pt_clsome, pt_ck, pt_ckL, pt_cl, pt_clL, pt_cz0, pt_cz1, pt_czi, pt_add, pt_addL, pt_Ladd, pt_mul, pt_mulL, pt_Lmul, pt_sub, pt_subL, pt_Lsub, pt_rem, pt_le, pt_leL, pt_Lle, pt_lt, pt_ltL, pt_Llt, pt_eq, pt_eqL, pt_Leq, pt_m1, pt_lt0, pt_ge0, pt_m1lt0, pt_m1ge0, pt_10, pt_01, pt_00, pt_11, pt_m11, pt_0m1, pt_1m1, pt_ib, pt_ib1, pt_hs, pt_so, pt_ofNat, pt_si, pt_sin, pt_si1, pt_si2, pt_sl, pt_sln, pt_sl0, pt_sl2, pt_sr, pt_srn, pt_sr0, pt_sr1, if_true, if_false, ite_true, ite_false, not_true_eq_false, not_false_eq_true, hs, hM.1 1 (by omega), hle, z1, z2]
    rcases z3 with rfl | ⟨k, k1, k2, rfl⟩
    · rw [if_pos (by decide), if_pos rfl, Int32.or_zero]
      exact next _
    · have g0 : ¬ nI k ≤ 0 := by simp (disch := omega) only [pt_lt_, pt_clsome, pt_ck, pt_ckL, pt_cl, pt_clL, pt_cz0, pt_cz1, pt_czi, pt_add, pt_addL, pt_Ladd, pt_mul, pt_mulL, pt_Lmul, pt_sub, pt_subL, pt_Lsub, pt_rem, pt_le, pt_leL, pt_Lle, pt_lt, pt_ltL, pt_Llt, pt_eq, pt_eqL, pt_Leq, pt_m1, pt_lt0, pt_ge0, pt_m1lt0, pt_m1ge0, pt_10, pt_01, pt_00, pt_11, pt_m11, pt_0m1, pt_1m1, pt_ib, pt_ib1, pt_hs, pt_so, pt_ofNat, pt_si, pt_sin, pt_si1, pt_si2, pt_sl, pt_sln, pt_sl0, pt_sl2, pt_sr, pt_srn, pt_sr0, pt_sr1, if_true, if_false, ite_true, ite_false, not_true_eq_false, not_false_eq_true, if_pos, if_neg]; omega
      have g1 : ¬ nI k = -1 := by
        rw [pt_m1 (by omega)]
        exact id
      rw [if_neg g0, if_neg g1]
      exact next _
theorem ls_gives {F : Nat} {hu : hd_T} {hb : Nat} {κx κm : kp_K} (hF : 200 ≤ F) (I : INV hu hb κx κm) (v1 : Int32) (v2 : Int64) : iLR hu hb κx κm (pX1_gives F hb hu κx v1 v2) (pX6_gives F κm v1 v2) := by
  obtain ⟨hT, hM, hs, -⟩ := id I
  have hM' := (I.th (v := 0)).2.1
  have done : ∀ z : Int32, iLR hu hb κx κm (some z) (some (z, s_i κm 66 0 0)) := fun z => ⟨_, _, rfl, rfl, I.th, MF0⟩
  obtain ⟨b, b1, b2, b3⟩ := ls_codes hF hT hM' hs v1 v2
  unfold pX1_gives pX6_gives
  rw [b1]
  simp only [pt_lt_]
  rw [b2]
  simp only [pt_clsome]
  cases b with
  | false => exact done _
  | true =>
    obtain ⟨n, hn, rfl⟩ := b3 rfl
    have t1 := hT.1.2.1
    obtain ⟨z, z1, z2⟩ := gives_loop (v2 := v2) hF hT hM' hs hn (hu.2.1 1) 0 (by omega) F F (by omega) (by omega) 0
    have z1' : bX1_gives_17 F hb hu F κx (nI n) v2 0 0 = some z := z1
    have z2' : bX6_gives_22 F F (s_i κm 66 0 0) (nI n) v2 0 0 = some (z, s_i κm 66 0 0) := z2
    rw [if_pos rfl, z1', z2', if_neg (by decide), if_neg (by decide)]
    exact done _
theorem ls_shows {F : Nat} {hu : hd_T} {hb : Nat} {κx κm : kp_K} (hF : 200 ≤ F) (I : INV hu hb κx κm) (v1 : Int32) (v2 : Int64) (v4 : Int32) : iLR hu hb κx κm (pX1_shows F hb hu κx v1 v2 v4) (pX6_shows F κm v1 v2 v4) := by
  obtain ⟨hT, hM, hs, -⟩ := id I
  have hM' := (I.th (v := 0)).2.1
  have done : ∀ z : Int32, iLR hu hb κx κm (some z) (some (z, s_i κm 66 0 0)) := fun z => ⟨_, _, rfl, rfl, I.th, MF0⟩
  obtain ⟨b, b1, b2, b3⟩ := ls_codes hF hT hM' hs v1 v2
  unfold pX1_shows pX6_shows
  rw [b1]
  simp only [pt_lt_]
  rw [b2, px_isFact hs hT.1.2.1, pm_isFact hM']
  simp only [pt_clsome, pt_ib, ite_not]
  cases b with
  | false => exact done _
  | true =>
    obtain ⟨n, hn, rfl⟩ := b3 rfl
    obtain ⟨z, z1, z2, z3⟩ := sb_ok (F := F) (v2 := v2) (f := v4) hF hn
    rw [if_pos rfl, if_pos rfl]
    by_cases h : 0 ≤ v4 ∧ v4 < nI (hu.2.1 1)
    · rw [if_pos h, if_pos h, z1, z2]
      simp only [pt_clsome]
      rcases z3 with rfl | ⟨k, k1, k2, rfl⟩
      · rw [if_neg (by decide), if_pos rfl]
        exact done _
      · have g0 : 0 ≤ nI k := by simp (disch := omega) only [pt_lt_, pt_clsome, pt_ck, pt_ckL, pt_cl, pt_clL, pt_cz0, pt_cz1, pt_czi, pt_add, pt_addL, pt_Ladd, pt_mul, pt_mulL, pt_Lmul, pt_sub, pt_subL, pt_Lsub, pt_rem, pt_le, pt_leL, pt_Lle, pt_lt, pt_ltL, pt_Llt, pt_eq, pt_eqL, pt_Leq, pt_m1, pt_lt0, pt_ge0, pt_m1lt0, pt_m1ge0, pt_10, pt_01, pt_00, pt_11, pt_m11, pt_0m1, pt_1m1, pt_ib, pt_ib1, pt_hs, pt_so, pt_ofNat, pt_si, pt_sin, pt_si1, pt_si2, pt_sl, pt_sln, pt_sl0, pt_sl2, pt_sr, pt_srn, pt_sr0, pt_sr1, if_true, if_false, ite_true, ite_false, not_true_eq_false, not_false_eq_true, if_pos, if_neg]; omega
        have g1 : ¬ nI k = -1 := by
          rw [pt_m1 (by omega)]
          exact id
        rw [if_pos g0, if_neg g1]
        exact done _
    · rw [if_neg h, if_neg h]
      exact done _
