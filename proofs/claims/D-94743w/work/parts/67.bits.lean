/-! PURE LAYER: bits counted; what all desks together are worth -/
set_option maxRecDepth 100000
def pcN (k : Nat) : Nat := k % 2 + k / 2 % 2 + k / 4 % 2 + k / 8 % 2
theorem px_bits {k : Nat} (hk : k < 16) : pJ19_bitCount (nI k) = some (nI (pcN k)) := by
  have key : ∀ k : Fin 16, pJ19_bitCount (nI k.val) = some (nI (pcN k.val)) := by decide +kernel
  exact key ⟨k, hk⟩
def boS (v : Int32) : Nat → Nat → Int32 → Int32
  | 0, _, acc => acc
  | m + 1, i, acc => boS v m (i + 1) (acc + ob v (nI i))
theorem pm_bitsIt {F : Nat} {v : Int32} : ∀ m i, i + m = 31 → ∀ f, m < f → ∀ acc, bX6_bitsOf_4 F f v acc (nI i) = some (boS v m i acc) := by
  intro m
  induction m with
  | zero =>
    intro i hi f hf acc
    obtain ⟨f, rfl⟩ : ∃ f', f = f' + 1 := ⟨f - 1, by omega⟩
    rw [bX6_bitsOf_4]
    simp (disch := omega) only [pt_lt_, pt_clsome, pt_ck, pt_ckL, pt_cl, pt_clL, pt_cz0, pt_cz1, pt_czi, pt_add, pt_addL, pt_Ladd, pt_mul, pt_mulL, pt_Lmul, pt_sub, pt_subL, pt_Lsub, pt_rem, pt_le, pt_leL, pt_Lle, pt_lt, pt_ltL, pt_Llt, pt_eq, pt_eqL, pt_Leq, pt_m1, pt_lt0, pt_ge0, pt_m1lt0, pt_m1ge0, pt_10, pt_01, pt_00, pt_11, pt_m11, pt_0m1, pt_1m1, pt_ib, pt_ib1, pt_hs, pt_so, pt_ofNat, pt_si, pt_sin, pt_si1, pt_si2, pt_sl, pt_sln, pt_sl0, pt_sl2, pt_sr, pt_srn, pt_sr0, pt_sr1, if_true, if_false, ite_true, ite_false, not_true_eq_false, not_false_eq_true, if_pos, if_neg]
    rfl
  | succ m ih =>
    intro i hi f hf acc
    obtain ⟨f, rfl⟩ : ∃ f', f = f' + 1 := ⟨f - 1, by omega⟩
    rw [bX6_bitsOf_4]
    simp (disch := omega) only [pt_lt_, pt_clsome, pt_ck, pt_ckL, pt_cl, pt_clL, pt_cz0, pt_cz1, pt_czi, pt_add, pt_addL, pt_Ladd, pt_mul, pt_mulL, pt_Lmul, pt_sub, pt_subL, pt_Lsub, pt_rem, pt_le, pt_leL, pt_Lle, pt_lt, pt_ltL, pt_Llt, pt_eq, pt_eqL, pt_Leq, pt_m1, pt_lt0, pt_ge0, pt_m1lt0, pt_m1ge0, pt_10, pt_01, pt_00, pt_11, pt_m11, pt_0m1, pt_1m1, pt_ib, pt_ib1, pt_hs, pt_so, pt_ofNat, pt_si, pt_sin, pt_si1, pt_si2, pt_sl, pt_sln, pt_sl0, pt_sl2, pt_sr, pt_srn, pt_sr0, pt_sr1, if_true, if_false, ite_true, ite_false, not_true_eq_false, not_false_eq_true, if_pos, if_neg]
    exact ih (i + 1) (by omega) f (by omega) _
theorem pm_bits {F k : Nat} (hF : 80 ≤ F) (hk : k < 16) : pX6_bitsOf F (nI k) = some (nI (pcN k)) := by
  have e : bX6_bitsOf_4 F F (nI k) 0 0 = _ := pm_bitsIt (F := F) (v := nI k) 31 0 (by omega) F (by omega) 0
  unfold pX6_bitsOf
  rw [e]
  have key : ∀ k : Fin 16, boS (nI k.val) 31 0 0 = nI (pcN k.val) := by decide +kernel
  exact congrArg some (key ⟨k, hk⟩)
/-- a set of all desks -/
theorem full_bit {n d : Nat} (hn : n ≤ 4) (hd : d < n) : ob (nI (2 ^ n - 1)) (nI d) = 1 ∧ ob 15 (nI d) = 1 := by
  have key : ∀ n : Fin 5, ∀ d : Fin 4, d.val < n.val → ob (nI (2 ^ n.val - 1)) (nI d.val) = 1 ∧ ob 15 (nI d.val) = 1 := by decide +kernel
  exact key ⟨n, by omega⟩ ⟨d, by omega⟩ hd
theorem full_pc {n : Nat} (hn : n ≤ 4) : pcN (2 ^ n - 1) = n ∧ 2 ^ n ≤ 16 ∧ 1 ≤ 2 ^ n := by
  have key : ∀ n : Fin 5, pcN (2 ^ n.val - 1) = n.val ∧ 2 ^ n.val ≤ 16 ∧ 1 ≤ 2 ^ n.val := by decide +kernel
  exact key ⟨n, by omega⟩
/-- how many questions are on a fact -/
def cnF (hu : hd_T) (f : Nat) : Nat → Nat → Nat
  | _, 0 => 0
  | i, m + 1 => (if hu.1 32 i = nI f then 1 else 0) + cnF hu f (i + 1) m
theorem sh_none {F hb f : Nat} {hu : hd_T} {κx : kp_K} {v2 v3 : Int32} (hT : TW hu) (hs : κx.2.2 0 4 = some hb) (hf : f < hu.2.1 1) : ∀ m i, i + m = hu.2.1 3 → cnF hu f i m = 0 → ∀ fx, m < fx → ∀ acc, bX1_shareOf_6 F hb hu fx κx (nI f) v2 v3 acc (nI i) = some acc := by
  obtain ⟨⟨t0, t1, t2, t3, t4, t5⟩, -⟩ := id hT
  intro m
  induction m with
  | zero =>
    intro i hi _ fx hfx acc
    obtain ⟨fx, rfl⟩ : ∃ f', fx = f' + 1 := ⟨fx - 1, by omega⟩
    have hle : hu.2.1 3 ≤ i := by omega
    rw [bX1_shareOf_6]
    simp (disch := omega) only [pt_lt_, pt_clsome, pt_ck, pt_ckL, pt_cl, pt_clL, pt_cz0, pt_cz1, pt_czi, pt_add, pt_addL, pt_Ladd, pt_mul, pt_mulL, pt_Lmul, pt_sub, pt_subL, pt_Lsub, pt_rem, pt_le, pt_leL, pt_Lle, pt_lt, pt_ltL, pt_Llt, pt_eq, pt_eqL, pt_Leq, pt_m1, pt_lt0, pt_ge0, pt_m1lt0, pt_m1ge0, pt_10, pt_01, pt_00, pt_11, pt_m11, pt_0m1, pt_1m1, pt_ib, pt_ib1, pt_hs, pt_so, pt_ofNat, pt_si, pt_sin, pt_si1, pt_si2, pt_sl, pt_sln, pt_sl0, pt_sl2, pt_sr, pt_srn, pt_sr0, pt_sr1, if_true, if_false, ite_true, ite_false, not_true_eq_false, not_false_eq_true, if_pos, if_neg, hs, hle]
  | succ m ih =>
    intro i hi hc fx hfx acc
    obtain ⟨fx, rfl⟩ : ∃ f', fx = f' + 1 := ⟨fx - 1, by omega⟩
    have hle : ¬ hu.2.1 3 ≤ i := by omega
    rw [cnF] at hc
    have hq : ¬ hu.1 32 i = nI f := by
      intro q
      rw [if_pos q] at hc
      omega
    rw [bX1_shareOf_6]
    simp (disch := omega) only [pt_lt_, pt_clsome, pt_ck, pt_ckL, pt_cl, pt_clL, pt_cz0, pt_cz1, pt_czi, pt_add, pt_addL, pt_Ladd, pt_mul, pt_mulL, pt_Lmul, pt_sub, pt_subL, pt_Lsub, pt_rem, pt_le, pt_leL, pt_Lle, pt_lt, pt_ltL, pt_Llt, pt_eq, pt_eqL, pt_Leq, pt_m1, pt_lt0, pt_ge0, pt_m1lt0, pt_m1ge0, pt_10, pt_01, pt_00, pt_11, pt_m11, pt_0m1, pt_1m1, pt_ib, pt_ib1, pt_hs, pt_so, pt_ofNat, pt_si, pt_sin, pt_si1, pt_si2, pt_sl, pt_sln, pt_sl0, pt_sl2, pt_sr, pt_srn, pt_sr0, pt_sr1, if_true, if_false, ite_true, ite_false, not_true_eq_false, not_false_eq_true, if_pos, if_neg, hs, hle, hq]
    exact ih (i + 1) (by omega) (by omega) fx (by omega) acc
theorem sh_all {F hb f w : Nat} {hu : hd_T} {κx : kp_K} {v2 : Int32} (hT : TW hu) (hs : κx.2.2 0 4 = some hb) (hf : f < hu.2.1 1) (hw : hu.1 11 f = nI w) (hbit : ∀ d, d < hu.2.1 0 → ob v2 (nI d) = 1) : ∀ m i, i + m = hu.2.1 3 → ∀ fx, m < fx → ∀ acc, bX1_shareOf_6 F hb hu fx κx (nI f) v2 0 (nI acc) (nI i) = some (nI (acc + w * cnF hu f i m)) := by
  obtain ⟨⟨t0, t1, t2, t3, t4, t5⟩, -⟩ := id hT
  have ew := px_worth (κ := κx) hs hf t1
  intro m
  induction m with
  | zero =>
    intro i hi fx hfx acc
    obtain ⟨fx, rfl⟩ : ∃ f', fx = f' + 1 := ⟨fx - 1, by omega⟩
    have hle : hu.2.1 3 ≤ i := by omega
    rw [bX1_shareOf_6]
    simp (disch := omega) only [pt_lt_, pt_clsome, pt_ck, pt_ckL, pt_cl, pt_clL, pt_cz0, pt_cz1, pt_czi, pt_add, pt_addL, pt_Ladd, pt_mul, pt_mulL, pt_Lmul, pt_sub, pt_subL, pt_Lsub, pt_rem, pt_le, pt_leL, pt_Lle, pt_lt, pt_ltL, pt_Llt, pt_eq, pt_eqL, pt_Leq, pt_m1, pt_lt0, pt_ge0, pt_m1lt0, pt_m1ge0, pt_10, pt_01, pt_00, pt_11, pt_m11, pt_0m1, pt_1m1, pt_ib, pt_ib1, pt_hs, pt_so, pt_ofNat, pt_si, pt_sin, pt_si1, pt_si2, pt_sl, pt_sln, pt_sl0, pt_sl2, pt_sr, pt_srn, pt_sr0, pt_sr1, if_true, if_false, ite_true, ite_false, not_true_eq_false, not_false_eq_true, if_pos, if_neg, hs, hle]
    rfl
  | succ m ih =>
    intro i hi fx hfx acc
    obtain ⟨fx, rfl⟩ : ∃ f', fx = f' + 1 := ⟨fx - 1, by omega⟩
    have hle : ¬ hu.2.1 3 ≤ i := by omega
    have hq : i < hu.2.1 3 := by omega
    obtain ⟨y, d, g, z, -, hd, hg, -, -, e31, e32, -⟩ := hT.2.2.2.2.1 i hq
    have next := ih (i + 1) (by omega) fx (by omega)
    rw [bX1_shareOf_6, cnF, e32]
    simp (disch := omega) only [pt_lt_, pt_clsome, pt_ck, pt_ckL, pt_cl, pt_clL, pt_cz0, pt_cz1, pt_czi, pt_add, pt_addL, pt_Ladd, pt_mul, pt_mulL, pt_Lmul, pt_sub, pt_subL, pt_Lsub, pt_rem, pt_le, pt_leL, pt_Lle, pt_lt, pt_ltL, pt_Llt, pt_eq, pt_eqL, pt_Leq, pt_m1, pt_lt0, pt_ge0, pt_m1lt0, pt_m1ge0, pt_10, pt_01, pt_00, pt_11, pt_m11, pt_0m1, pt_1m1, pt_ib, pt_ib1, pt_hs, pt_so, pt_ofNat, pt_si, pt_sin, pt_si1, pt_si2, pt_sl, pt_sln, pt_sl0, pt_sl2, pt_sr, pt_srn, pt_sr0, pt_sr1, if_true, if_false, ite_true, ite_false, not_true_eq_false, not_false_eq_true, hs, hle, e31, e32, px_isOf]
    have wX : ∀ v, bX1_shareOf_139 F hb hu (bX1_shareOf_6 F hb hu fx) κx (nI f) v2 0 (nI i) v = bX1_shareOf_6 F hb hu fx κx (nI f) v2 0 (v + nI w) (nI (i + 1)) := by
      intro v
      unfold bX1_shareOf_139
      rw [ew, hw]
      simp only [pt_clsome, pt_lt_, pt_addL]
    have e10 : ((1 : Int32) = 0) = False := by decide
    by_cases hgf : g = f
    · rw [if_pos hgf, if_pos hgf]
      unfold bX1_shareOf_102 bX1_shareOf_103 bX1_shareOf_129
      rw [hbit d hd]
      rcases asA_of hT hd with ⟨-, h2⟩ | ⟨a, h1, -, -, h4⟩
      · simp (disch := omega) only [pt_lt_, pt_clsome, pt_ck, pt_ckL, pt_cl, pt_clL, pt_cz0, pt_cz1, pt_czi, pt_add, pt_addL, pt_Ladd, pt_mul, pt_mulL, pt_Lmul, pt_sub, pt_subL, pt_Lsub, pt_rem, pt_le, pt_leL, pt_Lle, pt_lt, pt_ltL, pt_Llt, pt_eq, pt_eqL, pt_Leq, pt_m1, pt_lt0, pt_ge0, pt_m1lt0, pt_m1ge0, pt_10, pt_01, pt_00, pt_11, pt_m11, pt_0m1, pt_1m1, pt_ib, pt_ib1, pt_hs, pt_so, pt_ofNat, pt_si, pt_sin, pt_si1, pt_si2, pt_sl, pt_sln, pt_sl0, pt_sl2, pt_sr, pt_srn, pt_sr0, pt_sr1, if_true, if_false, ite_true, ite_false, not_true_eq_false, not_false_eq_true, if_pos, if_neg, h2, wX, e10]
        rw [next (acc + w), Nat.mul_add, Nat.mul_one, Nat.add_assoc]
      · have ga : ¬ a < 0 := Nat.not_lt_zero a
        simp (disch := omega) only [pt_lt_, pt_clsome, pt_ck, pt_ckL, pt_cl, pt_clL, pt_cz0, pt_cz1, pt_czi, pt_add, pt_addL, pt_Ladd, pt_mul, pt_mulL, pt_Lmul, pt_sub, pt_subL, pt_Lsub, pt_rem, pt_le, pt_leL, pt_Lle, pt_lt, pt_ltL, pt_Llt, pt_eq, pt_eqL, pt_Leq, pt_m1, pt_lt0, pt_ge0, pt_m1lt0, pt_m1ge0, pt_10, pt_01, pt_00, pt_11, pt_m11, pt_0m1, pt_1m1, pt_ib, pt_ib1, pt_hs, pt_so, pt_ofNat, pt_si, pt_sin, pt_si1, pt_si2, pt_sl, pt_sln, pt_sl0, pt_sl2, pt_sr, pt_srn, pt_sr0, pt_sr1, if_true, if_false, ite_true, ite_false, not_true_eq_false, not_false_eq_true, if_pos, if_neg, h4, hbit a h1, ga, wX, e10]
        rw [next (acc + w), Nat.mul_add, Nat.mul_one, Nat.add_assoc]
    · rw [if_neg hgf, if_neg hgf, Nat.zero_add]
      exact next acc
