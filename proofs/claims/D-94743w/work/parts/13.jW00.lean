/-! the JDK's members: walks of its methods: printed by gen -/
set_option maxRecDepth 100000
theorem ic_1 : Int32.ofInt (1) = (1 : Int32) := by decide +kernel
set_option maxHeartbeats 4000000 in
theorem metJ3_coder {l : Launch} {G : je_G} {σ : Nat → Option je_E} {sz : Nat} {a0 : Nat} {r9 : Int32} (h : pJ3_coder a0 = some r9) : MetS l G yJ3_coder cJ3_coder 1 (some .byte) 0 0 0 0 [.ref (G.2.2.2.1 a0)] σ sz (some (.int r9)) σ sz := by
  refine je_met "java/lang/String" rfl (by decide +kernel) (Nat.le_of_ble_eq_true rfl) [(0, .ref (G.2.2.2.1 a0))] rfl (fun p e s m args below meth c C => ?_)
  unfold pJ3_coder at h
  refine je_gets C (je_zCS C.2.2.2.2.2.2.2.2) q610 rfl dJ3_coder_0 3 rfl ?_
  refine je_if_eq C 13 dJ3_coder_3 6 rfl rfl h (fun h => ?_) (fun h => ?_)
  · refine je_iconst C (1) dJ3_coder_13 14 rfl ic_1 ?_
    cases h
    exact je_bret C dJ3_coder_14 (Or.inr rfl)
  refine je_aload_n C dJ3_coder_6 7 rfl 0 rfl ?_
  obtain ⟨hi, h⟩ := p_i3_inv h
  refine je_Scod C hi q2438 dJ3_coder_7 10 rfl ?_
  refine je_goto C 14 dJ3_coder_10 rfl ?_
  cases h
  exact je_bret C dJ3_coder_14 (Or.inl rfl)
theorem hdJ3_coder : je_hd yJ3_coder 0 := ⟨by decide +kernel, by decide +kernel, by decide +kernel⟩
theorem cwJ3_335 : GoodIn lw_all (wsV "java/lang/String" 335 "java/lang/String" yJ3_coder (ws_ yJ3_coder cJ3_coder 1 (some .byte))) := lw_V q606 q607 q608 q171 q609
set_option maxHeartbeats 4000000 in
theorem metJ3_length {l : Launch} {G : je_G} {σ : Nat → Option je_E} {sz : Nat} {a0 : Nat} {r9 : Int32} (h : pJ3_length a0 = some r9) : MetS l G yJ3_length cJ3_length 1 (some .int) 1 20 0 0 [.ref (G.2.2.2.1 a0)] σ sz (some (.int r9)) σ sz := by
  refine je_met "java/lang/String" rfl (by decide +kernel) (Nat.le_of_ble_eq_true rfl) [(0, .ref (G.2.2.2.1 a0))] rfl (fun p e s m args below meth c C => ?_)
  unfold pJ3_length at h
  refine je_aload_n C dJ3_length_0 1 rfl 0 rfl ?_
  obtain ⟨hi, h⟩ := p_i3_inv h
  refine je_Sval C hi q2437 dJ3_length_1 4 rfl ?_
  obtain ⟨hi, h⟩ := p_i3_inv h
  refine je_Slen C hi dJ3_length_4 5 rfl ?_
  refine je_aload_n C dJ3_length_5 6 rfl 0 rfl ?_
  obtain ⟨t6, hg, h⟩ := p_cl_inv h
  obtain ⟨hi, h⟩ := p_i3_inv h
  refine je_callSti (i := a0) (As := []) (rest := [.int (Int32.ofNat (lenS.getD a0 0))]) C hi (metJ3_coder hg) hdJ3_coder rfl cwJ3_335 rfl ⟨Nat.le_of_ble_eq_true rfl, Nat.le_of_ble_eq_true rfl⟩ (Nat.le_of_ble_eq_true rfl) dJ3_length_6 9 rfl ⟨Nat.le_refl _, Nat.le_refl _⟩ ?_
  refine je_ishr C dJ3_length_9 10 rfl ?_
  cases h
  exact je_iret C dJ3_length_10
theorem ic_0 : Int32.ofInt (0) = (0 : Int32) := by decide +kernel
set_option maxHeartbeats 4000000 in
theorem metJ3_isLatin1 {l : Launch} {G : je_G} {σ : Nat → Option je_E} {sz : Nat} {a0 : Nat} {r9 : Int32} (h : pJ3_isLatin1 a0 = some r9) : MetS l G yJ3_isLatin1 cJ3_isLatin1 1 (some .boolean) 0 0 0 0 [.ref (G.2.2.2.1 a0)] σ sz (some (.int r9)) σ sz := by
  refine je_met "java/lang/String" rfl (by decide +kernel) (Nat.le_of_ble_eq_true rfl) [(0, .ref (G.2.2.2.1 a0))] rfl (fun p e s m args below meth c C => ?_)
  unfold pJ3_isLatin1 at h
  refine je_gets C (je_zCS C.2.2.2.2.2.2.2.2) q610 rfl dJ3_isLatin1_0 3 rfl ?_
  refine je_if_eq C 17 dJ3_isLatin1_3 6 rfl rfl h (fun h => ?_) (fun h => ?_)
  · refine je_iconst C (0) dJ3_isLatin1_17 18 rfl ic_0 ?_
    cases h
    exact je_zret C dJ3_isLatin1_18 (Or.inl rfl)
  refine je_aload_n C dJ3_isLatin1_6 7 rfl 0 rfl ?_
  obtain ⟨hi, h⟩ := p_i3_inv h
  refine je_Scod C hi q2438 dJ3_isLatin1_7 10 rfl ?_
  refine je_if_ne C 17 dJ3_isLatin1_10 13 rfl rfl h (fun h => ?_) (fun h => ?_)
  · refine je_iconst C (0) dJ3_isLatin1_17 18 rfl ic_0 ?_
    cases h
    exact je_zret C dJ3_isLatin1_18 (Or.inl rfl)
  refine je_iconst C (1) dJ3_isLatin1_13 14 rfl ic_1 ?_
  refine je_goto C 18 dJ3_isLatin1_14 rfl ?_
  cases h
  exact je_zret C dJ3_isLatin1_18 (Or.inr rfl)
set_option maxHeartbeats 4000000 in
theorem metJ7_checkIndex {l : Launch} {G : je_G} {σ : Nat → Option je_E} {sz : Nat} {o2 : Option Nat} {v0 : Int32} {v1 : Int32} {r9 : Int32} (h : pJ7_checkIndex v0 v1 = some r9) : MetS l G yJ7_checkIndex cJ7_checkIndex 3 (some .int) 0 0 0 0 [.int v0, .int v1, va_rf o2] σ sz (some (.int r9)) σ sz := by
  refine je_met "jdk/internal/util/Preconditions" rfl (by decide +kernel) (by cases o2 <;> exact Nat.le_of_ble_eq_true rfl) [(0, .int v0), (1, .int v1), (2, va_rf o2)] (by cases o2 <;> rfl) (fun p e s m args below meth c C => ?_)
  unfold pJ7_checkIndex at h
  refine je_iload_n C dJ7_checkIndex_0 1 rfl 0 rfl ?_
  refine je_if_lt C 9 dJ7_checkIndex_1 4 rfl rfl h (fun h => ?_) (fun h => ?_)
  · refine je_aloadR_n C dJ7_checkIndex_9 10 rfl 2 rfl ?_
    refine je_iload_n C dJ7_checkIndex_10 11 rfl 0 rfl ?_
    refine je_iload_n C dJ7_checkIndex_11 12 rfl 1 rfl ?_
    cases h
  refine je_iload_n C dJ7_checkIndex_4 5 rfl 0 rfl ?_
  refine je_iload_n C dJ7_checkIndex_5 6 rfl 1 rfl ?_
  refine je_icmp_lt C 16 dJ7_checkIndex_6 9 rfl rfl h (fun h => ?_) (fun h => ?_)
  · refine je_iload_n C dJ7_checkIndex_16 17 rfl 0 rfl ?_
    cases h
    exact je_iret C dJ7_checkIndex_17
  refine je_aloadR_n C dJ7_checkIndex_9 10 rfl 2 rfl ?_
  refine je_iload_n C dJ7_checkIndex_10 11 rfl 0 rfl ?_
  refine je_iload_n C dJ7_checkIndex_11 12 rfl 1 rfl ?_
  cases h
theorem hdJ7_checkIndex : je_hd yJ7_checkIndex 3 := ⟨by decide +kernel, by decide +kernel, by decide +kernel⟩
theorem cwJ3_1059 : GoodIn lw_all (va_wsS "java/lang/String" 1059 yJ7_checkIndex (ws_ yJ7_checkIndex cJ7_checkIndex 3 (some .int))) := lw_S q695 q696 q175 q697
set_option maxHeartbeats 4000000 in
theorem metJ3_checkIndex {l : Launch} {G : je_G} {σ : Nat → Option je_E} {sz : Nat} {v0 : Int32} {v1 : Int32} {r9 : Unit} (h : pJ3_checkIndex v0 v1 = some r9) : MetS l G yJ3_checkIndex cJ3_checkIndex 2 none 1 22 0 0 [.int v0, .int v1] σ sz none σ sz := by
  refine je_met "java/lang/String" rfl (by decide +kernel) (Nat.le_of_ble_eq_true rfl) [(0, .int v0), (1, .int v1)] rfl (fun p e s m args below meth c C => ?_)
  unfold pJ3_checkIndex at h
  refine je_iload_n C dJ3_checkIndex_0 1 rfl 0 rfl ?_
  refine je_iload_n C dJ3_checkIndex_1 2 rfl 1 rfl ?_
  refine je_gets C (je_zSF C.2.2.2.2.2.2.2.2) q654 rfl dJ3_checkIndex_2 5 rfl ?_
  obtain ⟨t5, hg, h⟩ := p_cl_inv h
  refine je_callSi (As := [.int v0, .int v1, va_rf (G.2.2.2.2 2)]) (rest := []) C (metJ7_checkIndex hg) hdJ7_checkIndex cwJ3_1059 rfl ⟨Nat.le_of_ble_eq_true rfl, Nat.le_of_ble_eq_true rfl⟩ (Nat.le_of_ble_eq_true rfl) dJ3_checkIndex_5 8 rfl ⟨Nat.le_refl _, Nat.le_refl _⟩ ?_
  refine je_pop C dJ3_checkIndex_8 9 rfl rfl ?_
  cases h
  exact je_vret C dJ3_checkIndex_9
theorem sp_255 : (Int16.ofInt (255)).toInt32 = (255 : Int32) := by decide +kernel
theorem hdJ3_checkIndex : je_hd yJ3_checkIndex 2 := ⟨by decide +kernel, by decide +kernel, by decide +kernel⟩
theorem cwJ4_9 : GoodIn lw_all (va_wsS "java/lang/StringLatin1" 9 yJ3_checkIndex (ws_ yJ3_checkIndex cJ3_checkIndex 2 none)) := lw_S q692 q693 q171 q694
set_option maxHeartbeats 4000000 in
theorem metJ4_charAt {l : Launch} {G : je_G} {σ : Nat → Option je_E} {sz : Nat} {a0 : Nat} {v1 : Int32} {r9 : Int32} (h : pJ4_charAt a0 v1 = some r9) : MetS l G yJ4_charAt cJ4_charAt 2 (some .char) 2 43 0 0 [.ref (G.2.2.2.1 (3 + a0)), .int v1] σ sz (some (.int r9)) σ sz := by
  refine je_met "java/lang/StringLatin1" rfl (by decide +kernel) (Nat.le_of_ble_eq_true rfl) [(0, .ref (G.2.2.2.1 (3 + a0))), (1, .int v1)] rfl (fun p e s m args below meth c C => ?_)
  unfold pJ4_charAt at h
  refine je_iload_n C dJ4_charAt_0 1 rfl 1 rfl ?_
  refine je_aload_n C dJ4_charAt_1 2 rfl 0 rfl ?_
  obtain ⟨hi, h⟩ := p_i3_inv h
  refine je_Slen C hi dJ4_charAt_2 3 rfl ?_
  obtain ⟨q3, hg, h⟩ := p_cl_inv h
  refine je_callSv (As := [.int v1, .int (Int32.ofNat (lenS.getD a0 0))]) (rest := []) C (metJ3_checkIndex hg) hdJ3_checkIndex cwJ4_9 rfl ⟨Nat.le_of_ble_eq_true rfl, Nat.le_of_ble_eq_true rfl⟩ (Nat.le_of_ble_eq_true rfl) dJ4_charAt_3 6 rfl ⟨Nat.le_refl _, Nat.le_refl _⟩ ?_
  refine je_aload_n C dJ4_charAt_6 7 rfl 0 rfl ?_
  refine je_iload_n C dJ4_charAt_7 8 rfl 1 rfl ?_
  obtain ⟨hi, h⟩ := p_i3_inv h
  obtain ⟨hin, h⟩ := p_ck_inv h
  refine je_Sbald C hi dJ4_charAt_8 9 rfl hin ?_
  refine je_sipush C (255) dJ4_charAt_9 12 rfl sp_255 ?_
  refine je_iand C dJ4_charAt_12 13 rfl ?_
  refine je_i2c C dJ4_charAt_13 14 rfl ?_
  obtain ⟨hz, h⟩ := p_c8_inv h
  cases h
  exact je_cret C dJ4_charAt_14 hz
theorem hdJ3_isLatin1 : je_hd yJ3_isLatin1 0 := ⟨by decide +kernel, by decide +kernel, by decide +kernel⟩
theorem hdJ4_charAt : je_hd yJ4_charAt 2 := ⟨by decide +kernel, by decide +kernel, by decide +kernel⟩
theorem cwJ3_492 : GoodIn lw_all (wsV "java/lang/String" 492 "java/lang/String" yJ3_isLatin1 (ws_ yJ3_isLatin1 cJ3_isLatin1 1 (some .boolean))) := lw_V q616 q617 q618 q171 q619
theorem cwJ3_495 : GoodIn lw_all (va_wsS "java/lang/String" 495 yJ4_charAt (ws_ yJ4_charAt cJ4_charAt 2 (some .char))) := lw_S q689 q690 q172 q691
set_option maxHeartbeats 4000000 in
theorem metJ3_charAt {l : Launch} {G : je_G} {σ : Nat → Option je_E} {sz : Nat} {a0 : Nat} {v1 : Int32} {r9 : Int32} (h : pJ3_charAt a0 v1 = some r9) : MetS l G yJ3_charAt cJ3_charAt 2 (some .char) 3 64 0 0 [.ref (G.2.2.2.1 a0), .int v1] σ sz (some (.int r9)) σ sz := by
  refine je_met "java/lang/String" rfl (by decide +kernel) (Nat.le_of_ble_eq_true rfl) [(0, .ref (G.2.2.2.1 a0)), (1, .int v1)] rfl (fun p e s m args below meth c C => ?_)
  unfold pJ3_charAt at h
  refine je_aload_n C dJ3_charAt_0 1 rfl 0 rfl ?_
  obtain ⟨t1, hg, h⟩ := p_cl_inv h
  obtain ⟨hi, h⟩ := p_i3_inv h
  refine je_callSti (i := a0) (As := []) (rest := []) C hi (metJ3_isLatin1 hg) hdJ3_isLatin1 rfl cwJ3_492 rfl ⟨Nat.le_of_ble_eq_true rfl, Nat.le_of_ble_eq_true rfl⟩ (Nat.le_of_ble_eq_true rfl) dJ3_charAt_1 4 rfl ⟨Nat.le_refl _, Nat.le_refl _⟩ ?_
  refine je_if_eq C 16 dJ3_charAt_4 7 rfl rfl h (fun h => ?_) (fun h => ?_)
  · refine je_aload_n C dJ3_charAt_16 17 rfl 0 rfl ?_
    obtain ⟨hi, h⟩ := p_i3_inv h
    refine je_Sval C hi q2437 dJ3_charAt_17 20 rfl ?_
    refine je_iload_n C dJ3_charAt_20 21 rfl 1 rfl ?_
    cases h
  refine je_aload_n C dJ3_charAt_7 8 rfl 0 rfl ?_
  obtain ⟨hi, h⟩ := p_i3_inv h
  refine je_Sval C hi q2437 dJ3_charAt_8 11 rfl ?_
  refine je_iload_n C dJ3_charAt_11 12 rfl 1 rfl ?_
  obtain ⟨t12, hg, h⟩ := p_cl_inv h
  refine je_callSi (As := [.ref (G.2.2.2.1 (3 + a0)), .int v1]) (rest := []) C (metJ4_charAt hg) hdJ4_charAt cwJ3_495 rfl ⟨Nat.le_of_ble_eq_true rfl, Nat.le_of_ble_eq_true rfl⟩ (Nat.le_of_ble_eq_true rfl) dJ3_charAt_12 15 rfl ⟨Nat.le_refl _, Nat.le_refl _⟩ ?_
  obtain ⟨hz, h⟩ := p_c8_inv h
  cases h
  exact je_cret C dJ3_charAt_15 hz
set_option maxHeartbeats 4000000 in
theorem metJ4_canEncode {l : Launch} {G : je_G} {σ : Nat → Option je_E} {sz : Nat} {v0 : Int32} {r9 : Int32} (h : pJ4_canEncode v0 = some r9) : MetS l G yJ4_canEncode cJ4_canEncode 1 (some .boolean) 0 0 0 0 [.int v0] σ sz (some (.int r9)) σ sz := by
  refine je_met "java/lang/StringLatin1" rfl (by decide +kernel) (Nat.le_of_ble_eq_true rfl) [(0, .int v0)] rfl (fun p e s m args below meth c C => ?_)
  unfold pJ4_canEncode at h
  refine je_iload_n C dJ4_canEncode_0 1 rfl 0 rfl ?_
  refine je_if_lt C 15 dJ4_canEncode_1 4 rfl rfl h (fun h => ?_) (fun h => ?_)
  · refine je_iconst C (0) dJ4_canEncode_15 16 rfl ic_0 ?_
    cases h
    exact je_zret C dJ4_canEncode_16 (Or.inl rfl)
  refine je_iload_n C dJ4_canEncode_4 5 rfl 0 rfl ?_
  refine je_sipush C (255) dJ4_canEncode_5 8 rfl sp_255 ?_
  refine je_icmp_gt C 15 dJ4_canEncode_8 11 rfl rfl h (fun h => ?_) (fun h => ?_)
  · refine je_iconst C (0) dJ4_canEncode_15 16 rfl ic_0 ?_
    cases h
    exact je_zret C dJ4_canEncode_16 (Or.inl rfl)
  refine je_iconst C (1) dJ4_canEncode_11 12 rfl ic_1 ?_
  refine je_goto C 16 dJ4_canEncode_12 rfl ?_
  cases h
  exact je_zret C dJ4_canEncode_16 (Or.inr rfl)
theorem ic_m1 : Int32.ofInt (-1) = (-1 : Int32) := by decide +kernel
set_option maxHeartbeats 4000000 in
theorem wJ4_indexOfChar_7 {p : Program} {l : Launch} {e : Env} {s : State} {m : MethodId} {args : Array Value} {below : List Frame} {meth : Method} {c : Code} {G : je_G} {σ : Nat → Option je_E} {sz : Nat} {F : Nat} {r9 : Int32} (C : Cx p s m args meth c G "java/lang/StringLatin1" cJ4_indexOfChar 6 (some .int)) : ∀ (n : Nat) (a0 : Nat) (v3 : Int32) (v4 : Int32) (v5 : Int32), bJ4_indexOfChar_7 F n a0 v3 v4 v5 = some r9 → Js p l e ({ frames := 0, cells := 0, slots := 0, locals := 0 } : Room) s m args below meth c G 6 (MQ below (je_Q G (some (.int r9)) σ sz) args s 0 0 (je_A G)) σ sz 0 0 7 [(0, .ref (G.2.2.2.1 (3 + a0))), (3, .int v3), (4, .int v4), (5, .int v5)] [] := by
  intro n
  induction n with
  | zero =>
    intro a0 v3 v4 v5 h
    cases h
  | succ n ih =>
    intro a0 v3 v4 v5 h
    rw [bJ4_indexOfChar_7] at h
    refine je_iload C dJ4_indexOfChar_7 9 rfl 3 rfl ?_
    refine je_iload_n C dJ4_indexOfChar_9 10 rfl 1 rfl ?_
    refine je_icmp_ge C 31 dJ4_indexOfChar_10 13 rfl rfl h (fun h => ?_) (fun h => ?_)
    · refine je_iconst C (-1) dJ4_indexOfChar_31 32 rfl ic_m1 ?_
      cases h
      exact je_iret C dJ4_indexOfChar_32
    refine je_aload_n C dJ4_indexOfChar_13 14 rfl 0 rfl ?_
    refine je_iload C dJ4_indexOfChar_14 16 rfl 3 rfl ?_
    obtain ⟨hi, h⟩ := p_i3_inv h
    obtain ⟨hin, h⟩ := p_ck_inv h
    refine je_Sbald C hi dJ4_indexOfChar_16 17 rfl hin ?_
    refine je_iload C dJ4_indexOfChar_17 19 rfl 2 rfl ?_
    refine je_icmp_ne C 25 dJ4_indexOfChar_19 22 rfl rfl h (fun h => ?_) (fun h => ?_)
    · refine je_iinc C (1) dJ4_indexOfChar_25 28 rfl 3 rfl ic_1 (Nat.le_of_ble_eq_true rfl) [(5, .int (v5 + (1 : Int32))), (0, .ref (G.2.2.2.1 (3 + a0))), (3, .int v3), (4, .int v4)] rfl ?_
      refine je_goto C 7 dJ4_indexOfChar_28 rfl ?_
      refine je_sub [1, 2, 3, 0] [(0, .ref (G.2.2.2.1 (3 + a0))), (3, .int v3), (4, .int v4), (5, .int (v5 + (1 : Int32)))] rfl ?_
      exact ih a0 v3 v4 (v5 + (1 : Int32)) h
    refine je_iload C dJ4_indexOfChar_22 24 rfl 3 rfl ?_
    cases h
    exact je_iret C dJ4_indexOfChar_24
set_option maxHeartbeats 4000000 in
theorem metJ4_indexOfChar {l : Launch} {G : je_G} {σ : Nat → Option je_E} {sz : Nat} {F : Nat} {a0 : Nat} {v1 : Int32} {v2 : Int32} {v3 : Int32} {r9 : Int32} (h : pJ4_indexOfChar F a0 v1 v2 v3 = some r9) : MetS l G yJ4_indexOfChar cJ4_indexOfChar 6 (some .int) 0 0 0 0 [.ref (G.2.2.2.1 (3 + a0)), .int v1, .int v2, .int v3] σ sz (some (.int r9)) σ sz := by
  refine je_met "java/lang/StringLatin1" rfl (by decide +kernel) (Nat.le_of_ble_eq_true rfl) [(0, .ref (G.2.2.2.1 (3 + a0))), (1, .int v1), (2, .int v2), (3, .int v3)] rfl (fun p e s m args below meth c C => ?_)
  unfold pJ4_indexOfChar at h
  refine je_iload_n C dJ4_indexOfChar_0 1 rfl 1 rfl ?_
  refine je_i2b C dJ4_indexOfChar_1 2 rfl ?_
  refine je_lti h (fun t2 h => ?_)
  refine je_istore C dJ4_indexOfChar_2 4 rfl (Nat.le_of_ble_eq_true rfl) [(4, .int t2), (0, .ref (G.2.2.2.1 (3 + a0))), (1, .int v1), (2, .int v2), (3, .int v3)] rfl ?_
  refine je_iload_n C dJ4_indexOfChar_4 5 rfl 3 rfl ?_
  refine je_istore C dJ4_indexOfChar_5 7 rfl (Nat.le_of_ble_eq_true rfl) [(5, .int v2), (4, .int t2), (0, .ref (G.2.2.2.1 (3 + a0))), (1, .int v1), (2, .int v2), (3, .int v3)] rfl ?_
  refine je_sub [2, 5, 1, 0] [(0, .ref (G.2.2.2.1 (3 + a0))), (3, .int v3), (4, .int t2), (5, .int v2)] rfl ?_
  exact wJ4_indexOfChar_7 C F a0 v3 t2 v2 h
theorem hdJ4_canEncode : je_hd yJ4_canEncode 1 := ⟨by decide +kernel, by decide +kernel, by decide +kernel⟩
theorem hdJ4_indexOfChar : je_hd yJ4_indexOfChar 4 := ⟨by decide +kernel, by decide +kernel, by decide +kernel⟩
theorem cwJ4_88 : GoodIn lw_all (va_wsS "java/lang/StringLatin1" 88 yJ4_canEncode (ws_ yJ4_canEncode cJ4_canEncode 1 (some .boolean))) := lw_S q624 q625 q172 q626
theorem cwJ4_95 : GoodIn lw_all (va_wsS "java/lang/StringLatin1" 95 yJ4_indexOfChar (ws_ yJ4_indexOfChar cJ4_indexOfChar 6 (some .int))) := lw_S q633 q634 q172 q635
theorem mlJ4_38 : Cond.methodLink "java/lang/StringLatin1" 38 Lib.Math.min.name ∈ lw_all ∧ Cond.static Lib.Math.min.name ∈ lw_all ∧ Cond.initialized "java/lang/Math" ∈ lw_all ∧ Cond.code Lib.Math.min.name Lib.Math.min.code 2 (some .int) ∈ lw_all := ⟨q630, q631, q173, q632⟩
theorem mlJ4_92 : Cond.methodLink "java/lang/StringLatin1" 92 Lib.Math.max.name ∈ lw_all ∧ Cond.static Lib.Math.max.name ∈ lw_all ∧ Cond.initialized "java/lang/Math" ∈ lw_all ∧ Cond.code Lib.Math.max.name Lib.Math.max.code 2 (some .int) ∈ lw_all := ⟨q627, q628, q173, q629⟩
set_option maxHeartbeats 4000000 in
theorem metJ4_indexOf {l : Launch} {G : je_G} {σ : Nat → Option je_E} {sz : Nat} {F : Nat} {a0 : Nat} {v1 : Int32} {v2 : Int32} {v3 : Int32} {r9 : Int32} (h : pJ4_indexOf F a0 v1 v2 v3 = some r9) : MetS l G yJ4_indexOf cJ4_indexOf 4 (some .int) 1 25 0 0 [.ref (G.2.2.2.1 (3 + a0)), .int v1, .int v2, .int v3] σ sz (some (.int r9)) σ sz := by
  refine je_met "java/lang/StringLatin1" rfl (by decide +kernel) (Nat.le_of_ble_eq_true rfl) [(0, .ref (G.2.2.2.1 (3 + a0))), (1, .int v1), (2, .int v2), (3, .int v3)] rfl (fun p e s m args below meth c C => ?_)
  unfold pJ4_indexOf at h
  refine je_iload_n C dJ4_indexOf_0 1 rfl 1 rfl ?_
  obtain ⟨t1, hg, h⟩ := p_cl_inv h
  refine je_callSi (As := [.int v1]) (rest := []) C (metJ4_canEncode hg) hdJ4_canEncode cwJ4_88 rfl ⟨Nat.le_of_ble_eq_true rfl, Nat.le_of_ble_eq_true rfl⟩ (Nat.le_of_ble_eq_true rfl) dJ4_indexOf_1 4 rfl ⟨Nat.le_refl _, Nat.le_refl _⟩ ?_
  refine je_if_ne C 9 dJ4_indexOf_4 7 rfl rfl h (fun h => ?_) (fun h => ?_)
  · refine je_iload_n C dJ4_indexOf_9 10 rfl 2 rfl ?_
    refine je_iconst C (0) dJ4_indexOf_10 11 rfl ic_0 ?_
    refine je_mmax C ⟨Nat.le_of_ble_eq_true rfl, Nat.le_of_ble_eq_true rfl⟩ (Nat.le_of_ble_eq_true rfl) mlJ4_92 dJ4_indexOf_11 14 rfl ⟨Nat.le_refl _, Nat.le_refl _⟩ ?_
    refine je_lti h (fun t14 h => ?_)
    refine je_istore_n C dJ4_indexOf_14 15 rfl (Nat.le_of_ble_eq_true rfl) [(2, .int t14), (0, .ref (G.2.2.2.1 (3 + a0))), (1, .int v1), (3, .int v3)] rfl ?_
    refine je_iload_n C dJ4_indexOf_15 16 rfl 3 rfl ?_
    refine je_aload_n C dJ4_indexOf_16 17 rfl 1 rfl ?_
    obtain ⟨hi, h⟩ := p_i3_inv h
    refine je_Slen C hi dJ4_indexOf_17 18 rfl ?_
    refine je_mmin C ⟨Nat.le_of_ble_eq_true rfl, Nat.le_of_ble_eq_true rfl⟩ (Nat.le_of_ble_eq_true rfl) mlJ4_38 dJ4_indexOf_18 21 rfl ⟨Nat.le_refl _, Nat.le_refl _⟩ ?_
    refine je_lti h (fun t21 h => ?_)
    refine je_istore_n C dJ4_indexOf_21 22 rfl (Nat.le_of_ble_eq_true rfl) [(3, .int t21), (2, .int t14), (0, .ref (G.2.2.2.1 (3 + a0))), (1, .int v1)] rfl ?_
    refine je_iload_n C dJ4_indexOf_22 23 rfl 1 rfl ?_
    refine je_iload_n C dJ4_indexOf_23 24 rfl 0 rfl ?_
    refine je_icmp_lt C 29 dJ4_indexOf_24 27 rfl rfl h (fun h => ?_) (fun h => ?_)
    · refine je_aload_n C dJ4_indexOf_29 30 rfl 2 rfl ?_
      refine je_iload_n C dJ4_indexOf_30 31 rfl 3 rfl ?_
      refine je_iload_n C dJ4_indexOf_31 32 rfl 1 rfl ?_
      refine je_iload_n C dJ4_indexOf_32 33 rfl 0 rfl ?_
      obtain ⟨t33, hg, h⟩ := p_cl_inv h
      refine je_callSi (As := [.ref (G.2.2.2.1 (3 + a0)), .int v1, .int t14, .int t21]) (rest := []) C (metJ4_indexOfChar hg) hdJ4_indexOfChar cwJ4_95 rfl ⟨Nat.le_of_ble_eq_true rfl, Nat.le_of_ble_eq_true rfl⟩ (Nat.le_of_ble_eq_true rfl) dJ4_indexOf_33 36 rfl ⟨Nat.le_refl _, Nat.le_refl _⟩ ?_
      cases h
      exact je_iret C dJ4_indexOf_36
    refine je_iconst C (-1) dJ4_indexOf_27 28 rfl ic_m1 ?_
    cases h
    exact je_iret C dJ4_indexOf_28
  refine je_iconst C (-1) dJ4_indexOf_7 8 rfl ic_m1 ?_
  cases h
  exact je_iret C dJ4_indexOf_8
theorem hdJ3_length : je_hd yJ3_length 0 := ⟨by decide +kernel, by decide +kernel, by decide +kernel⟩
theorem hdJ4_indexOf : je_hd yJ4_indexOf 4 := ⟨by decide +kernel, by decide +kernel, by decide +kernel⟩
theorem cwJ3_505 : GoodIn lw_all (wsV "java/lang/String" 505 "java/lang/String" yJ3_length (ws_ yJ3_length cJ3_length 1 (some .int))) := lw_V q620 q603 q604 q171 q605
theorem cwJ3_637 : GoodIn lw_all (va_wsS "java/lang/String" 637 yJ4_indexOf (ws_ yJ4_indexOf cJ4_indexOf 4 (some .int))) := lw_S q621 q622 q172 q623
set_option maxHeartbeats 4000000 in
theorem metJ3_indexOf {l : Launch} {G : je_G} {σ : Nat → Option je_E} {sz : Nat} {F : Nat} {a0 : Nat} {v1 : Int32} {v2 : Int32} {r9 : Int32} (h : pJ3_indexOf F a0 v1 v2 = some r9) : MetS l G yJ3_indexOf cJ3_indexOf 3 (some .int) 2 48 0 0 [.ref (G.2.2.2.1 a0), .int v1, .int v2] σ sz (some (.int r9)) σ sz := by
  refine je_met "java/lang/String" rfl (by decide +kernel) (Nat.le_of_ble_eq_true rfl) [(0, .ref (G.2.2.2.1 a0)), (1, .int v1), (2, .int v2)] rfl (fun p e s m args below meth c C => ?_)
  unfold pJ3_indexOf at h
  refine je_aload_n C dJ3_indexOf_0 1 rfl 0 rfl ?_
  obtain ⟨t1, hg, h⟩ := p_cl_inv h
  obtain ⟨hi, h⟩ := p_i3_inv h
  refine je_callSti (i := a0) (As := []) (rest := []) C hi (metJ3_isLatin1 hg) hdJ3_isLatin1 rfl cwJ3_492 rfl ⟨Nat.le_of_ble_eq_true rfl, Nat.le_of_ble_eq_true rfl⟩ (Nat.le_of_ble_eq_true rfl) dJ3_indexOf_1 4 rfl ⟨Nat.le_refl _, Nat.le_refl _⟩ ?_
  refine je_if_eq C 23 dJ3_indexOf_4 7 rfl rfl h (fun h => ?_) (fun h => ?_)
  · refine je_aload_n C dJ3_indexOf_23 24 rfl 0 rfl ?_
    obtain ⟨hi, h⟩ := p_i3_inv h
    refine je_Sval C hi q2437 dJ3_indexOf_24 27 rfl ?_
    refine je_iload_n C dJ3_indexOf_27 28 rfl 1 rfl ?_
    refine je_iload_n C dJ3_indexOf_28 29 rfl 2 rfl ?_
    refine je_aload_n C dJ3_indexOf_29 30 rfl 0 rfl ?_
    obtain ⟨t30, hg, h⟩ := p_cl_inv h
    obtain ⟨hi, h⟩ := p_i3_inv h
    refine je_callSti (i := a0) (As := []) (rest := [.int v2, .int v1, .ref (G.2.2.2.1 (3 + a0))]) C hi (metJ3_length hg) hdJ3_length rfl cwJ3_505 rfl ⟨Nat.le_of_ble_eq_true rfl, Nat.le_of_ble_eq_true rfl⟩ (Nat.le_of_ble_eq_true rfl) dJ3_indexOf_30 33 rfl ⟨Nat.le_refl _, Nat.le_refl _⟩ ?_
    cases h
  refine je_aload_n C dJ3_indexOf_7 8 rfl 0 rfl ?_
  obtain ⟨hi, h⟩ := p_i3_inv h
  refine je_Sval C hi q2437 dJ3_indexOf_8 11 rfl ?_
  refine je_iload_n C dJ3_indexOf_11 12 rfl 1 rfl ?_
  refine je_iload_n C dJ3_indexOf_12 13 rfl 2 rfl ?_
  refine je_aload_n C dJ3_indexOf_13 14 rfl 0 rfl ?_
  obtain ⟨t14, hg, h⟩ := p_cl_inv h
  obtain ⟨hi, h⟩ := p_i3_inv h
  refine je_callSti (i := a0) (As := []) (rest := [.int v2, .int v1, .ref (G.2.2.2.1 (3 + a0))]) C hi (metJ3_length hg) hdJ3_length rfl cwJ3_505 rfl ⟨Nat.le_of_ble_eq_true rfl, Nat.le_of_ble_eq_true rfl⟩ (Nat.le_of_ble_eq_true rfl) dJ3_indexOf_14 17 rfl ⟨Nat.le_refl _, Nat.le_refl _⟩ ?_
  obtain ⟨t17, hg, h⟩ := p_cl_inv h
  refine je_callSi (As := [.ref (G.2.2.2.1 (3 + a0)), .int v1, .int v2, .int t14]) (rest := []) C (metJ4_indexOf hg) hdJ4_indexOf cwJ3_637 rfl ⟨Nat.le_of_ble_eq_true rfl, Nat.le_of_ble_eq_true rfl⟩ (Nat.le_of_ble_eq_true rfl) dJ3_indexOf_17 20 rfl ⟨Nat.le_refl _, Nat.le_refl _⟩ ?_
  refine je_goto C 36 dJ3_indexOf_20 rfl ?_
  cases h
  exact je_iret C dJ3_indexOf_36
theorem hdJ3_indexOf : je_hd yJ3_indexOf 2 := ⟨by decide +kernel, by decide +kernel, by decide +kernel⟩
theorem cwJ3_633 : GoodIn lw_all (wsV "java/lang/String" 633 "java/lang/String" yJ3_indexOf (ws_ yJ3_indexOf cJ3_indexOf 3 (some .int))) := lw_V q723 q613 q614 q171 q615
set_option maxHeartbeats 4000000 in
theorem metJ3_indexOf_2 {l : Launch} {G : je_G} {σ : Nat → Option je_E} {sz : Nat} {F : Nat} {a0 : Nat} {v1 : Int32} {r9 : Int32} (h : pJ3_indexOf_2 F a0 v1 = some r9) : MetS l G yJ3_indexOf_2 cJ3_indexOf_2 2 (some .int) 3 70 0 0 [.ref (G.2.2.2.1 a0), .int v1] σ sz (some (.int r9)) σ sz := by
  refine je_met "java/lang/String" rfl (by decide +kernel) (Nat.le_of_ble_eq_true rfl) [(0, .ref (G.2.2.2.1 a0)), (1, .int v1)] rfl (fun p e s m args below meth c C => ?_)
  unfold pJ3_indexOf_2 at h
  refine je_aload_n C dJ3_indexOf_2_0 1 rfl 0 rfl ?_
  refine je_iload_n C dJ3_indexOf_2_1 2 rfl 1 rfl ?_
  refine je_iconst C (0) dJ3_indexOf_2_2 3 rfl ic_0 ?_
  obtain ⟨t3, hg, h⟩ := p_cl_inv h
  obtain ⟨hi, h⟩ := p_i3_inv h
  refine je_callSti (i := a0) (As := [.int v1, .int (0 : Int32)]) (rest := []) C hi (metJ3_indexOf hg) hdJ3_indexOf rfl cwJ3_633 rfl ⟨Nat.le_of_ble_eq_true rfl, Nat.le_of_ble_eq_true rfl⟩ (Nat.le_of_ble_eq_true rfl) dJ3_indexOf_2_3 6 rfl ⟨Nat.le_refl _, Nat.le_refl _⟩ ?_
  cases h
  exact je_iret C dJ3_indexOf_2_6
theorem bp_8 : (Int8.ofInt (8)).toInt32 = (8 : Int32) := by decide +kernel
theorem bp_16 : (Int8.ofInt (16)).toInt32 = (16 : Int32) := by decide +kernel
theorem bp_63 : (Int8.ofInt (63)).toInt32 = (63 : Int32) := by decide +kernel
theorem ic_2 : Int32.ofInt (2) = (2 : Int32) := by decide +kernel
theorem ic_4 : Int32.ofInt (4) = (4 : Int32) := by decide +kernel
set_option maxHeartbeats 4000000 in
theorem metJ19_bitCount {l : Launch} {G : je_G} {σ : Nat → Option je_E} {sz : Nat} {v0 : Int32} {r9 : Int32} (h : pJ19_bitCount v0 = some r9) : MetS l G yJ19_bitCount cJ19_bitCount 1 (some .int) 0 0 0 0 [.int v0] σ sz (some (.int r9)) σ sz := by
  refine je_met "java/lang/Integer" rfl (by decide +kernel) (Nat.le_of_ble_eq_true rfl) [(0, .int v0)] rfl (fun p e s m args below meth c C => ?_)
  unfold pJ19_bitCount at h
  refine je_iload_n C dJ19_bitCount_0 1 rfl 0 rfl ?_
  refine je_iload_n C dJ19_bitCount_1 2 rfl 0 rfl ?_
  refine je_iconst C (1) dJ19_bitCount_2 3 rfl ic_1 ?_
  refine je_iushr C dJ19_bitCount_3 4 rfl ?_
  refine je_ldcw C q1419 dJ19_bitCount_4 7 rfl ?_
  refine je_iand C dJ19_bitCount_7 8 rfl ?_
  refine je_isub C dJ19_bitCount_8 9 rfl ?_
  refine je_lti h (fun t9 h => ?_)
  refine je_istore_n C dJ19_bitCount_9 10 rfl (Nat.le_of_ble_eq_true rfl) [(0, .int t9)] rfl ?_
  refine je_iload_n C dJ19_bitCount_10 11 rfl 0 rfl ?_
  refine je_ldcw C q1420 dJ19_bitCount_11 14 rfl ?_
  refine je_iand C dJ19_bitCount_14 15 rfl ?_
  refine je_iload_n C dJ19_bitCount_15 16 rfl 0 rfl ?_
  refine je_iconst C (2) dJ19_bitCount_16 17 rfl ic_2 ?_
  refine je_iushr C dJ19_bitCount_17 18 rfl ?_
  refine je_ldcw C q1420 dJ19_bitCount_18 21 rfl ?_
  refine je_iand C dJ19_bitCount_21 22 rfl ?_
  refine je_iadd C dJ19_bitCount_22 23 rfl ?_
  refine je_lti h (fun t23 h => ?_)
  refine je_istore_n C dJ19_bitCount_23 24 rfl (Nat.le_of_ble_eq_true rfl) [(0, .int t23)] rfl ?_
  refine je_iload_n C dJ19_bitCount_24 25 rfl 0 rfl ?_
  refine je_iload_n C dJ19_bitCount_25 26 rfl 0 rfl ?_
  refine je_iconst C (4) dJ19_bitCount_26 27 rfl ic_4 ?_
  refine je_iushr C dJ19_bitCount_27 28 rfl ?_
  refine je_iadd C dJ19_bitCount_28 29 rfl ?_
  refine je_ldcw C q1421 dJ19_bitCount_29 32 rfl ?_
  refine je_iand C dJ19_bitCount_32 33 rfl ?_
  refine je_lti h (fun t33 h => ?_)
  refine je_istore_n C dJ19_bitCount_33 34 rfl (Nat.le_of_ble_eq_true rfl) [(0, .int t33)] rfl ?_
  refine je_iload_n C dJ19_bitCount_34 35 rfl 0 rfl ?_
  refine je_iload_n C dJ19_bitCount_35 36 rfl 0 rfl ?_
  refine je_bipush C (8) dJ19_bitCount_36 38 rfl bp_8 ?_
  refine je_iushr C dJ19_bitCount_38 39 rfl ?_
  refine je_iadd C dJ19_bitCount_39 40 rfl ?_
  refine je_lti h (fun t40 h => ?_)
  refine je_istore_n C dJ19_bitCount_40 41 rfl (Nat.le_of_ble_eq_true rfl) [(0, .int t40)] rfl ?_
  refine je_iload_n C dJ19_bitCount_41 42 rfl 0 rfl ?_
  refine je_iload_n C dJ19_bitCount_42 43 rfl 0 rfl ?_
  refine je_bipush C (16) dJ19_bitCount_43 45 rfl bp_16 ?_
  refine je_iushr C dJ19_bitCount_45 46 rfl ?_
  refine je_iadd C dJ19_bitCount_46 47 rfl ?_
  refine je_lti h (fun t47 h => ?_)
  refine je_istore_n C dJ19_bitCount_47 48 rfl (Nat.le_of_ble_eq_true rfl) [(0, .int t47)] rfl ?_
  refine je_iload_n C dJ19_bitCount_48 49 rfl 0 rfl ?_
  refine je_bipush C (63) dJ19_bitCount_49 51 rfl bp_63 ?_
  refine je_iand C dJ19_bitCount_51 52 rfl ?_
  cases h
  exact je_iret C dJ19_bitCount_52
theorem cwJ11_105 : GoodIn lw_all (va_wsS "java/util/Objects" 105 yJ7_checkIndex (ws_ yJ7_checkIndex cJ7_checkIndex 3 (some .int))) := lw_S q826 q696 q175 q697
set_option maxHeartbeats 4000000 in
theorem metJ11_checkIndex {l : Launch} {G : je_G} {σ : Nat → Option je_E} {sz : Nat} {v0 : Int32} {v1 : Int32} {r9 : Int32} (h : pJ11_checkIndex v0 v1 = some r9) : MetS l G yJ11_checkIndex cJ11_checkIndex 2 (some .int) 1 22 0 0 [.int v0, .int v1] σ sz (some (.int r9)) σ sz := by
  refine je_met "java/util/Objects" rfl (by decide +kernel) (Nat.le_of_ble_eq_true rfl) [(0, .int v0), (1, .int v1)] rfl (fun p e s m args below meth c C => ?_)
  unfold pJ11_checkIndex at h
  refine je_iload_n C dJ11_checkIndex_0 1 rfl 0 rfl ?_
  refine je_iload_n C dJ11_checkIndex_1 2 rfl 1 rfl ?_
  refine je_nullR C dJ11_checkIndex_2 3 rfl ?_
  obtain ⟨t3, hg, h⟩ := p_cl_inv h
  refine je_callSi (As := [.int v0, .int v1, va_rf (Option.map (fun q => G.2.1 + q) none)]) (rest := []) C (metJ7_checkIndex hg) hdJ7_checkIndex cwJ11_105 rfl ⟨Nat.le_of_ble_eq_true rfl, Nat.le_of_ble_eq_true rfl⟩ (Nat.le_of_ble_eq_true rfl) dJ11_checkIndex_3 6 rfl ⟨Nat.le_refl _, Nat.le_refl _⟩ ?_
  cases h
  exact je_iret C dJ11_checkIndex_6
