/-! the reference: walks of its methods: printed by gen -/
set_option maxRecDepth 100000
set_option maxHeartbeats 4000000 in
theorem metX6_walksOn {l : Launch} {G : je_G} {dyn : Nat → Option je_E} {sz : Nat} {F : Nat} {κ : kp_K} {v1 : Int32} {r9 : kp_K} (h : pX6_walksOn F κ v1 = some r9) : MetS l G yX6_walksOn cX6_walksOn 2 none 2 49 0 0 [.ref (G.2.1 + 66), .int v1] (en2 G κ dyn) sz none (en2 G r9 dyn) sz := by
  refine je_met "MinistryDesksModel" rfl (by decide +kernel) (Nat.le_of_ble_eq_true rfl) [(0, .ref (G.2.1 + 66)), (1, .int v1)] rfl (fun p e s m args below meth c C => ?_)
  unfold pX6_walksOn at h
  refine je_aload_n C dX6_walksOn_0 1 rfl 0 rfl ?_
  refine je_iload_n C dX6_walksOn_1 2 rfl 1 rfl ?_
  refine je_iconst C (1) dX6_walksOn_2 3 rfl ic_1 ?_
  refine je_iadd C dX6_walksOn_3 4 rfl ?_
  obtain ⟨t4, hg, h⟩ := p_cl_inv h
  refine je_callVi (As := [.int (v1 + (1 : Int32))]) (rest := []) C (metX6_dayOf hg) (en2_at kd66) rfl hdX6_dayOf rfl cwX6_470 rfl ⟨Nat.le_of_ble_eq_true rfl, Nat.le_of_ble_eq_true rfl⟩ (Nat.le_of_ble_eq_true rfl) dX6_walksOn_4 7 rfl ⟨Nat.le_refl _, Nat.le_refl _⟩ ?_
  refine je_aload_n C dX6_walksOn_7 8 rfl 0 rfl ?_
  refine je_iload_n C dX6_walksOn_8 9 rfl 1 rfl ?_
  obtain ⟨t9, hg, h⟩ := p_cl_inv h
  refine je_callVi (As := [.int v1]) (rest := [.int t4]) C (metX6_dayOf hg) (en2_at kd66) rfl hdX6_dayOf rfl cwX6_470 rfl ⟨Nat.le_of_ble_eq_true rfl, Nat.le_of_ble_eq_true rfl⟩ (Nat.le_of_ble_eq_true rfl) dX6_walksOn_9 12 rfl ⟨Nat.le_refl _, Nat.le_refl _⟩ ?_
  refine je_icmp_ne C 16 dX6_walksOn_12 15 rfl rfl h (fun h => ?_) (fun h => ?_)
  · refine je_aload_n C dX6_walksOn_16 17 rfl 0 rfl ?_
    refine je_iconst C (0) dX6_walksOn_17 18 rfl ic_0 ?_
    refine sX6_506 C dX6_walksOn_18 21 rfl ?_
    refine jk_lt h (fun k18 h => ?_)
    refine je_aload_n C dX6_walksOn_21 22 rfl 0 rfl ?_
    refine je_aload_n C dX6_walksOn_22 23 rfl 0 rfl ?_
    refine je_aload_n C dX6_walksOn_23 24 rfl 0 rfl ?_
    refine gX6_503 C dX6_walksOn_24 27 rfl ?_
    refine je_iload_n C dX6_walksOn_27 28 rfl 1 rfl ?_
    refine je_iconst C (1) dX6_walksOn_28 29 rfl ic_1 ?_
    refine je_iadd C dX6_walksOn_29 30 rfl ?_
    refine je_aload_n C dX6_walksOn_30 31 rfl 0 rfl ?_
    refine je_iload_n C dX6_walksOn_31 32 rfl 1 rfl ?_
    refine je_iconst C (1) dX6_walksOn_32 33 rfl ic_1 ?_
    refine je_iadd C dX6_walksOn_33 34 rfl ?_
    obtain ⟨t34, hg, h⟩ := p_cl_inv h
    refine je_callVi (As := [.int (v1 + (1 : Int32))]) (rest := [.int (v1 + (1 : Int32)), .int (k18.1 66 66), .ref (G.2.1 + 66), .ref (G.2.1 + 66)]) C (metX6_dayOf hg) (en2_at kd66) rfl hdX6_dayOf rfl cwX6_470 rfl ⟨Nat.le_of_ble_eq_true rfl, Nat.le_of_ble_eq_true rfl⟩ (Nat.le_of_ble_eq_true rfl) dX6_walksOn_34 37 rfl ⟨Nat.le_refl _, Nat.le_refl _⟩ ?_
    obtain ⟨t37, hg, h⟩ := p_cl_inv h
    refine je_callVi (As := [.int (k18.1 66 66), .int (v1 + (1 : Int32)), .int t34]) (rest := [.ref (G.2.1 + 66)]) C (metX6_living hg) (en2_at kd66) rfl hdX6_living rfl cwX6_467 rfl ⟨Nat.le_of_ble_eq_true rfl, Nat.le_of_ble_eq_true rfl⟩ (Nat.le_of_ble_eq_true rfl) dX6_walksOn_37 40 rfl ⟨Nat.le_refl _, Nat.le_refl _⟩ ?_
    refine sX6_503 C dX6_walksOn_40 43 rfl ?_
    refine jk_lt h (fun k40 h => ?_)
    cases h
    exact je_vret C dX6_walksOn_43
  cases h
  exact je_vret C dX6_walksOn_15
theorem hdX6_walk : je_hd yX6_walk 2 := ⟨by decide +kernel, by decide +kernel, by decide +kernel⟩
theorem hdX6_walksOn : je_hd yX6_walksOn 1 := ⟨by decide +kernel, by decide +kernel, by decide +kernel⟩
theorem cwX6_513 : GoodIn lw_all (wsV "MinistryDesksModel" 513 "MinistryDesksModel" yX6_walk (ws_ yX6_walk cX6_walk 7 (some .int))) := lw_V q2258 q2260 qs145 q169 q2261
theorem cwX6_516 : GoodIn lw_all (wsV "MinistryDesksModel" 516 "MinistryDesksModel" yX6_walksOn (ws_ yX6_walksOn cX6_walksOn 2 none)) := lw_V q2266 q2268 qs147 q169 q2269
set_option maxHeartbeats 4000000 in
theorem wX6_goes_80 {p : Program} {l : Launch} {e : Env} {s : State} {m : MethodId} {args : Array Value} {below : List Frame} {meth : Method} {c : Code} {G : je_G} {dyn : Nat → Option je_E} {sz : Nat} {F : Nat} {r9 : Int32 × kp_K} {k44 : kp_K → Int32 → Int32 → Int32 → Int32 → Option (Int32 × kp_K)} (C : Cx p s m args meth c G "MinistryDesksModel" cX6_goes 6 (some .int)) (hk44 : ∀ (kq : kp_K) (q1 : Int32) (q2 : Int32) (q3 : Int32) (q4 : Int32), k44 kq q1 q2 q3 q4 = some r9 → Js p l e ({ frames := 6, cells := 0, slots := 0, locals := 154 } : Room) s m args below meth c G 6 (MQ below (je_Q G (some (.int r9.1)) (en2 G r9.2 dyn) sz) args s 0 0 (je_A G)) (en2 G kq dyn) sz 0 0 44 [(0, .ref (G.2.1 + 66)), (1, .int q1), (2, .int q2), (3, .int q3), (4, .int q4)] []) (κ : kp_K) (v1 : Int32) (v2 : Int32) (v3 : Int32) (v4 : Int32) (h : bX6_goes_80 F k44 κ v1 v2 v3 v4 = some r9) : Js p l e ({ frames := 6, cells := 0, slots := 0, locals := 154 } : Room) s m args below meth c G 6 (MQ below (je_Q G (some (.int r9.1)) (en2 G r9.2 dyn) sz) args s 0 0 (je_A G)) (en2 G κ dyn) sz 0 0 80 [(0, .ref (G.2.1 + 66)), (1, .int v1), (2, .int v2), (3, .int v3), (4, .int v4)] [] := by
  unfold bX6_goes_80 at h
  refine je_aload_n C dX6_goes_80 81 rfl 0 rfl ?_
  refine je_iload C dX6_goes_81 83 rfl 4 rfl ?_
  obtain ⟨k83, hg, h⟩ := p_cl_inv h
  refine je_callVv (As := [.int v4]) (rest := []) C (metX6_walksOn hg) (en2_at kd66) rfl hdX6_walksOn rfl cwX6_516 rfl ⟨Nat.le_of_ble_eq_true rfl, Nat.le_of_ble_eq_true rfl⟩ (Nat.le_of_ble_eq_true rfl) dX6_goes_83 86 rfl ⟨Nat.le_refl _, Nat.le_refl _⟩ ?_
  refine je_iinc C (1) dX6_goes_86 89 rfl 4 rfl ic_1 (Nat.le_of_ble_eq_true rfl) [(4, .int (v4 + (1 : Int32))), (0, .ref (G.2.1 + 66)), (1, .int v1), (2, .int v2), (3, .int v3)] rfl ?_
  refine je_goto C 44 dX6_goes_89 rfl ?_
  refine je_sub [1, 2, 3, 4, 0] [(0, .ref (G.2.1 + 66)), (1, .int v1), (2, .int v2), (3, .int v3), (4, .int (v4 + (1 : Int32)))] rfl ?_
  exact hk44 k83 v1 v2 v3 (v4 + (1 : Int32)) h
set_option maxHeartbeats 4000000 in
theorem wX6_goes_44 {p : Program} {l : Launch} {e : Env} {s : State} {m : MethodId} {args : Array Value} {below : List Frame} {meth : Method} {c : Code} {G : je_G} {dyn : Nat → Option je_E} {sz : Nat} {F : Nat} {r9 : Int32 × kp_K} (C : Cx p s m args meth c G "MinistryDesksModel" cX6_goes 6 (some .int)) : ∀ (n : Nat) (κ : kp_K) (v1 : Int32) (v2 : Int32) (v3 : Int32) (v4 : Int32), bX6_goes_44 F n κ v1 v2 v3 v4 = some r9 → Js p l e ({ frames := 6, cells := 0, slots := 0, locals := 154 } : Room) s m args below meth c G 6 (MQ below (je_Q G (some (.int r9.1)) (en2 G r9.2 dyn) sz) args s 0 0 (je_A G)) (en2 G κ dyn) sz 0 0 44 [(0, .ref (G.2.1 + 66)), (1, .int v1), (2, .int v2), (3, .int v3), (4, .int v4)] [] := by
  intro n
  induction n with
  | zero =>
    intro κ v1 v2 v3 v4 h
    cases h
  | succ n ih =>
    intro κ v1 v2 v3 v4 h
    rw [bX6_goes_44] at h
    refine je_iload C dX6_goes_44 46 rfl 4 rfl ?_
    refine je_aload_n C dX6_goes_46 47 rfl 0 rfl ?_
    refine gX6_461 C dX6_goes_47 50 rfl ?_
    refine je_icmp_ge C 92 dX6_goes_50 53 rfl rfl h (fun h => ?_) (fun h => ?_)
    · refine je_bipush C (-3) dX6_goes_92 94 rfl bp_m3 ?_
      cases h
      exact je_iret C dX6_goes_94
    refine je_aload_n C dX6_goes_53 54 rfl 0 rfl ?_
    refine je_iload_n C dX6_goes_54 55 rfl 1 rfl ?_
    refine je_iload C dX6_goes_55 57 rfl 4 rfl ?_
    obtain ⟨q57, hg, h⟩ := p_cl_inv h
    refine je_callVi (As := [.int v1, .int v4]) (rest := []) C (metX6_walk hg) (en2_at kd66) rfl hdX6_walk rfl cwX6_513 rfl ⟨Nat.le_of_ble_eq_true rfl, Nat.le_of_ble_eq_true rfl⟩ (Nat.le_of_ble_eq_true rfl) dX6_goes_57 60 rfl ⟨Nat.le_refl _, Nat.le_refl _⟩ ?_
    refine je_lti h (fun t57 h => ?_)
    refine jk_lt h (fun k57 h => ?_)
    refine je_istore C dX6_goes_60 62 rfl (Nat.le_of_ble_eq_true rfl) [(5, .int t57), (0, .ref (G.2.1 + 66)), (1, .int v1), (2, .int v2), (3, .int v3), (4, .int v4)] rfl ?_
    refine je_iload C dX6_goes_62 64 rfl 0 rfl ?_
    refine je_bipush C (-3) dX6_goes_64 66 rfl bp_m3 ?_
    refine je_icmp_eq C 80 dX6_goes_66 69 rfl rfl h (fun h => ?_) (fun h => ?_)
    · refine je_sub [1, 2, 3, 4, 5] [(0, .ref (G.2.1 + 66)), (1, .int v1), (2, .int v2), (3, .int v3), (4, .int v4)] rfl ?_
      exact wX6_goes_80 C ih k57 v1 v2 v3 v4 h
    refine je_iload_n C dX6_goes_69 70 rfl 4 rfl ?_
    refine je_iload_n C dX6_goes_70 71 rfl 3 rfl ?_
    refine je_icmp_ne C 77 dX6_goes_71 74 rfl rfl h (fun h => ?_) (fun h => ?_)
    · refine je_iinc C (1) dX6_goes_77 80 rfl 4 rfl ic_1 (Nat.le_of_ble_eq_true rfl) [(3, .int (v3 + (1 : Int32))), (5, .int t57), (0, .ref (G.2.1 + 66)), (1, .int v1), (2, .int v2), (4, .int v4)] rfl ?_
      refine je_sub [2, 3, 4, 0, 5] [(0, .ref (G.2.1 + 66)), (1, .int v1), (2, .int v2), (3, .int (v3 + (1 : Int32))), (4, .int v4)] rfl ?_
      exact wX6_goes_80 C ih k57 v1 v2 (v3 + (1 : Int32)) v4 h
    refine je_iload C dX6_goes_74 76 rfl 0 rfl ?_
    cases h
    exact je_iret C dX6_goes_76
set_option maxHeartbeats 4000000 in
theorem metX6_goes {l : Launch} {G : je_G} {dyn : Nat → Option je_E} {sz : Nat} {F : Nat} {κ : kp_K} {v1 : Int32} {v2 : Int32} {r9 : Int32 × kp_K} (h : pX6_goes F κ v1 v2 = some r9) : MetS l G yX6_goes cX6_goes 6 (some .int) 6 154 0 0 [.ref (G.2.1 + 66), .int v1, .int v2] (en2 G κ dyn) sz (some (.int r9.1)) (en2 G r9.2 dyn) sz := by
  refine je_met "MinistryDesksModel" rfl (by decide +kernel) (Nat.le_of_ble_eq_true rfl) [(0, .ref (G.2.1 + 66)), (1, .int v1), (2, .int v2)] rfl (fun p e s m args below meth c C => ?_)
  unfold pX6_goes at h
  refine je_aload_n C dX6_goes_0 1 rfl 0 rfl ?_
  refine je_iconst C (0) dX6_goes_1 2 rfl ic_0 ?_
  refine sX6_166 C dX6_goes_2 5 rfl ?_
  refine jk_lt h (fun k2 h => ?_)
  refine je_aload_n C dX6_goes_5 6 rfl 0 rfl ?_
  refine je_iload_n C dX6_goes_6 7 rfl 1 rfl ?_
  obtain ⟨t7, hg, h⟩ := p_cl_inv h
  refine je_callVi (As := [.int v1]) (rest := []) C (metX6_isDesk hg) (en2_at kd66) rfl hdX6_isDesk rfl cwX6_452 rfl ⟨Nat.le_of_ble_eq_true rfl, Nat.le_of_ble_eq_true rfl⟩ (Nat.le_of_ble_eq_true rfl) dX6_goes_7 10 rfl ⟨Nat.le_refl _, Nat.le_refl _⟩ ?_
  refine je_if_eq C 17 dX6_goes_10 13 rfl rfl h (fun h => ?_) (fun h => ?_)
  · refine je_iconst C (-1) dX6_goes_17 18 rfl ic_m1 ?_
    cases h
    exact je_iret C dX6_goes_18
  refine je_iload_n C dX6_goes_13 14 rfl 2 rfl ?_
  refine je_if_ge C 19 dX6_goes_14 17 rfl rfl h (fun h => ?_) (fun h => ?_)
  · refine je_aload_n C dX6_goes_19 20 rfl 0 rfl ?_
    obtain ⟨k20, hg, h⟩ := p_cl_inv h
    refine je_callVv (As := []) (rest := []) C (metX6_byOdds hg) (en2_at kd66) rfl hdX6_byOdds rfl cwX6_496 rfl ⟨Nat.le_of_ble_eq_true rfl, Nat.le_of_ble_eq_true rfl⟩ (Nat.le_of_ble_eq_true rfl) dX6_goes_20 23 rfl ⟨Nat.le_refl _, Nat.le_refl _⟩ ?_
    refine je_aload_n C dX6_goes_23 24 rfl 0 rfl ?_
    refine je_iload_n C dX6_goes_24 25 rfl 1 rfl ?_
    obtain ⟨q25, hg, h⟩ := p_cl_inv h
    refine je_callVl (As := [.int v1]) (rest := []) C (metX6_most hg) (en2_at kd66) rfl hdX6_most rfl cwX6_499 rfl ⟨Nat.le_of_ble_eq_true rfl, Nat.le_of_ble_eq_true rfl⟩ (Nat.le_of_ble_eq_true rfl) dX6_goes_25 28 rfl ⟨Nat.le_refl _, Nat.le_refl _⟩ ?_
    refine je_ltl h (fun t25 h => ?_)
    refine jk_lt h (fun k25 h => ?_)
    refine je_pop2 C dX6_goes_28 29 rfl rfl ?_
    refine je_aload_n C dX6_goes_29 30 rfl 0 rfl ?_
    refine je_iconst C (0) dX6_goes_30 31 rfl ic_0 ?_
    refine sX6_503 C dX6_goes_31 34 rfl ?_
    refine jk_lt h (fun k31 h => ?_)
    refine je_aload_n C dX6_goes_34 35 rfl 0 rfl ?_
    refine je_iconst C (0) dX6_goes_35 36 rfl ic_0 ?_
    refine sX6_506 C dX6_goes_36 39 rfl ?_
    refine jk_lt h (fun k36 h => ?_)
    refine je_iconst C (0) dX6_goes_39 40 rfl ic_0 ?_
    refine je_istore_n C dX6_goes_40 41 rfl (Nat.le_of_ble_eq_true rfl) [(3, .int (0 : Int32)), (0, .ref (G.2.1 + 66)), (1, .int v1), (2, .int v2)] rfl ?_
    refine je_iconst C (0) dX6_goes_41 42 rfl ic_0 ?_
    refine je_istore C dX6_goes_42 44 rfl (Nat.le_of_ble_eq_true rfl) [(4, .int (0 : Int32)), (3, .int (0 : Int32)), (0, .ref (G.2.1 + 66)), (1, .int v1), (2, .int v2)] rfl ?_
    refine je_sub [2, 3, 4, 1, 0] [(0, .ref (G.2.1 + 66)), (1, .int v1), (2, .int v2), (3, .int (0 : Int32)), (4, .int (0 : Int32))] rfl ?_
    exact wX6_goes_44 C F k36 v1 v2 (0 : Int32) (0 : Int32) h
  refine je_iconst C (-1) dX6_goes_17 18 rfl ic_m1 ?_
  cases h
  exact je_iret C dX6_goes_18
theorem sp_12345 : (Int16.ofInt (12345)).toInt32 = (12345 : Int32) := by decide +kernel
theorem gX6_519 {p : Program} {l : Launch} {e : Env} {R : Room} {s : State} {m : MethodId} {args : Array Value} {below : List Frame} {meth : Method} {c : Code} {Q : State → Prop} {G : je_G} {cc : ByteArray} {nL : Nat} {rt : Option FieldType} {sz cells slots pc : Nat} {L : List (Nat × Value)} {st : List Value} {κ : kp_K} {dyn : Nat → Option je_E} (C : Cx p s m args meth c G "MinistryDesksModel" cc nL rt) (d : decode cc pc = .ok (.getfield 519, 3)) (n : Nat) (hn : pc + 3 = n) (kk : Js p l e R s m args below meth c G nL Q (en2 G κ dyn) sz cells slots n L (.int (κ.1 66 68) :: st)) : Js p l e R s m args below meth c G nL Q (en2 G κ dyn) sz cells slots pc L (.ref (G.2.1 + 66) :: st) := jk_getI (k := 68) C kd66 rfl in_X6 rfl (by decide) q1748 rfl d n hn kk
theorem sX6_519 {p : Program} {l : Launch} {e : Env} {R : Room} {s : State} {m : MethodId} {args : Array Value} {below : List Frame} {meth : Method} {c : Code} {Q : State → Prop} {G : je_G} {cc : ByteArray} {nL : Nat} {rt : Option FieldType} {sz cells slots pc : Nat} {L : List (Nat × Value)} {st : List Value} {κ : kp_K} {dyn : Nat → Option je_E} (C : Cx p s m args meth c G "MinistryDesksModel" cc nL rt) {v : Int32} (d : decode cc pc = .ok (.putfield 519, 3)) (n : Nat) (hn : pc + 3 = n) (kk : Js p l e R s m args below meth c G nL Q (en2 G (s_i κ 66 68 v) dyn) sz cells slots n L st) : Js p l e R s m args below meth c G nL Q (en2 G κ dyn) sz cells slots pc L (.int v :: .ref (G.2.1 + 66) :: st) := jk_putI (k := 68) C kd66 rfl in_X6 tyX6 tyX6_ok nmX6 rfl (by decide) q1748 rfl rfl rfl d n hn kk
set_option maxHeartbeats 4000000 in
theorem metX6_draw {l : Launch} {G : je_G} {dyn : Nat → Option je_E} {sz : Nat} {κ : kp_K}  {r9 : Int32 × kp_K} (h : pX6_draw κ = some r9) : MetS l G yX6_draw cX6_draw 1 (some .int) 0 0 0 0 [.ref (G.2.1 + 66)] (en2 G κ dyn) sz (some (.int r9.1)) (en2 G r9.2 dyn) sz := by
  refine je_met "MinistryDesksModel" rfl (by decide +kernel) (Nat.le_of_ble_eq_true rfl) [(0, .ref (G.2.1 + 66))] rfl (fun p e s m args below meth c C => ?_)
  unfold pX6_draw at h
  refine je_aload_n C dX6_draw_0 1 rfl 0 rfl ?_
  refine je_aload_n C dX6_draw_1 2 rfl 0 rfl ?_
  refine gX6_519 C dX6_draw_2 5 rfl ?_
  refine je_ldcw C q2278 dX6_draw_5 8 rfl ?_
  refine je_imul C dX6_draw_8 9 rfl ?_
  refine je_sipush C (12345) dX6_draw_9 12 rfl sp_12345 ?_
  refine je_iadd C dX6_draw_12 13 rfl ?_
  refine je_ldcw C q2279 dX6_draw_13 16 rfl ?_
  refine je_iand C dX6_draw_16 17 rfl ?_
  refine sX6_519 C dX6_draw_17 20 rfl ?_
  refine jk_lt h (fun k17 h => ?_)
  refine je_aload_n C dX6_draw_20 21 rfl 0 rfl ?_
  refine gX6_519 C dX6_draw_21 24 rfl ?_
  refine je_bipush C (16) dX6_draw_24 26 rfl bp_16 ?_
  refine je_ishr C dX6_draw_26 27 rfl ?_
  refine je_bipush C (100) dX6_draw_27 29 rfl bp_100 ?_
  obtain ⟨hne, h⟩ := p_cd_inv h
  refine je_irem C dX6_draw_29 30 rfl hne ?_
  cases h
  exact je_iret C dX6_draw_30
theorem hdX6_draw : je_hd yX6_draw 0 := ⟨by decide +kernel, by decide +kernel, by decide +kernel⟩
theorem cwX6_526 : GoodIn lw_all (wsV "MinistryDesksModel" 526 "MinistryDesksModel" yX6_draw (ws_ yX6_draw cX6_draw 1 (some .int))) := lw_V q2274 q2276 qs148 q169 q2277
theorem gX6_148 {p : Program} {l : Launch} {e : Env} {R : Room} {s : State} {m : MethodId} {args : Array Value} {below : List Frame} {meth : Method} {c : Code} {Q : State → Prop} {G : je_G} {cc : ByteArray} {nL : Nat} {rt : Option FieldType} {sz cells slots pc : Nat} {L : List (Nat × Value)} {st : List Value} {κ : kp_K} {dyn : Nat → Option je_E} (C : Cx p s m args meth c G "MinistryDesksModel" cc nL rt) (d : decode cc pc = .ok (.getfield 148, 3)) (n : Nat) (hn : pc + 3 = n) (kk : Js p l e R s m args below meth c G nL Q (en2 G κ dyn) sz cells slots n L (.ref (G.2.1 + 111) :: st)) : Js p l e R s m args below meth c G nL Q (en2 G κ dyn) sz cells slots pc L (.ref (G.2.1 + 66) :: st) := jk_getR (k := 69) (z := 0) C kd66 rfl in_X6 111 rfl (by decide) q1749 rfl d n hn kk
set_option maxHeartbeats 4000000 in
theorem wX6_knew_238 {p : Program} {l : Launch} {e : Env} {s : State} {m : MethodId} {args : Array Value} {below : List Frame} {meth : Method} {c : Code} {G : je_G} {dyn : Nat → Option je_E} {sz : Nat} {F : Nat} {r9 : Int32 × kp_K} {k157 : kp_K → Int32 → Int32 → Int32 → Option (Int32 × kp_K)} {k177 : kp_K → Int32 → Int32 → Int32 → Int32 → Option (Int32 × kp_K)} (C : Cx p s m args meth c G "MinistryDesksModel" cX6_knew 8 (some .int)) (hk157 : ∀ (kq : kp_K) (q1 : Int32) (q4 : Int32) (q5 : Int32), k157 kq q1 q4 q5 = some r9 → Js p l e ({ frames := 6, cells := 0, slots := 0, locals := 154 } : Room) s m args below meth c G 8 (MQ below (je_Q G (some (.int r9.1)) (en2 G r9.2 dyn) sz) args s 0 0 (je_A G)) (en2 G kq dyn) sz 0 0 157 [(0, .ref (G.2.1 + 66)), (1, .int q1), (4, .int q4), (5, .int q5)] []) (hk177 : ∀ (kq : kp_K) (q1 : Int32) (q4 : Int32) (q5 : Int32) (q6 : Int32), k177 kq q1 q4 q5 q6 = some r9 → Js p l e ({ frames := 6, cells := 0, slots := 0, locals := 154 } : Room) s m args below meth c G 8 (MQ below (je_Q G (some (.int r9.1)) (en2 G r9.2 dyn) sz) args s 0 0 (je_A G)) (en2 G kq dyn) sz 0 0 177 [(0, .ref (G.2.1 + 66)), (1, .int q1), (4, .int q4), (5, .int q5), (6, .int q6)] []) (κ : kp_K) (v1 : Int32) (v4 : Int32) (v5 : Int32) (v6 : Int32) (s0 : Int32) (h : bX6_knew_238 F k157 k177 κ v1 v4 v5 v6 s0 = some r9) : Js p l e ({ frames := 6, cells := 0, slots := 0, locals := 154 } : Room) s m args below meth c G 8 (MQ below (je_Q G (some (.int r9.1)) (en2 G r9.2 dyn) sz) args s 0 0 (je_A G)) (en2 G κ dyn) sz 0 0 238 [(0, .ref (G.2.1 + 66)), (1, .int v1), (4, .int v4), (5, .int v5), (6, .int v6)] [.int s0] := by
  unfold bX6_knew_238 at h
  refine je_istore C dX6_knew_238 240 rfl (Nat.le_of_ble_eq_true rfl) [(7, .int s0), (0, .ref (G.2.1 + 66)), (1, .int v1), (4, .int v4), (5, .int v5), (6, .int v6)] rfl ?_
  refine je_iload C dX6_knew_240 242 rfl 0 rfl ?_
  refine je_if_eq C 290 dX6_knew_242 245 rfl rfl h (fun h => ?_) (fun h => ?_)
  · refine je_iinc C (1) dX6_knew_290 293 rfl 5 rfl ic_1 (Nat.le_of_ble_eq_true rfl) [(6, .int (v6 + (1 : Int32))), (7, .int s0), (0, .ref (G.2.1 + 66)), (1, .int v1), (4, .int v4), (5, .int v5)] rfl ?_
    refine je_goto C 177 dX6_knew_293 rfl ?_
    refine je_sub [2, 3, 4, 5, 0] [(0, .ref (G.2.1 + 66)), (1, .int v1), (4, .int v4), (5, .int v5), (6, .int (v6 + (1 : Int32)))] rfl ?_
    exact hk177 κ v1 v4 v5 (v6 + (1 : Int32)) h
  refine je_aload_n C dX6_knew_245 246 rfl 1 rfl ?_
  refine je_aload_n C dX6_knew_246 247 rfl 1 rfl ?_
  refine gX6_503 C dX6_knew_247 250 rfl ?_
  refine je_iload C dX6_knew_250 252 rfl 4 rfl ?_
  refine je_iconst C (1) dX6_knew_252 253 rfl ic_1 ?_
  refine je_iadd C dX6_knew_253 254 rfl ?_
  refine je_aload_n C dX6_knew_254 255 rfl 1 rfl ?_
  refine gX6_43 C dX6_knew_255 258 rfl ?_
  refine je_iload C dX6_knew_258 260 rfl 5 rfl ?_
  refine jk_iald C kd78 dX6_knew_260 261 rfl h (fun h => ?_)
  obtain ⟨t261, hg, h⟩ := p_cl_inv h
  refine je_callVi (As := [.int (κ.1 66 66), .int (v5 + (1 : Int32)), .int (κ.1 78 v6.toNatClampNeg)]) (rest := []) C (metX6_living hg) (en2_at kd66) rfl hdX6_living rfl cwX6_467 rfl ⟨Nat.le_of_ble_eq_true rfl, Nat.le_of_ble_eq_true rfl⟩ (Nat.le_of_ble_eq_true rfl) dX6_knew_261 264 rfl ⟨Nat.le_refl _, Nat.le_refl _⟩ ?_
  refine je_aload_n C dX6_knew_264 265 rfl 1 rfl ?_
  refine gX6_49 C dX6_knew_265 268 rfl ?_
  refine je_iload C dX6_knew_268 270 rfl 5 rfl ?_
  refine jk_iald C kd80 dX6_knew_270 271 rfl h (fun h => ?_)
  refine je_ishr C dX6_knew_271 272 rfl ?_
  refine je_iconst C (1) dX6_knew_272 273 rfl ic_1 ?_
  refine je_iand C dX6_knew_273 274 rfl ?_
  refine je_iconst C (1) dX6_knew_274 275 rfl ic_1 ?_
  refine je_icmp_ne C 290 dX6_knew_275 278 rfl rfl h (fun h => ?_) (fun h => ?_)
  · refine je_iinc C (1) dX6_knew_290 293 rfl 5 rfl ic_1 (Nat.le_of_ble_eq_true rfl) [(6, .int (v6 + (1 : Int32))), (7, .int s0), (0, .ref (G.2.1 + 66)), (1, .int v1), (4, .int v4), (5, .int v5)] rfl ?_
    refine je_goto C 177 dX6_knew_293 rfl ?_
    refine je_sub [2, 3, 4, 5, 0] [(0, .ref (G.2.1 + 66)), (1, .int v1), (4, .int v4), (5, .int v5), (6, .int (v6 + (1 : Int32)))] rfl ?_
    exact hk177 κ v1 v4 v5 (v6 + (1 : Int32)) h
  refine je_iload C dX6_knew_278 280 rfl 3 rfl ?_
  refine je_aload_n C dX6_knew_280 281 rfl 1 rfl ?_
  refine gX6_148 C dX6_knew_281 284 rfl ?_
  refine je_iload C dX6_knew_284 286 rfl 5 rfl ?_
  refine jk_iald C kd111 dX6_knew_286 287 rfl h (fun h => ?_)
  refine je_iadd C dX6_knew_287 288 rfl ?_
  refine je_lti h (fun t288 h => ?_)
  refine je_istore C dX6_knew_288 290 rfl (Nat.le_of_ble_eq_true rfl) [(4, .int t288), (7, .int s0), (0, .ref (G.2.1 + 66)), (1, .int v1), (5, .int v5), (6, .int v6)] rfl ?_
  refine je_iinc C (1) dX6_knew_290 293 rfl 5 rfl ic_1 (Nat.le_of_ble_eq_true rfl) [(6, .int (v6 + (1 : Int32))), (4, .int t288), (7, .int s0), (0, .ref (G.2.1 + 66)), (1, .int v1), (5, .int v5)] rfl ?_
  refine je_goto C 177 dX6_knew_293 rfl ?_
  refine je_sub [3, 4, 1, 5, 0] [(0, .ref (G.2.1 + 66)), (1, .int v1), (4, .int t288), (5, .int v5), (6, .int (v6 + (1 : Int32)))] rfl ?_
  exact hk177 κ v1 t288 v5 (v6 + (1 : Int32)) h
set_option maxHeartbeats 4000000 in
theorem wX6_knew_237 {p : Program} {l : Launch} {e : Env} {s : State} {m : MethodId} {args : Array Value} {below : List Frame} {meth : Method} {c : Code} {G : je_G} {dyn : Nat → Option je_E} {sz : Nat} {F : Nat} {r9 : Int32 × kp_K} {k157 : kp_K → Int32 → Int32 → Int32 → Option (Int32 × kp_K)} {k177 : kp_K → Int32 → Int32 → Int32 → Int32 → Option (Int32 × kp_K)} (C : Cx p s m args meth c G "MinistryDesksModel" cX6_knew 8 (some .int)) (hk157 : ∀ (kq : kp_K) (q1 : Int32) (q4 : Int32) (q5 : Int32), k157 kq q1 q4 q5 = some r9 → Js p l e ({ frames := 6, cells := 0, slots := 0, locals := 154 } : Room) s m args below meth c G 8 (MQ below (je_Q G (some (.int r9.1)) (en2 G r9.2 dyn) sz) args s 0 0 (je_A G)) (en2 G kq dyn) sz 0 0 157 [(0, .ref (G.2.1 + 66)), (1, .int q1), (4, .int q4), (5, .int q5)] []) (hk177 : ∀ (kq : kp_K) (q1 : Int32) (q4 : Int32) (q5 : Int32) (q6 : Int32), k177 kq q1 q4 q5 q6 = some r9 → Js p l e ({ frames := 6, cells := 0, slots := 0, locals := 154 } : Room) s m args below meth c G 8 (MQ below (je_Q G (some (.int r9.1)) (en2 G r9.2 dyn) sz) args s 0 0 (je_A G)) (en2 G kq dyn) sz 0 0 177 [(0, .ref (G.2.1 + 66)), (1, .int q1), (4, .int q4), (5, .int q5), (6, .int q6)] []) (κ : kp_K) (v1 : Int32) (v4 : Int32) (v5 : Int32) (v6 : Int32) (h : bX6_knew_237 F k157 k177 κ v1 v4 v5 v6 = some r9) : Js p l e ({ frames := 6, cells := 0, slots := 0, locals := 154 } : Room) s m args below meth c G 8 (MQ below (je_Q G (some (.int r9.1)) (en2 G r9.2 dyn) sz) args s 0 0 (je_A G)) (en2 G κ dyn) sz 0 0 237 [(0, .ref (G.2.1 + 66)), (1, .int v1), (4, .int v4), (5, .int v5), (6, .int v6)] [] := by
  unfold bX6_knew_237 at h
  refine je_iconst C (0) dX6_knew_237 238 rfl ic_0 ?_
  exact wX6_knew_238 C hk157 hk177 κ v1 v4 v5 v6 (0 : Int32) h
set_option maxHeartbeats 4000000 in
theorem wX6_knew_177 {p : Program} {l : Launch} {e : Env} {s : State} {m : MethodId} {args : Array Value} {below : List Frame} {meth : Method} {c : Code} {G : je_G} {dyn : Nat → Option je_E} {sz : Nat} {F : Nat} {r9 : Int32 × kp_K} {k157 : kp_K → Int32 → Int32 → Int32 → Option (Int32 × kp_K)} (C : Cx p s m args meth c G "MinistryDesksModel" cX6_knew 8 (some .int)) (hk157 : ∀ (kq : kp_K) (q1 : Int32) (q4 : Int32) (q5 : Int32), k157 kq q1 q4 q5 = some r9 → Js p l e ({ frames := 6, cells := 0, slots := 0, locals := 154 } : Room) s m args below meth c G 8 (MQ below (je_Q G (some (.int r9.1)) (en2 G r9.2 dyn) sz) args s 0 0 (je_A G)) (en2 G kq dyn) sz 0 0 157 [(0, .ref (G.2.1 + 66)), (1, .int q1), (4, .int q4), (5, .int q5)] []) : ∀ (n : Nat) (κ : kp_K) (v1 : Int32) (v4 : Int32) (v5 : Int32) (v6 : Int32), bX6_knew_177 F k157 n κ v1 v4 v5 v6 = some r9 → Js p l e ({ frames := 6, cells := 0, slots := 0, locals := 154 } : Room) s m args below meth c G 8 (MQ below (je_Q G (some (.int r9.1)) (en2 G r9.2 dyn) sz) args s 0 0 (je_A G)) (en2 G κ dyn) sz 0 0 177 [(0, .ref (G.2.1 + 66)), (1, .int v1), (4, .int v4), (5, .int v5), (6, .int v6)] [] := by
  intro n
  induction n with
  | zero =>
    intro κ v1 v4 v5 v6 h
    cases h
  | succ n ih =>
    intro κ v1 v4 v5 v6 h
    rw [bX6_knew_177] at h
    refine je_iload C dX6_knew_177 179 rfl 4 rfl ?_
    refine je_aload_n C dX6_knew_179 180 rfl 0 rfl ?_
    refine gX6_13 C dX6_knew_180 183 rfl ?_
    refine je_iconst C (3) dX6_knew_183 184 rfl ic_3 ?_
    refine jk_iald C kd68 dX6_knew_184 185 rfl h (fun h => ?_)
    refine je_icmp_ge C 296 dX6_knew_185 188 rfl rfl h (fun h => ?_) (fun h => ?_)
    · refine je_aload_n C dX6_knew_296 297 rfl 0 rfl ?_
      refine je_iload C dX6_knew_297 299 rfl 3 rfl ?_
      obtain ⟨k299, hg, h⟩ := p_cl_inv h
      refine je_callVv (As := [.int v5]) (rest := []) C (metX6_walksOn hg) (en2_at kd66) rfl hdX6_walksOn rfl cwX6_516 rfl ⟨Nat.le_of_ble_eq_true rfl, Nat.le_of_ble_eq_true rfl⟩ (Nat.le_of_ble_eq_true rfl) dX6_knew_299 302 rfl ⟨Nat.le_refl _, Nat.le_refl _⟩ ?_
      refine je_iinc C (1) dX6_knew_302 305 rfl 3 rfl ic_1 (Nat.le_of_ble_eq_true rfl) [(5, .int (v5 + (1 : Int32))), (0, .ref (G.2.1 + 66)), (1, .int v1), (4, .int v4), (6, .int v6)] rfl ?_
      refine je_goto C 157 dX6_knew_305 rfl ?_
      refine je_sub [1, 2, 3, 0] [(0, .ref (G.2.1 + 66)), (1, .int v1), (4, .int v4), (5, .int (v5 + (1 : Int32)))] rfl ?_
      exact hk157 k299 v1 v4 (v5 + (1 : Int32)) h
    refine je_aload_n C dX6_knew_188 189 rfl 0 rfl ?_
    refine gX6_46 C dX6_knew_189 192 rfl ?_
    refine je_iload C dX6_knew_192 194 rfl 4 rfl ?_
    refine jk_iald C kd79 dX6_knew_194 195 rfl h (fun h => ?_)
    refine je_iload_n C dX6_knew_195 196 rfl 1 rfl ?_
    refine je_icmp_ne C 237 dX6_knew_196 199 rfl rfl h (fun h => ?_) (fun h => ?_)
    · exact wX6_knew_237 C hk157 ih κ v1 v4 v5 v6 h
    refine je_aload_n C dX6_knew_199 200 rfl 0 rfl ?_
    refine gX6_43 C dX6_knew_200 203 rfl ?_
    refine je_iload C dX6_knew_203 205 rfl 4 rfl ?_
    refine jk_iald C kd78 dX6_knew_205 206 rfl h (fun h => ?_)
    refine je_aload_n C dX6_knew_206 207 rfl 0 rfl ?_
    refine je_iload C dX6_knew_207 209 rfl 3 rfl ?_
    obtain ⟨t209, hg, h⟩ := p_cl_inv h
    refine je_callVi (As := [.int v5]) (rest := [.int (κ.1 78 v6.toNatClampNeg)]) C (metX6_dayOf hg) (en2_at kd66) rfl hdX6_dayOf rfl cwX6_470 rfl ⟨Nat.le_of_ble_eq_true rfl, Nat.le_of_ble_eq_true rfl⟩ (Nat.le_of_ble_eq_true rfl) dX6_knew_209 212 rfl ⟨Nat.le_refl _, Nat.le_refl _⟩ ?_
    refine je_icmp_lt C 237 dX6_knew_212 215 rfl rfl h (fun h => ?_) (fun h => ?_)
    · exact wX6_knew_237 C hk157 ih κ v1 v4 v5 v6 h
    refine je_aload_n C dX6_knew_215 216 rfl 0 rfl ?_
    refine gX6_43 C dX6_knew_216 219 rfl ?_
    refine je_iload C dX6_knew_219 221 rfl 4 rfl ?_
    refine jk_iald C kd78 dX6_knew_221 222 rfl h (fun h => ?_)
    refine je_aload_n C dX6_knew_222 223 rfl 0 rfl ?_
    refine je_iload C dX6_knew_223 225 rfl 3 rfl ?_
    refine je_iconst C (1) dX6_knew_225 226 rfl ic_1 ?_
    refine je_iadd C dX6_knew_226 227 rfl ?_
    obtain ⟨t227, hg, h⟩ := p_cl_inv h
    refine je_callVi (As := [.int (v5 + (1 : Int32))]) (rest := [.int (κ.1 78 v6.toNatClampNeg)]) C (metX6_dayOf hg) (en2_at kd66) rfl hdX6_dayOf rfl cwX6_470 rfl ⟨Nat.le_of_ble_eq_true rfl, Nat.le_of_ble_eq_true rfl⟩ (Nat.le_of_ble_eq_true rfl) dX6_knew_227 230 rfl ⟨Nat.le_refl _, Nat.le_refl _⟩ ?_
    refine je_icmp_ge C 237 dX6_knew_230 233 rfl rfl h (fun h => ?_) (fun h => ?_)
    · exact wX6_knew_237 C hk157 ih κ v1 v4 v5 v6 h
    refine je_iconst C (1) dX6_knew_233 234 rfl ic_1 ?_
    refine je_goto C 238 dX6_knew_234 rfl ?_
    exact wX6_knew_238 C hk157 ih κ v1 v4 v5 v6 (1 : Int32) h
set_option maxHeartbeats 4000000 in
theorem wX6_knew_157 {p : Program} {l : Launch} {e : Env} {s : State} {m : MethodId} {args : Array Value} {below : List Frame} {meth : Method} {c : Code} {G : je_G} {dyn : Nat → Option je_E} {sz : Nat} {F : Nat} {r9 : Int32 × kp_K} (C : Cx p s m args meth c G "MinistryDesksModel" cX6_knew 8 (some .int)) : ∀ (n : Nat) (κ : kp_K) (v1 : Int32) (v4 : Int32) (v5 : Int32), bX6_knew_157 F n κ v1 v4 v5 = some r9 → Js p l e ({ frames := 6, cells := 0, slots := 0, locals := 154 } : Room) s m args below meth c G 8 (MQ below (je_Q G (some (.int r9.1)) (en2 G r9.2 dyn) sz) args s 0 0 (je_A G)) (en2 G κ dyn) sz 0 0 157 [(0, .ref (G.2.1 + 66)), (1, .int v1), (4, .int v4), (5, .int v5)] [] := by
  intro n
  induction n with
  | zero =>
    intro κ v1 v4 v5 h
    cases h
  | succ n ih =>
    intro κ v1 v4 v5 h
    rw [bX6_knew_157] at h
    refine je_iload C dX6_knew_157 159 rfl 3 rfl ?_
    refine je_aload_n C dX6_knew_159 160 rfl 0 rfl ?_
    refine gX6_461 C dX6_knew_160 163 rfl ?_
    refine je_icmp_ge C 308 dX6_knew_163 166 rfl rfl h (fun h => ?_) (fun h => ?_)
    · refine je_iload C dX6_knew_308 310 rfl 2 rfl ?_
      cases h
      exact je_iret C dX6_knew_310
    refine je_aload_n C dX6_knew_166 167 rfl 0 rfl ?_
    refine je_iload_n C dX6_knew_167 168 rfl 1 rfl ?_
    refine je_iload C dX6_knew_168 170 rfl 3 rfl ?_
    obtain ⟨q170, hg, h⟩ := p_cl_inv h
    refine je_callVi (As := [.int v1, .int v5]) (rest := []) C (metX6_walk hg) (en2_at kd66) rfl hdX6_walk rfl cwX6_513 rfl ⟨Nat.le_of_ble_eq_true rfl, Nat.le_of_ble_eq_true rfl⟩ (Nat.le_of_ble_eq_true rfl) dX6_knew_170 173 rfl ⟨Nat.le_refl _, Nat.le_refl _⟩ ?_
    refine je_lti h (fun t170 h => ?_)
    refine jk_lt h (fun k170 h => ?_)
    refine je_pop C dX6_knew_173 174 rfl rfl ?_
    refine je_iconst C (0) dX6_knew_174 175 rfl ic_0 ?_
    refine je_istore C dX6_knew_175 177 rfl (Nat.le_of_ble_eq_true rfl) [(6, .int (0 : Int32)), (0, .ref (G.2.1 + 66)), (1, .int v1), (4, .int v4), (5, .int v5)] rfl ?_
    refine je_sub [1, 2, 3, 4, 0] [(0, .ref (G.2.1 + 66)), (1, .int v1), (4, .int v4), (5, .int v5), (6, .int (0 : Int32))] rfl ?_
    exact wX6_knew_177 C ih F k170 v1 v4 v5 (0 : Int32) h
set_option maxHeartbeats 4000000 in
theorem wX6_knew_97 {p : Program} {l : Launch} {e : Env} {s : State} {m : MethodId} {args : Array Value} {below : List Frame} {meth : Method} {c : Code} {G : je_G} {dyn : Nat → Option je_E} {sz : Nat} {F : Nat} {r9 : Int32 × kp_K} (C : Cx p s m args meth c G "MinistryDesksModel" cX6_knew 8 (some .int)) : ∀ (n : Nat) (κ : kp_K) (v1 : Int32) (v4 : Int32), bX6_knew_97 F n κ v1 v4 = some r9 → Js p l e ({ frames := 6, cells := 0, slots := 0, locals := 154 } : Room) s m args below meth c G 8 (MQ below (je_Q G (some (.int r9.1)) (en2 G r9.2 dyn) sz) args s 0 0 (je_A G)) (en2 G κ dyn) sz 0 0 97 [(0, .ref (G.2.1 + 66)), (1, .int v1), (4, .int v4)] [] := by
  intro n
  induction n with
  | zero =>
    intro κ v1 v4 h
    cases h
  | succ n ih =>
    intro κ v1 v4 h
    rw [bX6_knew_97] at h
    refine je_iload C dX6_knew_97 99 rfl 2 rfl ?_
    refine je_bipush C (16) dX6_knew_99 101 rfl bp_16 ?_
    refine je_icmp_ge C 124 dX6_knew_101 104 rfl rfl h (fun h => ?_) (fun h => ?_)
    · refine je_aload_n C dX6_knew_124 125 rfl 0 rfl ?_
      refine je_iload_n C dX6_knew_125 126 rfl 1 rfl ?_
      obtain ⟨q126, hg, h⟩ := p_cl_inv h
      refine je_callVl (As := [.int v1]) (rest := []) C (metX6_most hg) (en2_at kd66) rfl hdX6_most rfl cwX6_499 rfl ⟨Nat.le_of_ble_eq_true rfl, Nat.le_of_ble_eq_true rfl⟩ (Nat.le_of_ble_eq_true rfl) dX6_knew_126 129 rfl ⟨Nat.le_refl _, Nat.le_refl _⟩ ?_
      refine je_ltl h (fun t126 h => ?_)
      refine jk_lt h (fun k126 h => ?_)
      refine je_l2i C dX6_knew_129 130 rfl ?_
      cases h
      exact je_iret C dX6_knew_130
    refine je_aload_n C dX6_knew_104 105 rfl 0 rfl ?_
    refine gX6_145 C dX6_knew_105 108 rfl ?_
    refine je_iload C dX6_knew_108 110 rfl 2 rfl ?_
    refine je_aload_n C dX6_knew_110 111 rfl 0 rfl ?_
    refine gX6_148 C dX6_knew_111 114 rfl ?_
    refine je_iload C dX6_knew_114 116 rfl 2 rfl ?_
    refine jk_iald C kd111 dX6_knew_116 117 rfl h (fun h => ?_)
    refine jk_iast C kd110 dX6_knew_117 118 rfl h (fun h => ?_)
    refine jk_lt h (fun k117 h => ?_)
    refine je_iinc C (1) dX6_knew_118 121 rfl 2 rfl ic_1 (Nat.le_of_ble_eq_true rfl) [(4, .int (v4 + (1 : Int32))), (0, .ref (G.2.1 + 66)), (1, .int v1)] rfl ?_
    refine je_goto C 97 dX6_knew_121 rfl ?_
    refine je_sub [1, 2, 0] [(0, .ref (G.2.1 + 66)), (1, .int v1), (4, .int (v4 + (1 : Int32)))] rfl ?_
    exact ih k117 v1 (v4 + (1 : Int32)) h
set_option maxHeartbeats 4000000 in
theorem wX6_knew_83 {p : Program} {l : Launch} {e : Env} {s : State} {m : MethodId} {args : Array Value} {below : List Frame} {meth : Method} {c : Code} {G : je_G} {dyn : Nat → Option je_E} {sz : Nat} {F : Nat} {r9 : Int32 × kp_K} {k36 : kp_K → Int32 → Int32 → Int32 → Option (Int32 × kp_K)} (C : Cx p s m args meth c G "MinistryDesksModel" cX6_knew 8 (some .int)) (hk36 : ∀ (kq : kp_K) (q1 : Int32) (q3 : Int32) (q4 : Int32), k36 kq q1 q3 q4 = some r9 → Js p l e ({ frames := 6, cells := 0, slots := 0, locals := 154 } : Room) s m args below meth c G 8 (MQ below (je_Q G (some (.int r9.1)) (en2 G r9.2 dyn) sz) args s 0 0 (je_A G)) (en2 G kq dyn) sz 0 0 36 [(0, .ref (G.2.1 + 66)), (1, .int q1), (3, .int q3), (4, .int q4)] []) (κ : kp_K) (v1 : Int32) (v3 : Int32) (v4 : Int32) (s0 : Int32) (s1 : Int32) (h : bX6_knew_83 F k36 κ v1 v3 v4 s0 s1 = some r9) : Js p l e ({ frames := 6, cells := 0, slots := 0, locals := 154 } : Room) s m args below meth c G 8 (MQ below (je_Q G (some (.int r9.1)) (en2 G r9.2 dyn) sz) args s 0 0 (je_A G)) (en2 G κ dyn) sz 0 0 83 [(0, .ref (G.2.1 + 66)), (1, .int v1), (3, .int v3), (4, .int v4)] [.int s0, .int s1, .ref (G.2.1 + 111)] := by
  unfold bX6_knew_83 at h
  refine jk_iast C kd111 dX6_knew_83 84 rfl h (fun h => ?_)
  refine jk_lt h (fun k83 h => ?_)
  refine je_iinc C (1) dX6_knew_84 87 rfl 3 rfl ic_1 (Nat.le_of_ble_eq_true rfl) [(4, .int (v4 + (1 : Int32))), (0, .ref (G.2.1 + 66)), (1, .int v1), (3, .int v3)] rfl ?_
  refine je_goto C 36 dX6_knew_87 rfl ?_
  refine je_sub [1, 2, 3, 0] [(0, .ref (G.2.1 + 66)), (1, .int v1), (3, .int v3), (4, .int (v4 + (1 : Int32)))] rfl ?_
  exact hk36 k83 v1 v3 (v4 + (1 : Int32)) h
set_option maxHeartbeats 4000000 in
theorem wX6_knew_36 {p : Program} {l : Launch} {e : Env} {s : State} {m : MethodId} {args : Array Value} {below : List Frame} {meth : Method} {c : Code} {G : je_G} {dyn : Nat → Option je_E} {sz : Nat} {F : Nat} {r9 : Int32 × kp_K} (C : Cx p s m args meth c G "MinistryDesksModel" cX6_knew 8 (some .int)) : ∀ (n : Nat) (κ : kp_K) (v1 : Int32) (v3 : Int32) (v4 : Int32), bX6_knew_36 F n κ v1 v3 v4 = some r9 → Js p l e ({ frames := 6, cells := 0, slots := 0, locals := 154 } : Room) s m args below meth c G 8 (MQ below (je_Q G (some (.int r9.1)) (en2 G r9.2 dyn) sz) args s 0 0 (je_A G)) (en2 G κ dyn) sz 0 0 36 [(0, .ref (G.2.1 + 66)), (1, .int v1), (3, .int v3), (4, .int v4)] [] := by
  intro n
  induction n with
  | zero =>
    intro κ v1 v3 v4 h
    cases h
  | succ n ih =>
    intro κ v1 v3 v4 h
    rw [bX6_knew_36] at h
    refine je_iload C dX6_knew_36 38 rfl 3 rfl ?_
    refine je_aload_n C dX6_knew_38 39 rfl 0 rfl ?_
    refine gX6_13 C dX6_knew_39 42 rfl ?_
    refine je_iconst C (3) dX6_knew_42 43 rfl ic_3 ?_
    refine jk_iald C kd68 dX6_knew_43 44 rfl h (fun h => ?_)
    refine je_icmp_ge C 90 dX6_knew_44 47 rfl rfl h (fun h => ?_) (fun h => ?_)
    · refine je_iload_n C dX6_knew_90 91 rfl 2 rfl ?_
      refine je_if_ne C 131 dX6_knew_91 94 rfl rfl h (fun h => ?_) (fun h => ?_)
      · refine je_aload_n C dX6_knew_131 132 rfl 0 rfl ?_
        obtain ⟨k132, hg, h⟩ := p_cl_inv h
        refine je_callVv (As := []) (rest := []) C (metX6_byOdds hg) (en2_at kd66) rfl hdX6_byOdds rfl cwX6_496 rfl ⟨Nat.le_of_ble_eq_true rfl, Nat.le_of_ble_eq_true rfl⟩ (Nat.le_of_ble_eq_true rfl) dX6_knew_132 135 rfl ⟨Nat.le_refl _, Nat.le_refl _⟩ ?_
        refine je_aload_n C dX6_knew_135 136 rfl 0 rfl ?_
        refine je_iload_n C dX6_knew_136 137 rfl 1 rfl ?_
        obtain ⟨q137, hg, h⟩ := p_cl_inv h
        refine je_callVl (As := [.int v1]) (rest := []) C (metX6_most hg) (en2_at kd66) rfl hdX6_most rfl cwX6_499 rfl ⟨Nat.le_of_ble_eq_true rfl, Nat.le_of_ble_eq_true rfl⟩ (Nat.le_of_ble_eq_true rfl) dX6_knew_137 140 rfl ⟨Nat.le_refl _, Nat.le_refl _⟩ ?_
        refine je_ltl h (fun t137 h => ?_)
        refine jk_lt h (fun k137 h => ?_)
        refine je_pop2 C dX6_knew_140 141 rfl rfl ?_
        refine je_aload_n C dX6_knew_141 142 rfl 0 rfl ?_
        refine je_iconst C (0) dX6_knew_142 143 rfl ic_0 ?_
        refine sX6_503 C dX6_knew_143 146 rfl ?_
        refine jk_lt h (fun k143 h => ?_)
        refine je_aload_n C dX6_knew_146 147 rfl 0 rfl ?_
        refine je_iconst C (0) dX6_knew_147 148 rfl ic_0 ?_
        refine sX6_506 C dX6_knew_148 151 rfl ?_
        refine jk_lt h (fun k148 h => ?_)
        refine je_iconst C (0) dX6_knew_151 152 rfl ic_0 ?_
        refine je_istore C dX6_knew_152 154 rfl (Nat.le_of_ble_eq_true rfl) [(4, .int (0 : Int32)), (0, .ref (G.2.1 + 66)), (1, .int v1), (3, .int v3)] rfl ?_
        refine je_iconst C (0) dX6_knew_154 155 rfl ic_0 ?_
        refine je_istore C dX6_knew_155 157 rfl (Nat.le_of_ble_eq_true rfl) [(5, .int (0 : Int32)), (4, .int (0 : Int32)), (0, .ref (G.2.1 + 66)), (1, .int v1), (3, .int v3)] rfl ?_
        refine je_sub [2, 3, 1, 0] [(0, .ref (G.2.1 + 66)), (1, .int v1), (4, .int (0 : Int32)), (5, .int (0 : Int32))] rfl ?_
        exact wX6_knew_157 C F k148 v1 (0 : Int32) (0 : Int32) h
      refine je_iconst C (0) dX6_knew_94 95 rfl ic_0 ?_
      refine je_istore C dX6_knew_95 97 rfl (Nat.le_of_ble_eq_true rfl) [(4, .int (0 : Int32)), (0, .ref (G.2.1 + 66)), (1, .int v1), (3, .int v3)] rfl ?_
      refine je_sub [1, 2, 0] [(0, .ref (G.2.1 + 66)), (1, .int v1), (4, .int (0 : Int32))] rfl ?_
      exact wX6_knew_97 C F κ v1 (0 : Int32) h
    refine je_aload_n C dX6_knew_47 48 rfl 0 rfl ?_
    refine gX6_148 C dX6_knew_48 51 rfl ?_
    refine je_iload C dX6_knew_51 53 rfl 3 rfl ?_
    refine je_aload_n C dX6_knew_53 54 rfl 0 rfl ?_
    obtain ⟨q54, hg, h⟩ := p_cl_inv h
    refine je_callVi (As := []) (rest := [.int v4, .ref (G.2.1 + 111)]) C (metX6_draw hg) (en2_at kd66) rfl hdX6_draw rfl cwX6_526 rfl ⟨Nat.le_of_ble_eq_true rfl, Nat.le_of_ble_eq_true rfl⟩ (Nat.le_of_ble_eq_true rfl) dX6_knew_54 57 rfl ⟨Nat.le_refl _, Nat.le_refl _⟩ ?_
    refine je_lti h (fun t54 h => ?_)
    refine jk_lt h (fun k54 h => ?_)
    refine je_aload_n C dX6_knew_57 58 rfl 0 rfl ?_
    refine gX6_52 C dX6_knew_58 61 rfl ?_
    refine je_iload C dX6_knew_61 63 rfl 3 rfl ?_
    refine jk_iald C kd81 dX6_knew_63 64 rfl h (fun h => ?_)
    refine je_icmp_ge C 82 dX6_knew_64 67 rfl rfl h (fun h => ?_) (fun h => ?_)
    · refine je_iconst C (0) dX6_knew_82 83 rfl ic_0 ?_
      exact wX6_knew_83 C ih k54 v1 v3 v4 (0 : Int32) v4 h
    refine je_aload_n C dX6_knew_67 68 rfl 0 rfl ?_
    refine gX6_28 C dX6_knew_68 71 rfl ?_
    refine je_aload_n C dX6_knew_71 72 rfl 0 rfl ?_
    refine gX6_49 C dX6_knew_72 75 rfl ?_
    refine je_iload C dX6_knew_75 77 rfl 3 rfl ?_
    refine jk_iald C kd80 dX6_knew_77 78 rfl h (fun h => ?_)
    refine je_lti h (fun i78 h => ?_)
    refine jk_iald C kd73 dX6_knew_78 79 rfl h (fun h => ?_)
    refine je_goto C 83 dX6_knew_79 rfl ?_
    exact wX6_knew_83 C ih k54 v1 v3 v4 (k54.1 73 i78.toNatClampNeg) v4 h
set_option maxHeartbeats 4000000 in
theorem metX6_knew {l : Launch} {G : je_G} {dyn : Nat → Option je_E} {sz : Nat} {F : Nat} {κ : kp_K} {v1 : Int32} {v2 : Int32} {v3 : Int32} {r9 : Int32 × kp_K} (h : pX6_knew F κ v1 v2 v3 = some r9) : MetS l G yX6_knew cX6_knew 8 (some .int) 6 154 0 0 [.ref (G.2.1 + 66), .int v1, .int v2, .int v3] (en2 G κ dyn) sz (some (.int r9.1)) (en2 G r9.2 dyn) sz := by
  refine je_met "MinistryDesksModel" rfl (by decide +kernel) (Nat.le_of_ble_eq_true rfl) [(0, .ref (G.2.1 + 66)), (1, .int v1), (2, .int v2), (3, .int v3)] rfl (fun p e s m args below meth c C => ?_)
  unfold pX6_knew at h
  refine je_aload_n C dX6_knew_0 1 rfl 0 rfl ?_
  refine je_iconst C (0) dX6_knew_1 2 rfl ic_0 ?_
  refine sX6_166 C dX6_knew_2 5 rfl ?_
  refine jk_lt h (fun k2 h => ?_)
  refine je_aload_n C dX6_knew_5 6 rfl 0 rfl ?_
  refine je_iload_n C dX6_knew_6 7 rfl 1 rfl ?_
  obtain ⟨t7, hg, h⟩ := p_cl_inv h
  refine je_callVi (As := [.int v1]) (rest := []) C (metX6_isDesk hg) (en2_at kd66) rfl hdX6_isDesk rfl cwX6_452 rfl ⟨Nat.le_of_ble_eq_true rfl, Nat.le_of_ble_eq_true rfl⟩ (Nat.le_of_ble_eq_true rfl) dX6_knew_7 10 rfl ⟨Nat.le_refl _, Nat.le_refl _⟩ ?_
  refine je_if_eq C 26 dX6_knew_10 13 rfl rfl h (fun h => ?_) (fun h => ?_)
  · refine je_iconst C (-1) dX6_knew_26 27 rfl ic_m1 ?_
    cases h
    exact je_iret C dX6_knew_27
  refine je_iload_n C dX6_knew_13 14 rfl 2 rfl ?_
  refine je_if_lt C 26 dX6_knew_14 17 rfl rfl h (fun h => ?_) (fun h => ?_)
  · refine je_iconst C (-1) dX6_knew_26 27 rfl ic_m1 ?_
    cases h
    exact je_iret C dX6_knew_27
  refine je_iload_n C dX6_knew_17 18 rfl 3 rfl ?_
  refine je_if_lt C 26 dX6_knew_18 21 rfl rfl h (fun h => ?_) (fun h => ?_)
  · refine je_iconst C (-1) dX6_knew_26 27 rfl ic_m1 ?_
    cases h
    exact je_iret C dX6_knew_27
  refine je_iload_n C dX6_knew_21 22 rfl 3 rfl ?_
  refine je_iconst C (1) dX6_knew_22 23 rfl ic_1 ?_
  refine je_icmp_le C 28 dX6_knew_23 26 rfl rfl h (fun h => ?_) (fun h => ?_)
  · refine je_aload_n C dX6_knew_28 29 rfl 0 rfl ?_
    refine je_iload_n C dX6_knew_29 30 rfl 2 rfl ?_
    refine sX6_519 C dX6_knew_30 33 rfl ?_
    refine jk_lt h (fun k30 h => ?_)
    refine je_iconst C (0) dX6_knew_33 34 rfl ic_0 ?_
    refine je_istore C dX6_knew_34 36 rfl (Nat.le_of_ble_eq_true rfl) [(4, .int (0 : Int32)), (0, .ref (G.2.1 + 66)), (1, .int v1), (2, .int v2), (3, .int v3)] rfl ?_
    refine je_sub [1, 2, 4, 0] [(0, .ref (G.2.1 + 66)), (1, .int v1), (3, .int v3), (4, .int (0 : Int32))] rfl ?_
    exact wX6_knew_36 C F k30 v1 v3 (0 : Int32) h
  refine je_iconst C (-1) dX6_knew_26 27 rfl ic_m1 ?_
  cases h
  exact je_iret C dX6_knew_27
set_option maxHeartbeats 4000000 in
theorem wX6_worthBy_138 {p : Program} {l : Launch} {e : Env} {s : State} {m : MethodId} {args : Array Value} {below : List Frame} {meth : Method} {c : Code} {G : je_G} {dyn : Nat → Option je_E} {sz : Nat} {F : Nat} {κ : kp_K} {r9 : Int32} {k6 : kp_K → Int32 → Int32 → Int32 → Int32 → Int32 → Option (Int32)} (C : Cx p s m args meth c G "MinistryDesksModel" cX6_worthBy 10 (some .int)) (hk6 : ∀ (q1 : Int32) (q2 : Int32) (q3 : Int32) (q4 : Int32) (q5 : Int32), k6 κ q1 q2 q3 q4 q5 = some r9 → Js p l e ({ frames := 0, cells := 0, slots := 0, locals := 0 } : Room) s m args below meth c G 10 (MQ below (je_Q G (some (.int r9)) (en2 G κ dyn) sz) args s 0 0 (je_A G)) (en2 G κ dyn) sz 0 0 6 [(0, .ref (G.2.1 + 66)), (1, .int q1), (2, .int q2), (3, .int q3), (4, .int q4), (5, .int q5)] []) (v1 : Int32) (v2 : Int32) (v3 : Int32) (v4 : Int32) (v5 : Int32) (s0 : Int32) (h : bX6_worthBy_138 F k6 κ v1 v2 v3 v4 v5 s0 = some r9) : Js p l e ({ frames := 0, cells := 0, slots := 0, locals := 0 } : Room) s m args below meth c G 10 (MQ below (je_Q G (some (.int r9)) (en2 G κ dyn) sz) args s 0 0 (je_A G)) (en2 G κ dyn) sz 0 0 138 [(0, .ref (G.2.1 + 66)), (1, .int v1), (2, .int v2), (3, .int v3), (4, .int v4), (5, .int v5)] [.int s0] := by
  unfold bX6_worthBy_138 at h
  refine je_istore C dX6_worthBy_138 140 rfl (Nat.le_of_ble_eq_true rfl) [(9, .int s0), (0, .ref (G.2.1 + 66)), (1, .int v1), (2, .int v2), (3, .int v3), (4, .int v4), (5, .int v5)] rfl ?_
  refine je_iload C dX6_worthBy_140 142 rfl 5 rfl ?_
  refine je_iload C dX6_worthBy_142 144 rfl 0 rfl ?_
  refine je_if_eq C 156 dX6_worthBy_144 147 rfl rfl h (fun h => ?_) (fun h => ?_)
  · refine je_iconst C (0) dX6_worthBy_156 157 rfl ic_0 ?_
    refine je_iadd C dX6_worthBy_157 158 rfl ?_
    refine je_lti h (fun t158 h => ?_)
    refine je_istore C dX6_worthBy_158 160 rfl (Nat.le_of_ble_eq_true rfl) [(4, .int t158), (9, .int s0), (0, .ref (G.2.1 + 66)), (1, .int v1), (2, .int v2), (3, .int v3), (5, .int v5)] rfl ?_
    refine je_iinc C (1) dX6_worthBy_160 163 rfl 6 rfl ic_1 (Nat.le_of_ble_eq_true rfl) [(5, .int (v5 + (1 : Int32))), (4, .int t158), (9, .int s0), (0, .ref (G.2.1 + 66)), (1, .int v1), (2, .int v2), (3, .int v3)] rfl ?_
    refine je_goto C 6 dX6_worthBy_163 rfl ?_
    refine je_sub [3, 4, 5, 6, 1, 0] [(0, .ref (G.2.1 + 66)), (1, .int v1), (2, .int v2), (3, .int v3), (4, .int t158), (5, .int (v5 + (1 : Int32)))] rfl ?_
    exact hk6 v1 v2 v3 t158 (v5 + (1 : Int32)) h
  refine je_aload_n C dX6_worthBy_147 148 rfl 1 rfl ?_
  refine gX6_28 C dX6_worthBy_148 151 rfl ?_
  refine je_iload_n C dX6_worthBy_151 152 rfl 2 rfl ?_
  refine jk_iald C kd73 dX6_worthBy_152 153 rfl h (fun h => ?_)
  refine je_goto C 157 dX6_worthBy_153 rfl ?_
  refine je_iadd C dX6_worthBy_157 158 rfl ?_
  refine je_lti h (fun t158_2 h => ?_)
  refine je_istore C dX6_worthBy_158 160 rfl (Nat.le_of_ble_eq_true rfl) [(4, .int t158_2), (9, .int s0), (0, .ref (G.2.1 + 66)), (1, .int v1), (2, .int v2), (3, .int v3), (5, .int v5)] rfl ?_
  refine je_iinc C (1) dX6_worthBy_160 163 rfl 6 rfl ic_1 (Nat.le_of_ble_eq_true rfl) [(5, .int (v5 + (1 : Int32))), (4, .int t158_2), (9, .int s0), (0, .ref (G.2.1 + 66)), (1, .int v1), (2, .int v2), (3, .int v3)] rfl ?_
  refine je_goto C 6 dX6_worthBy_163 rfl ?_
  refine je_sub [3, 4, 5, 6, 1, 0] [(0, .ref (G.2.1 + 66)), (1, .int v1), (2, .int v2), (3, .int v3), (4, .int t158_2), (5, .int (v5 + (1 : Int32)))] rfl ?_
  exact hk6 v1 v2 v3 t158_2 (v5 + (1 : Int32)) h
set_option maxHeartbeats 4000000 in
theorem wX6_worthBy_133 {p : Program} {l : Launch} {e : Env} {s : State} {m : MethodId} {args : Array Value} {below : List Frame} {meth : Method} {c : Code} {G : je_G} {dyn : Nat → Option je_E} {sz : Nat} {F : Nat} {κ : kp_K} {r9 : Int32} {k6 : kp_K → Int32 → Int32 → Int32 → Int32 → Int32 → Option (Int32)} (C : Cx p s m args meth c G "MinistryDesksModel" cX6_worthBy 10 (some .int)) (hk6 : ∀ (q1 : Int32) (q2 : Int32) (q3 : Int32) (q4 : Int32) (q5 : Int32), k6 κ q1 q2 q3 q4 q5 = some r9 → Js p l e ({ frames := 0, cells := 0, slots := 0, locals := 0 } : Room) s m args below meth c G 10 (MQ below (je_Q G (some (.int r9)) (en2 G κ dyn) sz) args s 0 0 (je_A G)) (en2 G κ dyn) sz 0 0 6 [(0, .ref (G.2.1 + 66)), (1, .int q1), (2, .int q2), (3, .int q3), (4, .int q4), (5, .int q5)] []) (v1 : Int32) (v2 : Int32) (v3 : Int32) (v4 : Int32) (v5 : Int32) (h : bX6_worthBy_133 F k6 κ v1 v2 v3 v4 v5 = some r9) : Js p l e ({ frames := 0, cells := 0, slots := 0, locals := 0 } : Room) s m args below meth c G 10 (MQ below (je_Q G (some (.int r9)) (en2 G κ dyn) sz) args s 0 0 (je_A G)) (en2 G κ dyn) sz 0 0 133 [(0, .ref (G.2.1 + 66)), (1, .int v1), (2, .int v2), (3, .int v3), (4, .int v4), (5, .int v5)] [] := by
  unfold bX6_worthBy_133 at h
  refine je_iconst C (1) dX6_worthBy_133 134 rfl ic_1 ?_
  refine je_goto C 138 dX6_worthBy_134 rfl ?_
  exact wX6_worthBy_138 C hk6 v1 v2 v3 v4 v5 (1 : Int32) h
set_option maxHeartbeats 4000000 in
theorem wX6_worthBy_119 {p : Program} {l : Launch} {e : Env} {s : State} {m : MethodId} {args : Array Value} {below : List Frame} {meth : Method} {c : Code} {G : je_G} {dyn : Nat → Option je_E} {sz : Nat} {F : Nat} {κ : kp_K} {r9 : Int32} {k6 : kp_K → Int32 → Int32 → Int32 → Int32 → Int32 → Option (Int32)} (C : Cx p s m args meth c G "MinistryDesksModel" cX6_worthBy 10 (some .int)) (hk6 : ∀ (q1 : Int32) (q2 : Int32) (q3 : Int32) (q4 : Int32) (q5 : Int32), k6 κ q1 q2 q3 q4 q5 = some r9 → Js p l e ({ frames := 0, cells := 0, slots := 0, locals := 0 } : Room) s m args below meth c G 10 (MQ below (je_Q G (some (.int r9)) (en2 G κ dyn) sz) args s 0 0 (je_A G)) (en2 G κ dyn) sz 0 0 6 [(0, .ref (G.2.1 + 66)), (1, .int q1), (2, .int q2), (3, .int q3), (4, .int q4), (5, .int q5)] []) (v1 : Int32) (v2 : Int32) (v3 : Int32) (v4 : Int32) (v5 : Int32) (h : bX6_worthBy_119 F k6 κ v1 v2 v3 v4 v5 = some r9) : Js p l e ({ frames := 0, cells := 0, slots := 0, locals := 0 } : Room) s m args below meth c G 10 (MQ below (je_Q G (some (.int r9)) (en2 G κ dyn) sz) args s 0 0 (je_A G)) (en2 G κ dyn) sz 0 0 119 [(0, .ref (G.2.1 + 66)), (1, .int v1), (2, .int v2), (3, .int v3), (4, .int v4), (5, .int v5)] [] := by
  unfold bX6_worthBy_119 at h
  refine je_iconst C (0) dX6_worthBy_119 120 rfl ic_0 ?_
  refine je_goto C 138 dX6_worthBy_120 rfl ?_
  exact wX6_worthBy_138 C hk6 v1 v2 v3 v4 v5 (0 : Int32) h
set_option maxHeartbeats 4000000 in
theorem wX6_worthBy_115 {p : Program} {l : Launch} {e : Env} {s : State} {m : MethodId} {args : Array Value} {below : List Frame} {meth : Method} {c : Code} {G : je_G} {dyn : Nat → Option je_E} {sz : Nat} {F : Nat} {κ : kp_K} {r9 : Int32} {k6 : kp_K → Int32 → Int32 → Int32 → Int32 → Int32 → Option (Int32)} (C : Cx p s m args meth c G "MinistryDesksModel" cX6_worthBy 10 (some .int)) (hk6 : ∀ (q1 : Int32) (q2 : Int32) (q3 : Int32) (q4 : Int32) (q5 : Int32), k6 κ q1 q2 q3 q4 q5 = some r9 → Js p l e ({ frames := 0, cells := 0, slots := 0, locals := 0 } : Room) s m args below meth c G 10 (MQ below (je_Q G (some (.int r9)) (en2 G κ dyn) sz) args s 0 0 (je_A G)) (en2 G κ dyn) sz 0 0 6 [(0, .ref (G.2.1 + 66)), (1, .int q1), (2, .int q2), (3, .int q3), (4, .int q4), (5, .int q5)] []) (v1 : Int32) (v2 : Int32) (v3 : Int32) (v4 : Int32) (v5 : Int32) (h : bX6_worthBy_115 F k6 κ v1 v2 v3 v4 v5 = some r9) : Js p l e ({ frames := 0, cells := 0, slots := 0, locals := 0 } : Room) s m args below meth c G 10 (MQ below (je_Q G (some (.int r9)) (en2 G κ dyn) sz) args s 0 0 (je_A G)) (en2 G κ dyn) sz 0 0 115 [(0, .ref (G.2.1 + 66)), (1, .int v1), (2, .int v2), (3, .int v3), (4, .int v4), (5, .int v5)] [] := by
  unfold bX6_worthBy_115 at h
  refine je_iconst C (1) dX6_worthBy_115 116 rfl ic_1 ?_
  refine je_goto C 138 dX6_worthBy_116 rfl ?_
  exact wX6_worthBy_138 C hk6 v1 v2 v3 v4 v5 (1 : Int32) h
set_option maxHeartbeats 4000000 in
theorem wX6_worthBy_88 {p : Program} {l : Launch} {e : Env} {s : State} {m : MethodId} {args : Array Value} {below : List Frame} {meth : Method} {c : Code} {G : je_G} {dyn : Nat → Option je_E} {sz : Nat} {F : Nat} {κ : kp_K} {r9 : Int32} {k6 : kp_K → Int32 → Int32 → Int32 → Int32 → Int32 → Option (Int32)} (C : Cx p s m args meth c G "MinistryDesksModel" cX6_worthBy 10 (some .int)) (hk6 : ∀ (q1 : Int32) (q2 : Int32) (q3 : Int32) (q4 : Int32) (q5 : Int32), k6 κ q1 q2 q3 q4 q5 = some r9 → Js p l e ({ frames := 0, cells := 0, slots := 0, locals := 0 } : Room) s m args below meth c G 10 (MQ below (je_Q G (some (.int r9)) (en2 G κ dyn) sz) args s 0 0 (je_A G)) (en2 G κ dyn) sz 0 0 6 [(0, .ref (G.2.1 + 66)), (1, .int q1), (2, .int q2), (3, .int q3), (4, .int q4), (5, .int q5)] []) (v1 : Int32) (v2 : Int32) (v3 : Int32) (v4 : Int32) (v5 : Int32) (v6 : Int32) (v7 : Int32) (s0 : Int32) (h : bX6_worthBy_88 F k6 κ v1 v2 v3 v4 v5 v6 v7 s0 = some r9) : Js p l e ({ frames := 0, cells := 0, slots := 0, locals := 0 } : Room) s m args below meth c G 10 (MQ below (je_Q G (some (.int r9)) (en2 G κ dyn) sz) args s 0 0 (je_A G)) (en2 G κ dyn) sz 0 0 88 [(0, .ref (G.2.1 + 66)), (1, .int v1), (2, .int v2), (3, .int v3), (4, .int v4), (5, .int v5), (6, .int v6), (7, .int v7)] [.int s0] := by
  unfold bX6_worthBy_88 at h
  refine je_istore C dX6_worthBy_88 90 rfl (Nat.le_of_ble_eq_true rfl) [(8, .int s0), (0, .ref (G.2.1 + 66)), (1, .int v1), (2, .int v2), (3, .int v3), (4, .int v4), (5, .int v5), (6, .int v6), (7, .int v7)] rfl ?_
  refine je_iload_n C dX6_worthBy_90 91 rfl 4 rfl ?_
  refine je_if_eq C 123 dX6_worthBy_91 94 rfl rfl h (fun h => ?_) (fun h => ?_)
  · refine je_iload C dX6_worthBy_123 125 rfl 8 rfl ?_
    refine je_if_ne C 133 dX6_worthBy_125 128 rfl rfl h (fun h => ?_) (fun h => ?_)
    · refine je_sub [1, 2, 3, 4, 5, 6] [(0, .ref (G.2.1 + 66)), (1, .int v1), (2, .int v2), (3, .int v3), (4, .int v4), (5, .int v5)] rfl ?_
      exact wX6_worthBy_133 C hk6 v1 v2 v3 v4 v5 h
    refine je_iload C dX6_worthBy_128 130 rfl 0 rfl ?_
    refine je_if_eq C 137 dX6_worthBy_130 133 rfl rfl h (fun h => ?_) (fun h => ?_)
    · refine je_iconst C (0) dX6_worthBy_137 138 rfl ic_0 ?_
      refine je_sub [1, 2, 3, 4, 5, 6] [(0, .ref (G.2.1 + 66)), (1, .int v1), (2, .int v2), (3, .int v3), (4, .int v4), (5, .int v5)] rfl ?_
      exact wX6_worthBy_138 C hk6 v1 v2 v3 v4 v5 (0 : Int32) h
    refine je_sub [1, 2, 3, 4, 5, 6] [(0, .ref (G.2.1 + 66)), (1, .int v1), (2, .int v2), (3, .int v3), (4, .int v4), (5, .int v5)] rfl ?_
    exact wX6_worthBy_133 C hk6 v1 v2 v3 v4 v5 h
  refine je_iload C dX6_worthBy_94 96 rfl 8 rfl ?_
  refine je_if_eq C 119 dX6_worthBy_96 99 rfl rfl h (fun h => ?_) (fun h => ?_)
  · refine je_sub [1, 2, 3, 4, 5, 6] [(0, .ref (G.2.1 + 66)), (1, .int v1), (2, .int v2), (3, .int v3), (4, .int v4), (5, .int v5)] rfl ?_
    exact wX6_worthBy_119 C hk6 v1 v2 v3 v4 v5 h
  refine je_aload_n C dX6_worthBy_99 100 rfl 1 rfl ?_
  refine gX6_22 C dX6_worthBy_100 103 rfl ?_
  refine je_iload C dX6_worthBy_103 105 rfl 7 rfl ?_
  refine jk_iald C kd71 dX6_worthBy_105 106 rfl h (fun h => ?_)
  refine je_iconst C (-1) dX6_worthBy_106 107 rfl ic_m1 ?_
  refine je_icmp_eq C 115 dX6_worthBy_107 110 rfl rfl h (fun h => ?_) (fun h => ?_)
  · refine je_sub [1, 2, 3, 4, 5, 6] [(0, .ref (G.2.1 + 66)), (1, .int v1), (2, .int v2), (3, .int v3), (4, .int v4), (5, .int v5)] rfl ?_
    exact wX6_worthBy_115 C hk6 v1 v2 v3 v4 v5 h
  refine je_iload C dX6_worthBy_110 112 rfl 0 rfl ?_
  refine je_if_eq C 119 dX6_worthBy_112 115 rfl rfl h (fun h => ?_) (fun h => ?_)
  · refine je_sub [1, 2, 3, 4, 5, 6] [(0, .ref (G.2.1 + 66)), (1, .int v1), (2, .int v2), (3, .int v3), (4, .int v4), (5, .int v5)] rfl ?_
    exact wX6_worthBy_119 C hk6 v1 v2 v3 v4 v5 h
  refine je_sub [1, 2, 3, 4, 5, 6] [(0, .ref (G.2.1 + 66)), (1, .int v1), (2, .int v2), (3, .int v3), (4, .int v4), (5, .int v5)] rfl ?_
  exact wX6_worthBy_115 C hk6 v1 v2 v3 v4 v5 h
set_option maxHeartbeats 4000000 in
theorem wX6_worthBy_87 {p : Program} {l : Launch} {e : Env} {s : State} {m : MethodId} {args : Array Value} {below : List Frame} {meth : Method} {c : Code} {G : je_G} {dyn : Nat → Option je_E} {sz : Nat} {F : Nat} {κ : kp_K} {r9 : Int32} {k6 : kp_K → Int32 → Int32 → Int32 → Int32 → Int32 → Option (Int32)} (C : Cx p s m args meth c G "MinistryDesksModel" cX6_worthBy 10 (some .int)) (hk6 : ∀ (q1 : Int32) (q2 : Int32) (q3 : Int32) (q4 : Int32) (q5 : Int32), k6 κ q1 q2 q3 q4 q5 = some r9 → Js p l e ({ frames := 0, cells := 0, slots := 0, locals := 0 } : Room) s m args below meth c G 10 (MQ below (je_Q G (some (.int r9)) (en2 G κ dyn) sz) args s 0 0 (je_A G)) (en2 G κ dyn) sz 0 0 6 [(0, .ref (G.2.1 + 66)), (1, .int q1), (2, .int q2), (3, .int q3), (4, .int q4), (5, .int q5)] []) (v1 : Int32) (v2 : Int32) (v3 : Int32) (v4 : Int32) (v5 : Int32) (v6 : Int32) (v7 : Int32) (h : bX6_worthBy_87 F k6 κ v1 v2 v3 v4 v5 v6 v7 = some r9) : Js p l e ({ frames := 0, cells := 0, slots := 0, locals := 0 } : Room) s m args below meth c G 10 (MQ below (je_Q G (some (.int r9)) (en2 G κ dyn) sz) args s 0 0 (je_A G)) (en2 G κ dyn) sz 0 0 87 [(0, .ref (G.2.1 + 66)), (1, .int v1), (2, .int v2), (3, .int v3), (4, .int v4), (5, .int v5), (6, .int v6), (7, .int v7)] [] := by
  unfold bX6_worthBy_87 at h
  refine je_iconst C (0) dX6_worthBy_87 88 rfl ic_0 ?_
  exact wX6_worthBy_88 C hk6 v1 v2 v3 v4 v5 v6 v7 (0 : Int32) h
set_option maxHeartbeats 4000000 in
theorem wX6_worthBy_55 {p : Program} {l : Launch} {e : Env} {s : State} {m : MethodId} {args : Array Value} {below : List Frame} {meth : Method} {c : Code} {G : je_G} {dyn : Nat → Option je_E} {sz : Nat} {F : Nat} {κ : kp_K} {r9 : Int32} {k6 : kp_K → Int32 → Int32 → Int32 → Int32 → Int32 → Option (Int32)} (C : Cx p s m args meth c G "MinistryDesksModel" cX6_worthBy 10 (some .int)) (hk6 : ∀ (q1 : Int32) (q2 : Int32) (q3 : Int32) (q4 : Int32) (q5 : Int32), k6 κ q1 q2 q3 q4 q5 = some r9 → Js p l e ({ frames := 0, cells := 0, slots := 0, locals := 0 } : Room) s m args below meth c G 10 (MQ below (je_Q G (some (.int r9)) (en2 G κ dyn) sz) args s 0 0 (je_A G)) (en2 G κ dyn) sz 0 0 6 [(0, .ref (G.2.1 + 66)), (1, .int q1), (2, .int q2), (3, .int q3), (4, .int q4), (5, .int q5)] []) (v1 : Int32) (v2 : Int32) (v3 : Int32) (v4 : Int32) (v5 : Int32) (v6 : Int32) (s0 : Int32) (h : bX6_worthBy_55 F k6 κ v1 v2 v3 v4 v5 v6 s0 = some r9) : Js p l e ({ frames := 0, cells := 0, slots := 0, locals := 0 } : Room) s m args below meth c G 10 (MQ below (je_Q G (some (.int r9)) (en2 G κ dyn) sz) args s 0 0 (je_A G)) (en2 G κ dyn) sz 0 0 55 [(0, .ref (G.2.1 + 66)), (1, .int v1), (2, .int v2), (3, .int v3), (4, .int v4), (5, .int v5), (6, .int v6)] [.int s0] := by
  unfold bX6_worthBy_55 at h
  refine je_istore C dX6_worthBy_55 57 rfl (Nat.le_of_ble_eq_true rfl) [(7, .int s0), (0, .ref (G.2.1 + 66)), (1, .int v1), (2, .int v2), (3, .int v3), (4, .int v4), (5, .int v5), (6, .int v6)] rfl ?_
  refine je_aload_n C dX6_worthBy_57 58 rfl 1 rfl ?_
  refine gX6_22 C dX6_worthBy_58 61 rfl ?_
  refine je_iload C dX6_worthBy_61 63 rfl 7 rfl ?_
  refine jk_iald C kd71 dX6_worthBy_63 64 rfl h (fun h => ?_)
  refine je_iconst C (-1) dX6_worthBy_64 65 rfl ic_m1 ?_
  refine je_icmp_eq C 87 dX6_worthBy_65 68 rfl rfl h (fun h => ?_) (fun h => ?_)
  · refine je_sub [1, 2, 3, 4, 5, 6, 7, 0] [(0, .ref (G.2.1 + 66)), (1, .int v1), (2, .int v2), (3, .int v3), (4, .int v4), (5, .int v5), (6, .int v6), (7, .int s0)] rfl ?_
    exact wX6_worthBy_87 C hk6 v1 v2 v3 v4 v5 v6 s0 h
  refine je_iload_n C dX6_worthBy_68 69 rfl 3 rfl ?_
  refine je_aload_n C dX6_worthBy_69 70 rfl 1 rfl ?_
  refine gX6_22 C dX6_worthBy_70 73 rfl ?_
  refine je_iload C dX6_worthBy_73 75 rfl 7 rfl ?_
  refine jk_iald C kd71 dX6_worthBy_75 76 rfl h (fun h => ?_)
  refine je_ishr C dX6_worthBy_76 77 rfl ?_
  refine je_iconst C (1) dX6_worthBy_77 78 rfl ic_1 ?_
  refine je_iand C dX6_worthBy_78 79 rfl ?_
  refine je_iconst C (1) dX6_worthBy_79 80 rfl ic_1 ?_
  refine je_icmp_ne C 87 dX6_worthBy_80 83 rfl rfl h (fun h => ?_) (fun h => ?_)
  · refine je_sub [1, 2, 3, 4, 5, 6, 7, 0] [(0, .ref (G.2.1 + 66)), (1, .int v1), (2, .int v2), (3, .int v3), (4, .int v4), (5, .int v5), (6, .int v6), (7, .int s0)] rfl ?_
    exact wX6_worthBy_87 C hk6 v1 v2 v3 v4 v5 v6 s0 h
  refine je_iconst C (1) dX6_worthBy_83 84 rfl ic_1 ?_
  refine je_goto C 88 dX6_worthBy_84 rfl ?_
  refine je_sub [1, 2, 3, 4, 5, 6, 7, 0] [(0, .ref (G.2.1 + 66)), (1, .int v1), (2, .int v2), (3, .int v3), (4, .int v4), (5, .int v5), (6, .int v6), (7, .int s0)] rfl ?_
  exact wX6_worthBy_88 C hk6 v1 v2 v3 v4 v5 v6 s0 (1 : Int32) h
set_option maxHeartbeats 4000000 in
theorem wX6_worthBy_6 {p : Program} {l : Launch} {e : Env} {s : State} {m : MethodId} {args : Array Value} {below : List Frame} {meth : Method} {c : Code} {G : je_G} {dyn : Nat → Option je_E} {sz : Nat} {F : Nat} {κ : kp_K} {r9 : Int32} (C : Cx p s m args meth c G "MinistryDesksModel" cX6_worthBy 10 (some .int)) : ∀ (n : Nat) (v1 : Int32) (v2 : Int32) (v3 : Int32) (v4 : Int32) (v5 : Int32), bX6_worthBy_6 F n κ v1 v2 v3 v4 v5 = some r9 → Js p l e ({ frames := 0, cells := 0, slots := 0, locals := 0 } : Room) s m args below meth c G 10 (MQ below (je_Q G (some (.int r9)) (en2 G κ dyn) sz) args s 0 0 (je_A G)) (en2 G κ dyn) sz 0 0 6 [(0, .ref (G.2.1 + 66)), (1, .int v1), (2, .int v2), (3, .int v3), (4, .int v4), (5, .int v5)] [] := by
  intro n
  induction n with
  | zero =>
    intro v1 v2 v3 v4 v5 h
    cases h
  | succ n ih =>
    intro v1 v2 v3 v4 v5 h
    rw [bX6_worthBy_6] at h
    refine je_iload C dX6_worthBy_6 8 rfl 5 rfl ?_
    refine je_aload_n C dX6_worthBy_8 9 rfl 0 rfl ?_
    refine gX6_13 C dX6_worthBy_9 12 rfl ?_
    refine je_iconst C (3) dX6_worthBy_12 13 rfl ic_3 ?_
    refine jk_iald C kd68 dX6_worthBy_13 14 rfl h (fun h => ?_)
    refine je_icmp_ge C 166 dX6_worthBy_14 17 rfl rfl h (fun h => ?_) (fun h => ?_)
    · refine je_iload C dX6_worthBy_166 168 rfl 4 rfl ?_
      cases h
      exact je_iret C dX6_worthBy_168
    refine je_aload_n C dX6_worthBy_17 18 rfl 0 rfl ?_
    refine gX6_49 C dX6_worthBy_18 21 rfl ?_
    refine je_iload C dX6_worthBy_21 23 rfl 5 rfl ?_
    refine jk_iald C kd80 dX6_worthBy_23 24 rfl h (fun h => ?_)
    refine je_iload_n C dX6_worthBy_24 25 rfl 1 rfl ?_
    refine je_icmp_eq C 31 dX6_worthBy_25 28 rfl rfl h (fun h => ?_) (fun h => ?_)
    · refine je_aload_n C dX6_worthBy_31 32 rfl 0 rfl ?_
      refine gX6_46 C dX6_worthBy_32 35 rfl ?_
      refine je_iload C dX6_worthBy_35 37 rfl 5 rfl ?_
      refine jk_iald C kd79 dX6_worthBy_37 38 rfl h (fun h => ?_)
      refine je_lti h (fun t38 h => ?_)
      refine je_istore C dX6_worthBy_38 40 rfl (Nat.le_of_ble_eq_true rfl) [(6, .int t38), (0, .ref (G.2.1 + 66)), (1, .int v1), (2, .int v2), (3, .int v3), (4, .int v4), (5, .int v5)] rfl ?_
      refine je_iload_n C dX6_worthBy_40 41 rfl 3 rfl ?_
      refine je_iload C dX6_worthBy_41 43 rfl 0 rfl ?_
      refine je_ishr C dX6_worthBy_43 44 rfl ?_
      refine je_iconst C (1) dX6_worthBy_44 45 rfl ic_1 ?_
      refine je_iand C dX6_worthBy_45 46 rfl ?_
      refine je_iconst C (1) dX6_worthBy_46 47 rfl ic_1 ?_
      refine je_icmp_ne C 54 dX6_worthBy_47 50 rfl rfl h (fun h => ?_) (fun h => ?_)
      · refine je_iconst C (0) dX6_worthBy_54 55 rfl ic_0 ?_
        refine je_sub [1, 2, 3, 4, 5, 6, 0] [(0, .ref (G.2.1 + 66)), (1, .int v1), (2, .int v2), (3, .int v3), (4, .int v4), (5, .int v5), (6, .int t38)] rfl ?_
        exact wX6_worthBy_55 C ih v1 v2 v3 v4 v5 t38 (0 : Int32) h
      refine je_iconst C (1) dX6_worthBy_50 51 rfl ic_1 ?_
      refine je_goto C 55 dX6_worthBy_51 rfl ?_
      refine je_sub [1, 2, 3, 4, 5, 6, 0] [(0, .ref (G.2.1 + 66)), (1, .int v1), (2, .int v2), (3, .int v3), (4, .int v4), (5, .int v5), (6, .int t38)] rfl ?_
      exact wX6_worthBy_55 C ih v1 v2 v3 v4 v5 t38 (1 : Int32) h
    refine je_goto C 160 dX6_worthBy_28 rfl ?_
    refine je_iinc C (1) dX6_worthBy_160 163 rfl 5 rfl ic_1 (Nat.le_of_ble_eq_true rfl) [(5, .int (v5 + (1 : Int32))), (0, .ref (G.2.1 + 66)), (1, .int v1), (2, .int v2), (3, .int v3), (4, .int v4)] rfl ?_
    refine je_goto C 6 dX6_worthBy_163 rfl ?_
    refine je_sub [1, 2, 3, 4, 5, 0] [(0, .ref (G.2.1 + 66)), (1, .int v1), (2, .int v2), (3, .int v3), (4, .int v4), (5, .int (v5 + (1 : Int32)))] rfl ?_
    exact ih v1 v2 v3 v4 (v5 + (1 : Int32)) h
set_option maxHeartbeats 4000000 in
theorem metX6_worthBy {l : Launch} {G : je_G} {dyn : Nat → Option je_E} {sz : Nat} {F : Nat} {κ : kp_K} {v1 : Int32} {v2 : Int32} {v3 : Int32} {r9 : Int32} (h : pX6_worthBy F κ v1 v2 v3 = some r9) : MetS l G yX6_worthBy cX6_worthBy 10 (some .int) 0 0 0 0 [.ref (G.2.1 + 66), .int v1, .int v2, .int v3] (en2 G κ dyn) sz (some (.int r9)) (en2 G κ dyn) sz := by
  refine je_met "MinistryDesksModel" rfl (by decide +kernel) (Nat.le_of_ble_eq_true rfl) [(0, .ref (G.2.1 + 66)), (1, .int v1), (2, .int v2), (3, .int v3)] rfl (fun p e s m args below meth c C => ?_)
  unfold pX6_worthBy at h
  refine je_iconst C (0) dX6_worthBy_0 1 rfl ic_0 ?_
  refine je_istore C dX6_worthBy_1 3 rfl (Nat.le_of_ble_eq_true rfl) [(4, .int (0 : Int32)), (0, .ref (G.2.1 + 66)), (1, .int v1), (2, .int v2), (3, .int v3)] rfl ?_
  refine je_iconst C (0) dX6_worthBy_3 4 rfl ic_0 ?_
  refine je_istore C dX6_worthBy_4 6 rfl (Nat.le_of_ble_eq_true rfl) [(5, .int (0 : Int32)), (4, .int (0 : Int32)), (0, .ref (G.2.1 + 66)), (1, .int v1), (2, .int v2), (3, .int v3)] rfl ?_
  refine je_sub [2, 3, 4, 5, 1, 0] [(0, .ref (G.2.1 + 66)), (1, .int v1), (2, .int v2), (3, .int v3), (4, .int (0 : Int32)), (5, .int (0 : Int32))] rfl ?_
  exact wX6_worthBy_6 C F v1 v2 v3 (0 : Int32) (0 : Int32) h
set_option maxHeartbeats 4000000 in
theorem wX6_less_43 {p : Program} {l : Launch} {e : Env} {s : State} {m : MethodId} {args : Array Value} {below : List Frame} {meth : Method} {c : Code} {G : je_G} {σ : Nat → Option je_E} {sz : Nat} {F : Nat} {r9 : Int32} {k11 : Int32 → Int32 → Int32 → Int32 → Int32 → Option (Int32)} (C : Cx p s m args meth c G "MinistryDesksModel" cX6_less 7 (some .int)) (hk11 : ∀ (q2 : Int32) (q3 : Int32) (q4 : Int32) (q5 : Int32) (q6 : Int32), k11 q2 q3 q4 q5 q6 = some r9 → Js p l e ({ frames := 0, cells := 0, slots := 0, locals := 0 } : Room) s m args below meth c G 7 (MQ below (je_Q G (some (.int r9)) σ sz) args s 0 0 (je_A G)) σ sz 0 0 11 [(0, .ref (G.2.1 + 66)), (2, .int q2), (3, .int q3), (4, .int q4), (5, .int q5), (6, .int q6)] []) (v2 : Int32) (v3 : Int32) (v4 : Int32) (v5 : Int32) (v6 : Int32) (h : bX6_less_43 F k11 v2 v3 v4 v5 v6 = some r9) : Js p l e ({ frames := 0, cells := 0, slots := 0, locals := 0 } : Room) s m args below meth c G 7 (MQ below (je_Q G (some (.int r9)) σ sz) args s 0 0 (je_A G)) σ sz 0 0 43 [(0, .ref (G.2.1 + 66)), (2, .int v2), (3, .int v3), (4, .int v4), (5, .int v5), (6, .int v6)] [] := by
  unfold bX6_less_43 at h
  refine je_iload_n C dX6_less_43 44 rfl 2 rfl ?_
  refine je_bipush C (7) dX6_less_44 46 rfl bp_7 ?_
  obtain ⟨hne, h⟩ := p_cd_inv h
  refine je_idiv C dX6_less_46 47 rfl hne ?_
  refine je_lti h (fun t47 h => ?_)
  refine je_istore_n C dX6_less_47 48 rfl (Nat.le_of_ble_eq_true rfl) [(3, .int t47), (0, .ref (G.2.1 + 66)), (2, .int v2), (4, .int v4), (5, .int v5), (6, .int v6)] rfl ?_
  refine je_iload C dX6_less_48 50 rfl 3 rfl ?_
  refine je_bipush C (7) dX6_less_50 52 rfl bp_7 ?_
  refine je_imul C dX6_less_52 53 rfl ?_
  refine je_lti h (fun t53 h => ?_)
  refine je_istore C dX6_less_53 55 rfl (Nat.le_of_ble_eq_true rfl) [(4, .int t53), (3, .int t47), (0, .ref (G.2.1 + 66)), (2, .int v2), (5, .int v5), (6, .int v6)] rfl ?_
  refine je_iinc C (1) dX6_less_55 58 rfl 5 rfl ic_1 (Nat.le_of_ble_eq_true rfl) [(6, .int (v6 + (1 : Int32))), (4, .int t53), (3, .int t47), (0, .ref (G.2.1 + 66)), (2, .int v2), (5, .int v5)] rfl ?_
  refine je_goto C 11 dX6_less_58 rfl ?_
  refine je_sub [3, 4, 2, 1, 5, 0] [(0, .ref (G.2.1 + 66)), (2, .int v2), (3, .int t47), (4, .int t53), (5, .int v5), (6, .int (v6 + (1 : Int32)))] rfl ?_
  exact hk11 v2 t47 t53 v5 (v6 + (1 : Int32)) h
set_option maxHeartbeats 4000000 in
theorem wX6_less_11 {p : Program} {l : Launch} {e : Env} {s : State} {m : MethodId} {args : Array Value} {below : List Frame} {meth : Method} {c : Code} {G : je_G} {σ : Nat → Option je_E} {sz : Nat} {F : Nat} {r9 : Int32} (C : Cx p s m args meth c G "MinistryDesksModel" cX6_less 7 (some .int)) : ∀ (n : Nat) (v2 : Int32) (v3 : Int32) (v4 : Int32) (v5 : Int32) (v6 : Int32), bX6_less_11 F n v2 v3 v4 v5 v6 = some r9 → Js p l e ({ frames := 0, cells := 0, slots := 0, locals := 0 } : Room) s m args below meth c G 7 (MQ below (je_Q G (some (.int r9)) σ sz) args s 0 0 (je_A G)) σ sz 0 0 11 [(0, .ref (G.2.1 + 66)), (2, .int v2), (3, .int v3), (4, .int v4), (5, .int v5), (6, .int v6)] [] := by
  intro n
  induction n with
  | zero =>
    intro v2 v3 v4 v5 v6 h
    cases h
  | succ n ih =>
    intro v2 v3 v4 v5 v6 h
    rw [bX6_less_11] at h
    refine je_iload C dX6_less_11 13 rfl 5 rfl ?_
    refine je_iconst C (4) dX6_less_13 14 rfl ic_4 ?_
    refine je_icmp_ge C 61 dX6_less_14 17 rfl rfl h (fun h => ?_) (fun h => ?_)
    · refine je_iload C dX6_less_61 63 rfl 4 rfl ?_
      cases h
      exact je_iret C dX6_less_63
    refine je_iload_n C dX6_less_17 18 rfl 1 rfl ?_
    refine je_iload C dX6_less_18 20 rfl 5 rfl ?_
    refine je_ishr C dX6_less_20 21 rfl ?_
    refine je_iconst C (1) dX6_less_21 22 rfl ic_1 ?_
    refine je_iand C dX6_less_22 23 rfl ?_
    refine je_iconst C (1) dX6_less_23 24 rfl ic_1 ?_
    refine je_icmp_ne C 43 dX6_less_24 27 rfl rfl h (fun h => ?_) (fun h => ?_)
    · exact wX6_less_43 C ih v2 v3 v4 v5 v6 h
    refine je_iload_n C dX6_less_27 28 rfl 2 rfl ?_
    refine je_bipush C (7) dX6_less_28 30 rfl bp_7 ?_
    obtain ⟨hne, h⟩ := p_cd_inv h
    refine je_irem C dX6_less_30 31 rfl hne ?_
    refine je_if_ne C 36 dX6_less_31 34 rfl rfl h (fun h => ?_) (fun h => ?_)
    · refine je_iload C dX6_less_36 38 rfl 4 rfl ?_
      refine je_iload C dX6_less_38 40 rfl 3 rfl ?_
      refine je_isub C dX6_less_40 41 rfl ?_
      refine je_lti h (fun t41 h => ?_)
      refine je_istore C dX6_less_41 43 rfl (Nat.le_of_ble_eq_true rfl) [(5, .int t41), (0, .ref (G.2.1 + 66)), (2, .int v2), (3, .int v3), (4, .int v4), (6, .int v6)] rfl ?_
      refine je_sub [1, 2, 3, 4, 0, 5] [(0, .ref (G.2.1 + 66)), (2, .int v2), (3, .int v3), (4, .int v4), (5, .int t41), (6, .int v6)] rfl ?_
      exact wX6_less_43 C ih v2 v3 v4 t41 v6 h
    refine je_iconst C (-1) dX6_less_34 35 rfl ic_m1 ?_
    cases h
    exact je_iret C dX6_less_35
set_option maxHeartbeats 4000000 in
theorem metX6_less {l : Launch} {G : je_G} {σ : Nat → Option je_E} {sz : Nat} {F : Nat} {v1 : Int32} {v2 : Int32} {r9 : Int32} (h : pX6_less F v1 v2 = some r9) : MetS l G yX6_less cX6_less 7 (some .int) 0 0 0 0 [.ref (G.2.1 + 66), .int v1, .int v2] σ sz (some (.int r9)) σ sz := by
  refine je_met "MinistryDesksModel" rfl (by decide +kernel) (Nat.le_of_ble_eq_true rfl) [(0, .ref (G.2.1 + 66)), (1, .int v1), (2, .int v2)] rfl (fun p e s m args below meth c C => ?_)
  unfold pX6_less at h
  refine je_iload_n C dX6_less_0 1 rfl 1 rfl ?_
  refine je_istore_n C dX6_less_1 2 rfl (Nat.le_of_ble_eq_true rfl) [(3, .int v1), (0, .ref (G.2.1 + 66)), (1, .int v1), (2, .int v2)] rfl ?_
  refine je_iconst C (1) dX6_less_2 3 rfl ic_1 ?_
  refine je_istore C dX6_less_3 5 rfl (Nat.le_of_ble_eq_true rfl) [(4, .int (1 : Int32)), (3, .int v1), (0, .ref (G.2.1 + 66)), (1, .int v1), (2, .int v2)] rfl ?_
  refine je_iload_n C dX6_less_5 6 rfl 3 rfl ?_
  refine je_istore C dX6_less_6 8 rfl (Nat.le_of_ble_eq_true rfl) [(5, .int v1), (4, .int (1 : Int32)), (3, .int v1), (0, .ref (G.2.1 + 66)), (1, .int v1), (2, .int v2)] rfl ?_
  refine je_iconst C (0) dX6_less_8 9 rfl ic_0 ?_
  refine je_istore C dX6_less_9 11 rfl (Nat.le_of_ble_eq_true rfl) [(6, .int (0 : Int32)), (5, .int v1), (4, .int (1 : Int32)), (3, .int v1), (0, .ref (G.2.1 + 66)), (1, .int v1), (2, .int v2)] rfl ?_
  refine je_sub [4, 6, 3, 2, 1, 0] [(0, .ref (G.2.1 + 66)), (2, .int v2), (3, .int v1), (4, .int (1 : Int32)), (5, .int v1), (6, .int (0 : Int32))] rfl ?_
  exact wX6_less_11 C F v2 v1 (1 : Int32) v1 (0 : Int32) h
theorem sp_2401 : (Int16.ofInt (2401)).toInt32 = (2401 : Int32) := by decide +kernel
theorem hdX6_less : je_hd yX6_less 2 := ⟨by decide +kernel, by decide +kernel, by decide +kernel⟩
theorem hdX6_worthBy : je_hd yX6_worthBy 3 := ⟨by decide +kernel, by decide +kernel, by decide +kernel⟩
theorem cwX6_529 : GoodIn lw_all (wsV "MinistryDesksModel" 529 "MinistryDesksModel" yX6_worthBy (ws_ yX6_worthBy cX6_worthBy 10 (some .int))) := lw_V q2288 q2290 qs150 q169 q2291
theorem cwX6_533 : GoodIn lw_all (wsV "MinistryDesksModel" 533 "MinistryDesksModel" yX6_less (ws_ yX6_less cX6_less 7 (some .int))) := lw_V q2292 q2294 qs151 q169 q2295
theorem mlX6_536 : Cond.methodLink "MinistryDesksModel" 536 Lib.Math.max.name ∈ lw_all ∧ Cond.static Lib.Math.max.name ∈ lw_all ∧ Cond.initialized "java/lang/Math" ∈ lw_all ∧ Cond.code Lib.Math.max.name Lib.Math.max.code 2 (some .int) ∈ lw_all := ⟨q2296, q628, q173, q629⟩
theorem gX6_151 {p : Program} {l : Launch} {e : Env} {R : Room} {s : State} {m : MethodId} {args : Array Value} {below : List Frame} {meth : Method} {c : Code} {Q : State → Prop} {G : je_G} {cc : ByteArray} {nL : Nat} {rt : Option FieldType} {sz cells slots pc : Nat} {L : List (Nat × Value)} {st : List Value} {κ : kp_K} {dyn : Nat → Option je_E} (C : Cx p s m args meth c G "MinistryDesksModel" cc nL rt) (d : decode cc pc = .ok (.getfield 151, 3)) (n : Nat) (hn : pc + 3 = n) (kk : Js p l e R s m args below meth c G nL Q (en2 G κ dyn) sz cells slots n L (.ref (G.2.1 + 112) :: st)) : Js p l e R s m args below meth c G nL Q (en2 G κ dyn) sz cells slots pc L (.ref (G.2.1 + 66) :: st) := jk_getR (k := 70) (z := 0) C kd66 rfl in_X6 112 rfl (by decide) q1750 rfl d n hn kk
set_option maxHeartbeats 4000000 in
theorem wX6_layShares_100 {p : Program} {l : Launch} {e : Env} {s : State} {m : MethodId} {args : Array Value} {below : List Frame} {meth : Method} {c : Code} {G : je_G} {dyn : Nat → Option je_E} {sz : Nat} {F : Nat} {r9 : kp_K} {k42 : kp_K → Int32 → Int32 → Option (kp_K)} {k76 : kp_K → Int32 → Int32 → Int32 → Option (kp_K)} (C : Cx p s m args meth c G "MinistryDesksModel" cX6_layShares 7 none) (hk42 : ∀ (kq : kp_K) (q1 : Int32) (q2 : Int32), k42 kq q1 q2 = some r9 → Js p l e ({ frames := 1, cells := 0, slots := 0, locals := 29 } : Room) s m args below meth c G 7 (MQ below (je_Q G none (en2 G r9 dyn) sz) args s 0 0 (je_A G)) (en2 G kq dyn) sz 0 0 42 [(0, .ref (G.2.1 + 66)), (1, .int q1), (2, .int q2)] []) (hk76 : ∀ (kq : kp_K) (q1 : Int32) (q2 : Int32) (q3 : Int32), k76 kq q1 q2 q3 = some r9 → Js p l e ({ frames := 1, cells := 0, slots := 0, locals := 29 } : Room) s m args below meth c G 7 (MQ below (je_Q G none (en2 G r9 dyn) sz) args s 0 0 (je_A G)) (en2 G kq dyn) sz 0 0 76 [(0, .ref (G.2.1 + 66)), (1, .int q1), (2, .int q2), (3, .int q3)] []) : ∀ (n : Nat) (κ : kp_K) (v1 : Int32) (v2 : Int32) (v3 : Int32) (v4 : Int32) (v5 : Int32), bX6_layShares_100 F k42 k76 n κ v1 v2 v3 v4 v5 = some r9 → Js p l e ({ frames := 1, cells := 0, slots := 0, locals := 29 } : Room) s m args below meth c G 7 (MQ below (je_Q G none (en2 G r9 dyn) sz) args s 0 0 (je_A G)) (en2 G κ dyn) sz 0 0 100 [(0, .ref (G.2.1 + 66)), (1, .int v1), (2, .int v2), (3, .int v3), (4, .int v4), (5, .int v5)] [] := by
  intro n
  induction n with
  | zero =>
    intro κ v1 v2 v3 v4 v5 h
    cases h
  | succ n ih =>
    intro κ v1 v2 v3 v4 v5 h
    rw [bX6_layShares_100] at h
    refine je_iload C dX6_layShares_100 102 rfl 5 rfl ?_
    refine je_sipush C (2401) dX6_layShares_102 105 rfl sp_2401 ?_
    refine je_icmp_ge C 176 dX6_layShares_105 108 rfl rfl h (fun h => ?_) (fun h => ?_)
    · refine je_iinc C (1) dX6_layShares_176 179 rfl 3 rfl ic_1 (Nat.le_of_ble_eq_true rfl) [(3, .int (v3 + (1 : Int32))), (0, .ref (G.2.1 + 66)), (1, .int v1), (2, .int v2), (4, .int v4), (5, .int v5)] rfl ?_
      refine je_goto C 76 dX6_layShares_179 rfl ?_
      refine je_sub [1, 2, 3, 0] [(0, .ref (G.2.1 + 66)), (1, .int v1), (2, .int v2), (3, .int (v3 + (1 : Int32)))] rfl ?_
      exact hk76 κ v1 v2 (v3 + (1 : Int32)) h
    refine je_aload_n C dX6_layShares_108 109 rfl 0 rfl ?_
    refine je_iload C dX6_layShares_109 111 rfl 5 rfl ?_
    refine je_iload_n C dX6_layShares_111 112 rfl 3 rfl ?_
    obtain ⟨t112, hg, h⟩ := p_cl_inv h
    refine je_callVi (As := [.int v5, .int v3]) (rest := []) C (metX6_less hg) (en2_at kd66) rfl hdX6_less rfl cwX6_533 rfl ⟨Nat.le_of_ble_eq_true rfl, Nat.le_of_ble_eq_true rfl⟩ (Nat.le_of_ble_eq_true rfl) dX6_layShares_112 115 rfl ⟨Nat.le_refl _, Nat.le_refl _⟩ ?_
    refine je_istore C dX6_layShares_115 117 rfl (Nat.le_of_ble_eq_true rfl) [(6, .int t112), (0, .ref (G.2.1 + 66)), (1, .int v1), (2, .int v2), (3, .int v3), (4, .int v4), (5, .int v5)] rfl ?_
    refine je_iload C dX6_layShares_117 119 rfl 0 rfl ?_
    refine je_iconst C (-1) dX6_layShares_119 120 rfl ic_m1 ?_
    refine je_icmp_eq C 170 dX6_layShares_120 123 rfl rfl h (fun h => ?_) (fun h => ?_)
    · refine je_iinc C (1) dX6_layShares_170 173 rfl 6 rfl ic_1 (Nat.le_of_ble_eq_true rfl) [(5, .int (v5 + (1 : Int32))), (6, .int t112), (0, .ref (G.2.1 + 66)), (1, .int v1), (2, .int v2), (3, .int v3), (4, .int v4)] rfl ?_
      refine je_goto C 100 dX6_layShares_173 rfl ?_
      refine je_sub [2, 3, 4, 5, 6, 0] [(0, .ref (G.2.1 + 66)), (1, .int v1), (2, .int v2), (3, .int v3), (4, .int v4), (5, .int (v5 + (1 : Int32)))] rfl ?_
      exact ih κ v1 v2 v3 v4 (v5 + (1 : Int32)) h
    refine je_aload_n C dX6_layShares_123 124 rfl 1 rfl ?_
    refine gX6_151 C dX6_layShares_124 127 rfl ?_
    refine je_sipush C (2401) dX6_layShares_127 130 rfl sp_2401 ?_
    refine je_iload_n C dX6_layShares_130 131 rfl 3 rfl ?_
    refine je_imul C dX6_layShares_131 132 rfl ?_
    refine je_iload C dX6_layShares_132 134 rfl 6 rfl ?_
    refine je_iadd C dX6_layShares_134 135 rfl ?_
    refine je_aload_n C dX6_layShares_135 136 rfl 1 rfl ?_
    refine gX6_151 C dX6_layShares_136 139 rfl ?_
    refine je_sipush C (2401) dX6_layShares_139 142 rfl sp_2401 ?_
    refine je_iload_n C dX6_layShares_142 143 rfl 3 rfl ?_
    refine je_imul C dX6_layShares_143 144 rfl ?_
    refine je_iload C dX6_layShares_144 146 rfl 6 rfl ?_
    refine je_iadd C dX6_layShares_146 147 rfl ?_
    refine je_lti h (fun i147 h => ?_)
    refine jk_iald C kd112 dX6_layShares_147 148 rfl h (fun h => ?_)
    refine je_iload C dX6_layShares_148 150 rfl 5 rfl ?_
    refine je_aload_n C dX6_layShares_150 151 rfl 1 rfl ?_
    refine gX6_151 C dX6_layShares_151 154 rfl ?_
    refine je_sipush C (2401) dX6_layShares_154 157 rfl sp_2401 ?_
    refine je_iload_n C dX6_layShares_157 158 rfl 3 rfl ?_
    refine je_iconst C (1) dX6_layShares_158 159 rfl ic_1 ?_
    refine je_iadd C dX6_layShares_159 160 rfl ?_
    refine je_imul C dX6_layShares_160 161 rfl ?_
    refine je_iload C dX6_layShares_161 163 rfl 0 rfl ?_
    refine je_iadd C dX6_layShares_163 164 rfl ?_
    refine je_lti h (fun i164 h => ?_)
    refine jk_iald C kd112 dX6_layShares_164 165 rfl h (fun h => ?_)
    refine je_iadd C dX6_layShares_165 166 rfl ?_
    refine je_mmax C ⟨Nat.le_of_ble_eq_true rfl, Nat.le_of_ble_eq_true rfl⟩ (Nat.le_of_ble_eq_true rfl) mlX6_536 dX6_layShares_166 169 rfl ⟨Nat.le_refl _, Nat.le_refl _⟩ ?_
    refine jk_iast C kd112 dX6_layShares_169 170 rfl h (fun h => ?_)
    refine jk_lt h (fun k169 h => ?_)
    refine je_iinc C (1) dX6_layShares_170 173 rfl 6 rfl ic_1 (Nat.le_of_ble_eq_true rfl) [(5, .int (v5 + (1 : Int32))), (6, .int t112), (0, .ref (G.2.1 + 66)), (1, .int v1), (2, .int v2), (3, .int v3), (4, .int v4)] rfl ?_
    refine je_goto C 100 dX6_layShares_173 rfl ?_
    refine je_sub [2, 3, 4, 5, 6, 0] [(0, .ref (G.2.1 + 66)), (1, .int v1), (2, .int v2), (3, .int v3), (4, .int v4), (5, .int (v5 + (1 : Int32)))] rfl ?_
    exact ih k169 v1 v2 v3 v4 (v5 + (1 : Int32)) h
set_option maxHeartbeats 4000000 in
theorem wX6_layShares_76 {p : Program} {l : Launch} {e : Env} {s : State} {m : MethodId} {args : Array Value} {below : List Frame} {meth : Method} {c : Code} {G : je_G} {dyn : Nat → Option je_E} {sz : Nat} {F : Nat} {r9 : kp_K} {k42 : kp_K → Int32 → Int32 → Option (kp_K)} (C : Cx p s m args meth c G "MinistryDesksModel" cX6_layShares 7 none) (hk42 : ∀ (kq : kp_K) (q1 : Int32) (q2 : Int32), k42 kq q1 q2 = some r9 → Js p l e ({ frames := 1, cells := 0, slots := 0, locals := 29 } : Room) s m args below meth c G 7 (MQ below (je_Q G none (en2 G r9 dyn) sz) args s 0 0 (je_A G)) (en2 G kq dyn) sz 0 0 42 [(0, .ref (G.2.1 + 66)), (1, .int q1), (2, .int q2)] []) : ∀ (n : Nat) (κ : kp_K) (v1 : Int32) (v2 : Int32) (v3 : Int32), bX6_layShares_76 F k42 n κ v1 v2 v3 = some r9 → Js p l e ({ frames := 1, cells := 0, slots := 0, locals := 29 } : Room) s m args below meth c G 7 (MQ below (je_Q G none (en2 G r9 dyn) sz) args s 0 0 (je_A G)) (en2 G κ dyn) sz 0 0 76 [(0, .ref (G.2.1 + 66)), (1, .int v1), (2, .int v2), (3, .int v3)] [] := by
  intro n
  induction n with
  | zero =>
    intro κ v1 v2 v3 h
    cases h
  | succ n ih =>
    intro κ v1 v2 v3 h
    rw [bX6_layShares_76] at h
    refine je_iload_n C dX6_layShares_76 77 rfl 3 rfl ?_
    refine je_iconst C (1) dX6_layShares_77 78 rfl ic_1 ?_
    refine je_aload_n C dX6_layShares_78 79 rfl 0 rfl ?_
    refine gX6_13 C dX6_layShares_79 82 rfl ?_
    refine je_iconst C (0) dX6_layShares_82 83 rfl ic_0 ?_
    refine jk_iald C kd68 dX6_layShares_83 84 rfl h (fun h => ?_)
    refine je_ishl C dX6_layShares_84 85 rfl ?_
    refine je_icmp_ge C 182 dX6_layShares_85 88 rfl rfl h (fun h => ?_) (fun h => ?_)
    · refine je_iinc C (-1) dX6_layShares_182 185 rfl 2 rfl ic_m1 (Nat.le_of_ble_eq_true rfl) [(2, .int (v2 + (-1 : Int32))), (0, .ref (G.2.1 + 66)), (1, .int v1), (3, .int v3)] rfl ?_
      refine je_goto C 42 dX6_layShares_185 rfl ?_
      refine je_sub [1, 2, 0] [(0, .ref (G.2.1 + 66)), (1, .int v1), (2, .int (v2 + (-1 : Int32)))] rfl ?_
      exact hk42 κ v1 (v2 + (-1 : Int32)) h
    refine je_aload_n C dX6_layShares_88 89 rfl 0 rfl ?_
    refine je_iload_n C dX6_layShares_89 90 rfl 2 rfl ?_
    refine je_iload_n C dX6_layShares_90 91 rfl 3 rfl ?_
    refine je_iload_n C dX6_layShares_91 92 rfl 1 rfl ?_
    obtain ⟨t92, hg, h⟩ := p_cl_inv h
    refine je_callVi (As := [.int v2, .int v3, .int v1]) (rest := []) C (metX6_worthBy hg) (en2_at kd66) rfl hdX6_worthBy rfl cwX6_529 rfl ⟨Nat.le_of_ble_eq_true rfl, Nat.le_of_ble_eq_true rfl⟩ (Nat.le_of_ble_eq_true rfl) dX6_layShares_92 95 rfl ⟨Nat.le_refl _, Nat.le_refl _⟩ ?_
    refine je_istore C dX6_layShares_95 97 rfl (Nat.le_of_ble_eq_true rfl) [(4, .int t92), (0, .ref (G.2.1 + 66)), (1, .int v1), (2, .int v2), (3, .int v3)] rfl ?_
    refine je_iconst C (0) dX6_layShares_97 98 rfl ic_0 ?_
    refine je_istore C dX6_layShares_98 100 rfl (Nat.le_of_ble_eq_true rfl) [(5, .int (0 : Int32)), (4, .int t92), (0, .ref (G.2.1 + 66)), (1, .int v1), (2, .int v2), (3, .int v3)] rfl ?_
    refine je_sub [2, 3, 4, 5, 1, 0] [(0, .ref (G.2.1 + 66)), (1, .int v1), (2, .int v2), (3, .int v3), (4, .int t92), (5, .int (0 : Int32))] rfl ?_
    exact wX6_layShares_100 C hk42 ih F κ v1 v2 v3 t92 (0 : Int32) h
set_option maxHeartbeats 4000000 in
theorem wX6_layShares_48 {p : Program} {l : Launch} {e : Env} {s : State} {m : MethodId} {args : Array Value} {below : List Frame} {meth : Method} {c : Code} {G : je_G} {dyn : Nat → Option je_E} {sz : Nat} {F : Nat} {r9 : kp_K} {k42 : kp_K → Int32 → Int32 → Option (kp_K)} (C : Cx p s m args meth c G "MinistryDesksModel" cX6_layShares 7 none) (hk42 : ∀ (kq : kp_K) (q1 : Int32) (q2 : Int32), k42 kq q1 q2 = some r9 → Js p l e ({ frames := 1, cells := 0, slots := 0, locals := 29 } : Room) s m args below meth c G 7 (MQ below (je_Q G none (en2 G r9 dyn) sz) args s 0 0 (je_A G)) (en2 G kq dyn) sz 0 0 42 [(0, .ref (G.2.1 + 66)), (1, .int q1), (2, .int q2)] []) : ∀ (n : Nat) (κ : kp_K) (v1 : Int32) (v2 : Int32) (v3 : Int32), bX6_layShares_48 F k42 n κ v1 v2 v3 = some r9 → Js p l e ({ frames := 1, cells := 0, slots := 0, locals := 29 } : Room) s m args below meth c G 7 (MQ below (je_Q G none (en2 G r9 dyn) sz) args s 0 0 (je_A G)) (en2 G κ dyn) sz 0 0 48 [(0, .ref (G.2.1 + 66)), (1, .int v1), (2, .int v2), (3, .int v3)] [] := by
  intro n
  induction n with
  | zero =>
    intro κ v1 v2 v3 h
    cases h
  | succ n ih =>
    intro κ v1 v2 v3 h
    rw [bX6_layShares_48] at h
    refine je_iload_n C dX6_layShares_48 49 rfl 3 rfl ?_
    refine je_sipush C (2401) dX6_layShares_49 52 rfl sp_2401 ?_
    refine je_icmp_ge C 74 dX6_layShares_52 55 rfl rfl h (fun h => ?_) (fun h => ?_)
    · refine je_iconst C (0) dX6_layShares_74 75 rfl ic_0 ?_
      refine je_istore_n C dX6_layShares_75 76 rfl (Nat.le_of_ble_eq_true rfl) [(3, .int (0 : Int32)), (0, .ref (G.2.1 + 66)), (1, .int v1), (2, .int v2)] rfl ?_
      refine je_sub [1, 2, 3, 0] [(0, .ref (G.2.1 + 66)), (1, .int v1), (2, .int v2), (3, .int (0 : Int32))] rfl ?_
      exact wX6_layShares_76 C hk42 F κ v1 v2 (0 : Int32) h
    refine je_aload_n C dX6_layShares_55 56 rfl 0 rfl ?_
    refine gX6_151 C dX6_layShares_56 59 rfl ?_
    refine je_sipush C (2401) dX6_layShares_59 62 rfl sp_2401 ?_
    refine je_iload_n C dX6_layShares_62 63 rfl 2 rfl ?_
    refine je_imul C dX6_layShares_63 64 rfl ?_
    refine je_iload_n C dX6_layShares_64 65 rfl 3 rfl ?_
    refine je_iadd C dX6_layShares_65 66 rfl ?_
    refine je_iconst C (0) dX6_layShares_66 67 rfl ic_0 ?_
    refine jk_iast C kd112 dX6_layShares_67 68 rfl h (fun h => ?_)
    refine jk_lt h (fun k67 h => ?_)
    refine je_iinc C (1) dX6_layShares_68 71 rfl 3 rfl ic_1 (Nat.le_of_ble_eq_true rfl) [(3, .int (v3 + (1 : Int32))), (0, .ref (G.2.1 + 66)), (1, .int v1), (2, .int v2)] rfl ?_
    refine je_goto C 48 dX6_layShares_71 rfl ?_
    refine je_sub [1, 2, 3, 0] [(0, .ref (G.2.1 + 66)), (1, .int v1), (2, .int v2), (3, .int (v3 + (1 : Int32)))] rfl ?_
    exact ih k67 v1 v2 (v3 + (1 : Int32)) h
set_option maxHeartbeats 4000000 in
theorem wX6_layShares_42 {p : Program} {l : Launch} {e : Env} {s : State} {m : MethodId} {args : Array Value} {below : List Frame} {meth : Method} {c : Code} {G : je_G} {dyn : Nat → Option je_E} {sz : Nat} {F : Nat} {r9 : kp_K} (C : Cx p s m args meth c G "MinistryDesksModel" cX6_layShares 7 none) : ∀ (n : Nat) (κ : kp_K) (v1 : Int32) (v2 : Int32), bX6_layShares_42 F n κ v1 v2 = some r9 → Js p l e ({ frames := 1, cells := 0, slots := 0, locals := 29 } : Room) s m args below meth c G 7 (MQ below (je_Q G none (en2 G r9 dyn) sz) args s 0 0 (je_A G)) (en2 G κ dyn) sz 0 0 42 [(0, .ref (G.2.1 + 66)), (1, .int v1), (2, .int v2)] [] := by
  intro n
  induction n with
  | zero =>
    intro κ v1 v2 h
    cases h
  | succ n ih =>
    intro κ v1 v2 h
    rw [bX6_layShares_42] at h
    refine je_iload_n C dX6_layShares_42 43 rfl 2 rfl ?_
    refine je_if_lt C 188 dX6_layShares_43 46 rfl rfl h (fun h => ?_) (fun h => ?_)
    · cases h
      exact je_vret C dX6_layShares_188
    refine je_iconst C (0) dX6_layShares_46 47 rfl ic_0 ?_
    refine je_istore_n C dX6_layShares_47 48 rfl (Nat.le_of_ble_eq_true rfl) [(3, .int (0 : Int32)), (0, .ref (G.2.1 + 66)), (1, .int v1), (2, .int v2)] rfl ?_
    refine je_sub [1, 2, 3, 0] [(0, .ref (G.2.1 + 66)), (1, .int v1), (2, .int v2), (3, .int (0 : Int32))] rfl ?_
    exact wX6_layShares_48 C ih F κ v1 v2 (0 : Int32) h
set_option maxHeartbeats 4000000 in
theorem wX6_layShares_2 {p : Program} {l : Launch} {e : Env} {s : State} {m : MethodId} {args : Array Value} {below : List Frame} {meth : Method} {c : Code} {G : je_G} {dyn : Nat → Option je_E} {sz : Nat} {F : Nat} {r9 : kp_K} (C : Cx p s m args meth c G "MinistryDesksModel" cX6_layShares 7 none) : ∀ (n : Nat) (κ : kp_K) (v1 : Int32) (v2 : Int32), bX6_layShares_2 F n κ v1 v2 = some r9 → Js p l e ({ frames := 1, cells := 0, slots := 0, locals := 29 } : Room) s m args below meth c G 7 (MQ below (je_Q G none (en2 G r9 dyn) sz) args s 0 0 (je_A G)) (en2 G κ dyn) sz 0 0 2 [(0, .ref (G.2.1 + 66)), (1, .int v1), (2, .int v2)] [] := by
  intro n
  induction n with
  | zero =>
    intro κ v1 v2 h
    cases h
  | succ n ih =>
    intro κ v1 v2 h
    rw [bX6_layShares_2] at h
    refine je_iload_n C dX6_layShares_2 3 rfl 2 rfl ?_
    refine je_sipush C (2401) dX6_layShares_3 6 rfl sp_2401 ?_
    refine je_icmp_ge C 33 dX6_layShares_6 9 rfl rfl h (fun h => ?_) (fun h => ?_)
    · refine je_aload_n C dX6_layShares_33 34 rfl 0 rfl ?_
      refine gX6_13 C dX6_layShares_34 37 rfl ?_
      refine je_iconst C (1) dX6_layShares_37 38 rfl ic_1 ?_
      refine jk_iald C kd68 dX6_layShares_38 39 rfl h (fun h => ?_)
      refine je_iconst C (1) dX6_layShares_39 40 rfl ic_1 ?_
      refine je_isub C dX6_layShares_40 41 rfl ?_
      refine je_lti h (fun t41 h => ?_)
      refine je_istore_n C dX6_layShares_41 42 rfl (Nat.le_of_ble_eq_true rfl) [(2, .int t41), (0, .ref (G.2.1 + 66)), (1, .int v1)] rfl ?_
      refine je_sub [1, 2, 0] [(0, .ref (G.2.1 + 66)), (1, .int v1), (2, .int t41)] rfl ?_
      exact wX6_layShares_42 C F κ v1 t41 h
    refine je_aload_n C dX6_layShares_9 10 rfl 0 rfl ?_
    refine gX6_151 C dX6_layShares_10 13 rfl ?_
    refine je_sipush C (2401) dX6_layShares_13 16 rfl sp_2401 ?_
    refine je_aload_n C dX6_layShares_16 17 rfl 0 rfl ?_
    refine gX6_13 C dX6_layShares_17 20 rfl ?_
    refine je_iconst C (1) dX6_layShares_20 21 rfl ic_1 ?_
    refine jk_iald C kd68 dX6_layShares_21 22 rfl h (fun h => ?_)
    refine je_imul C dX6_layShares_22 23 rfl ?_
    refine je_iload_n C dX6_layShares_23 24 rfl 2 rfl ?_
    refine je_iadd C dX6_layShares_24 25 rfl ?_
    refine je_iconst C (0) dX6_layShares_25 26 rfl ic_0 ?_
    refine jk_iast C kd112 dX6_layShares_26 27 rfl h (fun h => ?_)
    refine jk_lt h (fun k26 h => ?_)
    refine je_iinc C (1) dX6_layShares_27 30 rfl 2 rfl ic_1 (Nat.le_of_ble_eq_true rfl) [(2, .int (v2 + (1 : Int32))), (0, .ref (G.2.1 + 66)), (1, .int v1)] rfl ?_
    refine je_goto C 2 dX6_layShares_30 rfl ?_
    refine je_sub [1, 2, 0] [(0, .ref (G.2.1 + 66)), (1, .int v1), (2, .int (v2 + (1 : Int32)))] rfl ?_
    exact ih k26 v1 (v2 + (1 : Int32)) h
set_option maxHeartbeats 4000000 in
theorem metX6_layShares {l : Launch} {G : je_G} {dyn : Nat → Option je_E} {sz : Nat} {F : Nat} {κ : kp_K} {v1 : Int32} {r9 : kp_K} (h : pX6_layShares F κ v1 = some r9) : MetS l G yX6_layShares cX6_layShares 7 none 1 29 0 0 [.ref (G.2.1 + 66), .int v1] (en2 G κ dyn) sz none (en2 G r9 dyn) sz := by
  refine je_met "MinistryDesksModel" rfl (by decide +kernel) (Nat.le_of_ble_eq_true rfl) [(0, .ref (G.2.1 + 66)), (1, .int v1)] rfl (fun p e s m args below meth c C => ?_)
  unfold pX6_layShares at h
  refine je_iconst C (0) dX6_layShares_0 1 rfl ic_0 ?_
  refine je_istore_n C dX6_layShares_1 2 rfl (Nat.le_of_ble_eq_true rfl) [(2, .int (0 : Int32)), (0, .ref (G.2.1 + 66)), (1, .int v1)] rfl ?_
  refine je_sub [1, 2, 0] [(0, .ref (G.2.1 + 66)), (1, .int v1), (2, .int (0 : Int32))] rfl ?_
  exact wX6_layShares_2 C F κ v1 (0 : Int32) h
theorem hdX6_layShares : je_hd yX6_layShares 1 := ⟨by decide +kernel, by decide +kernel, by decide +kernel⟩
theorem cwX6_538 : GoodIn lw_all (wsV "MinistryDesksModel" 538 "MinistryDesksModel" yX6_layShares (ws_ yX6_layShares cX6_layShares 7 none)) := lw_V q2284 q2286 qs149 q169 q2287
set_option maxHeartbeats 4000000 in
theorem wX6_share_99 {p : Program} {l : Launch} {e : Env} {s : State} {m : MethodId} {args : Array Value} {below : List Frame} {meth : Method} {c : Code} {G : je_G} {dyn : Nat → Option je_E} {sz : Nat} {F : Nat} {r9 : Int32 × kp_K} {k90 : kp_K → Int32 → Int32 → Int32 → Int32 → Int32 → Option (Int32 × kp_K)} (C : Cx p s m args meth c G "MinistryDesksModel" cX6_share 7 (some .int)) (hk90 : ∀ (kq : kp_K) (q1 : Int32) (q2 : Int32) (q3 : Int32) (q5 : Int32) (q6 : Int32), k90 kq q1 q2 q3 q5 q6 = some r9 → Js p l e ({ frames := 2, cells := 0, slots := 0, locals := 55 } : Room) s m args below meth c G 7 (MQ below (je_Q G (some (.int r9.1)) (en2 G r9.2 dyn) sz) args s 0 0 (je_A G)) (en2 G kq dyn) sz 0 0 90 [(0, .ref (G.2.1 + 66)), (1, .int q1), (2, .int q2), (3, .int q3), (5, .int q5), (6, .int q6)] []) : ∀ (n : Nat) (κ : kp_K) (v1 : Int32) (v2 : Int32) (v3 : Int32) (v5 : Int32) (v6 : Int32), bX6_share_99 F k90 n κ v1 v2 v3 v5 v6 = some r9 → Js p l e ({ frames := 2, cells := 0, slots := 0, locals := 55 } : Room) s m args below meth c G 7 (MQ below (je_Q G (some (.int r9.1)) (en2 G r9.2 dyn) sz) args s 0 0 (je_A G)) (en2 G κ dyn) sz 0 0 99 [(0, .ref (G.2.1 + 66)), (1, .int v1), (2, .int v2), (3, .int v3), (5, .int v5), (6, .int v6)] [] := by
  intro n
  induction n with
  | zero =>
    intro κ v1 v2 v3 v5 v6 h
    cases h
  | succ n ih =>
    intro κ v1 v2 v3 v5 v6 h
    rw [bX6_share_99] at h
    refine je_aload_n C dX6_share_99 100 rfl 0 rfl ?_
    refine je_iload_n C dX6_share_100 101 rfl 3 rfl ?_
    refine je_iload C dX6_share_101 103 rfl 4 rfl ?_
    obtain ⟨t103, hg, h⟩ := p_cl_inv h
    refine je_callVi (As := [.int v3, .int v5]) (rest := []) C (metX6_less hg) (en2_at kd66) rfl hdX6_less rfl cwX6_533 rfl ⟨Nat.le_of_ble_eq_true rfl, Nat.le_of_ble_eq_true rfl⟩ (Nat.le_of_ble_eq_true rfl) dX6_share_103 106 rfl ⟨Nat.le_refl _, Nat.le_refl _⟩ ?_
    refine je_iconst C (-1) dX6_share_106 107 rfl ic_m1 ?_
    refine je_icmp_eq C 157 dX6_share_107 110 rfl rfl h (fun h => ?_) (fun h => ?_)
    · refine je_iinc C (1) dX6_share_157 160 rfl 4 rfl ic_1 (Nat.le_of_ble_eq_true rfl) [(5, .int (v5 + (1 : Int32))), (0, .ref (G.2.1 + 66)), (1, .int v1), (2, .int v2), (3, .int v3), (6, .int v6)] rfl ?_
      refine je_goto C 99 dX6_share_160 rfl ?_
      refine je_sub [1, 2, 3, 4, 0, 5] [(0, .ref (G.2.1 + 66)), (1, .int v1), (2, .int v2), (3, .int v3), (5, .int (v5 + (1 : Int32))), (6, .int v6)] rfl ?_
      exact ih κ v1 v2 v3 (v5 + (1 : Int32)) v6 h
    refine je_aload_n C dX6_share_110 111 rfl 0 rfl ?_
    refine je_iload C dX6_share_111 113 rfl 5 rfl ?_
    refine je_iload C dX6_share_113 115 rfl 4 rfl ?_
    refine je_iload_n C dX6_share_115 116 rfl 1 rfl ?_
    obtain ⟨t116, hg, h⟩ := p_cl_inv h
    refine je_callVi (As := [.int v6, .int v5, .int v1]) (rest := []) C (metX6_worthBy hg) (en2_at kd66) rfl hdX6_worthBy rfl cwX6_529 rfl ⟨Nat.le_of_ble_eq_true rfl, Nat.le_of_ble_eq_true rfl⟩ (Nat.le_of_ble_eq_true rfl) dX6_share_116 119 rfl ⟨Nat.le_refl _, Nat.le_refl _⟩ ?_
    refine je_aload_n C dX6_share_119 120 rfl 0 rfl ?_
    refine gX6_151 C dX6_share_120 123 rfl ?_
    refine je_sipush C (2401) dX6_share_123 126 rfl sp_2401 ?_
    refine je_iload C dX6_share_126 128 rfl 5 rfl ?_
    refine je_iconst C (1) dX6_share_128 129 rfl ic_1 ?_
    refine je_iadd C dX6_share_129 130 rfl ?_
    refine je_imul C dX6_share_130 131 rfl ?_
    refine je_aload_n C dX6_share_131 132 rfl 0 rfl ?_
    refine je_iload_n C dX6_share_132 133 rfl 3 rfl ?_
    refine je_iload C dX6_share_133 135 rfl 4 rfl ?_
    obtain ⟨t135, hg, h⟩ := p_cl_inv h
    refine je_callVi (As := [.int v3, .int v5]) (rest := [.int ((2401 : Int32) * (v6 + (1 : Int32))), .ref (G.2.1 + 112), .int t116]) C (metX6_less hg) (en2_at kd66) rfl hdX6_less rfl cwX6_533 rfl ⟨Nat.le_of_ble_eq_true rfl, Nat.le_of_ble_eq_true rfl⟩ (Nat.le_of_ble_eq_true rfl) dX6_share_135 138 rfl ⟨Nat.le_refl _, Nat.le_refl _⟩ ?_
    refine je_iadd C dX6_share_138 139 rfl ?_
    refine je_lti h (fun i139 h => ?_)
    refine jk_iald C kd112 dX6_share_139 140 rfl h (fun h => ?_)
    refine je_iadd C dX6_share_140 141 rfl ?_
    refine je_aload_n C dX6_share_141 142 rfl 0 rfl ?_
    refine gX6_151 C dX6_share_142 145 rfl ?_
    refine je_sipush C (2401) dX6_share_145 148 rfl sp_2401 ?_
    refine je_iload C dX6_share_148 150 rfl 5 rfl ?_
    refine je_imul C dX6_share_150 151 rfl ?_
    refine je_iload_n C dX6_share_151 152 rfl 3 rfl ?_
    refine je_iadd C dX6_share_152 153 rfl ?_
    refine je_lti h (fun i153 h => ?_)
    refine jk_iald C kd112 dX6_share_153 154 rfl h (fun h => ?_)
    refine je_icmp_eq C 163 dX6_share_154 157 rfl rfl h (fun h => ?_) (fun h => ?_)
    · refine je_aload_n C dX6_share_163 164 rfl 0 rfl ?_
      refine je_iload_n C dX6_share_164 165 rfl 3 rfl ?_
      refine je_iload C dX6_share_165 167 rfl 4 rfl ?_
      obtain ⟨t167, hg, h⟩ := p_cl_inv h
      refine je_callVi (As := [.int v3, .int v5]) (rest := []) C (metX6_less hg) (en2_at kd66) rfl hdX6_less rfl cwX6_533 rfl ⟨Nat.le_of_ble_eq_true rfl, Nat.le_of_ble_eq_true rfl⟩ (Nat.le_of_ble_eq_true rfl) dX6_share_167 170 rfl ⟨Nat.le_refl _, Nat.le_refl _⟩ ?_
      refine je_istore_n C dX6_share_170 171 rfl (Nat.le_of_ble_eq_true rfl) [(3, .int t167), (0, .ref (G.2.1 + 66)), (1, .int v1), (2, .int v2), (5, .int v5), (6, .int v6)] rfl ?_
      refine je_iinc C (1) dX6_share_171 174 rfl 5 rfl ic_1 (Nat.le_of_ble_eq_true rfl) [(6, .int (v6 + (1 : Int32))), (3, .int t167), (0, .ref (G.2.1 + 66)), (1, .int v1), (2, .int v2), (5, .int v5)] rfl ?_
      refine je_goto C 90 dX6_share_174 rfl ?_
      refine je_sub [2, 3, 4, 1, 5, 0] [(0, .ref (G.2.1 + 66)), (1, .int v1), (2, .int v2), (3, .int t167), (5, .int v5), (6, .int (v6 + (1 : Int32)))] rfl ?_
      exact hk90 κ v1 v2 t167 v5 (v6 + (1 : Int32)) h
    refine je_iinc C (1) dX6_share_157 160 rfl 4 rfl ic_1 (Nat.le_of_ble_eq_true rfl) [(5, .int (v5 + (1 : Int32))), (0, .ref (G.2.1 + 66)), (1, .int v1), (2, .int v2), (3, .int v3), (6, .int v6)] rfl ?_
    refine je_goto C 99 dX6_share_160 rfl ?_
    refine je_sub [1, 2, 3, 4, 0, 5] [(0, .ref (G.2.1 + 66)), (1, .int v1), (2, .int v2), (3, .int v3), (5, .int (v5 + (1 : Int32))), (6, .int v6)] rfl ?_
    exact ih κ v1 v2 v3 (v5 + (1 : Int32)) v6 h
set_option maxHeartbeats 4000000 in
theorem wX6_share_90 {p : Program} {l : Launch} {e : Env} {s : State} {m : MethodId} {args : Array Value} {below : List Frame} {meth : Method} {c : Code} {G : je_G} {dyn : Nat → Option je_E} {sz : Nat} {F : Nat} {r9 : Int32 × kp_K} (C : Cx p s m args meth c G "MinistryDesksModel" cX6_share 7 (some .int)) : ∀ (n : Nat) (κ : kp_K) (v1 : Int32) (v2 : Int32) (v3 : Int32) (v5 : Int32) (v6 : Int32), bX6_share_90 F n κ v1 v2 v3 v5 v6 = some r9 → Js p l e ({ frames := 2, cells := 0, slots := 0, locals := 55 } : Room) s m args below meth c G 7 (MQ below (je_Q G (some (.int r9.1)) (en2 G r9.2 dyn) sz) args s 0 0 (je_A G)) (en2 G κ dyn) sz 0 0 90 [(0, .ref (G.2.1 + 66)), (1, .int v1), (2, .int v2), (3, .int v3), (5, .int v5), (6, .int v6)] [] := by
  intro n
  induction n with
  | zero =>
    intro κ v1 v2 v3 v5 v6 h
    cases h
  | succ n ih =>
    intro κ v1 v2 v3 v5 v6 h
    rw [bX6_share_90] at h
    refine je_iload C dX6_share_90 92 rfl 5 rfl ?_
    refine je_iload_n C dX6_share_92 93 rfl 2 rfl ?_
    refine je_icmp_gt C 177 dX6_share_93 96 rfl rfl h (fun h => ?_) (fun h => ?_)
    · refine je_iload C dX6_share_177 179 rfl 4 rfl ?_
      cases h
      exact je_iret C dX6_share_179
    refine je_iconst C (0) dX6_share_96 97 rfl ic_0 ?_
    refine je_istore C dX6_share_97 99 rfl (Nat.le_of_ble_eq_true rfl) [(5, .int (0 : Int32)), (0, .ref (G.2.1 + 66)), (1, .int v1), (2, .int v2), (3, .int v3), (6, .int v6)] rfl ?_
    refine je_sub [1, 2, 3, 4, 0, 5] [(0, .ref (G.2.1 + 66)), (1, .int v1), (2, .int v2), (3, .int v3), (5, .int (0 : Int32)), (6, .int v6)] rfl ?_
    exact wX6_share_99 C ih F κ v1 v2 v3 (0 : Int32) v6 h
set_option maxHeartbeats 4000000 in
theorem wX6_share_35 {p : Program} {l : Launch} {e : Env} {s : State} {m : MethodId} {args : Array Value} {below : List Frame} {meth : Method} {c : Code} {G : je_G} {dyn : Nat → Option je_E} {sz : Nat} {F : Nat} {r9 : Int32 × kp_K} (C : Cx p s m args meth c G "MinistryDesksModel" cX6_share 7 (some .int)) : ∀ (n : Nat) (κ : kp_K) (v1 : Int32) (v2 : Int32) (v3 : Int32) (v4 : Int32) (v5 : Int32), bX6_share_35 F n κ v1 v2 v3 v4 v5 = some r9 → Js p l e ({ frames := 2, cells := 0, slots := 0, locals := 55 } : Room) s m args below meth c G 7 (MQ below (je_Q G (some (.int r9.1)) (en2 G r9.2 dyn) sz) args s 0 0 (je_A G)) (en2 G κ dyn) sz 0 0 35 [(0, .ref (G.2.1 + 66)), (1, .int v1), (2, .int v2), (3, .int v3), (4, .int v4), (5, .int v5)] [] := by
  intro n
  induction n with
  | zero =>
    intro κ v1 v2 v3 v4 v5 h
    cases h
  | succ n ih =>
    intro κ v1 v2 v3 v4 v5 h
    rw [bX6_share_35] at h
    refine je_iload C dX6_share_35 37 rfl 5 rfl ?_
    refine je_aload_n C dX6_share_37 38 rfl 0 rfl ?_
    refine gX6_13 C dX6_share_38 41 rfl ?_
    refine je_iconst C (0) dX6_share_41 42 rfl ic_0 ?_
    refine jk_iald C kd68 dX6_share_42 43 rfl h (fun h => ?_)
    refine je_icmp_ge C 72 dX6_share_43 46 rfl rfl h (fun h => ?_) (fun h => ?_)
    · refine je_iload_n C dX6_share_72 73 rfl 2 rfl ?_
      refine je_iconst C (-1) dX6_share_73 74 rfl ic_m1 ?_
      refine je_icmp_ne C 84 dX6_share_74 77 rfl rfl h (fun h => ?_) (fun h => ?_)
      · refine je_iconst C (0) dX6_share_84 85 rfl ic_0 ?_
        refine je_istore C dX6_share_85 87 rfl (Nat.le_of_ble_eq_true rfl) [(5, .int (0 : Int32)), (0, .ref (G.2.1 + 66)), (1, .int v1), (2, .int v2), (3, .int v3), (4, .int v4)] rfl ?_
        refine je_iconst C (0) dX6_share_87 88 rfl ic_0 ?_
        refine je_istore C dX6_share_88 90 rfl (Nat.le_of_ble_eq_true rfl) [(6, .int (0 : Int32)), (5, .int (0 : Int32)), (0, .ref (G.2.1 + 66)), (1, .int v1), (2, .int v2), (3, .int v3), (4, .int v4)] rfl ?_
        refine je_sub [2, 3, 4, 5, 1, 0] [(0, .ref (G.2.1 + 66)), (1, .int v1), (2, .int v2), (3, .int v3), (5, .int (0 : Int32)), (6, .int (0 : Int32))] rfl ?_
        exact wX6_share_90 C F κ v1 v2 v3 (0 : Int32) (0 : Int32) h
      refine je_aload_n C dX6_share_77 78 rfl 0 rfl ?_
      refine gX6_151 C dX6_share_78 81 rfl ?_
      refine je_iload_n C dX6_share_81 82 rfl 3 rfl ?_
      refine jk_iald C kd112 dX6_share_82 83 rfl h (fun h => ?_)
      cases h
      exact je_iret C dX6_share_83
    refine je_iload_n C dX6_share_46 47 rfl 3 rfl ?_
    refine je_iload C dX6_share_47 49 rfl 4 rfl ?_
    refine je_aload_n C dX6_share_49 50 rfl 0 rfl ?_
    refine gX6_19 C dX6_share_50 53 rfl ?_
    refine je_iload C dX6_share_53 55 rfl 5 rfl ?_
    refine jk_iald C kd70 dX6_share_55 56 rfl h (fun h => ?_)
    refine je_imul C dX6_share_56 57 rfl ?_
    refine je_iadd C dX6_share_57 58 rfl ?_
    refine je_lti h (fun t58 h => ?_)
    refine je_istore_n C dX6_share_58 59 rfl (Nat.le_of_ble_eq_true rfl) [(3, .int t58), (0, .ref (G.2.1 + 66)), (1, .int v1), (2, .int v2), (4, .int v4), (5, .int v5)] rfl ?_
    refine je_iload C dX6_share_59 61 rfl 4 rfl ?_
    refine je_bipush C (7) dX6_share_61 63 rfl bp_7 ?_
    refine je_imul C dX6_share_63 64 rfl ?_
    refine je_lti h (fun t64 h => ?_)
    refine je_istore C dX6_share_64 66 rfl (Nat.le_of_ble_eq_true rfl) [(4, .int t64), (3, .int t58), (0, .ref (G.2.1 + 66)), (1, .int v1), (2, .int v2), (5, .int v5)] rfl ?_
    refine je_iinc C (1) dX6_share_66 69 rfl 5 rfl ic_1 (Nat.le_of_ble_eq_true rfl) [(5, .int (v5 + (1 : Int32))), (4, .int t64), (3, .int t58), (0, .ref (G.2.1 + 66)), (1, .int v1), (2, .int v2)] rfl ?_
    refine je_goto C 35 dX6_share_69 rfl ?_
    refine je_sub [3, 4, 5, 2, 1, 0] [(0, .ref (G.2.1 + 66)), (1, .int v1), (2, .int v2), (3, .int t58), (4, .int t64), (5, .int (v5 + (1 : Int32)))] rfl ?_
    exact ih κ v1 v2 t58 t64 (v5 + (1 : Int32)) h
set_option maxHeartbeats 4000000 in
theorem metX6_share {l : Launch} {G : je_G} {dyn : Nat → Option je_E} {sz : Nat} {F : Nat} {κ : kp_K} {v1 : Int32} {v2 : Int32} {r9 : Int32 × kp_K} (h : pX6_share F κ v1 v2 = some r9) : MetS l G yX6_share cX6_share 7 (some .int) 2 55 0 0 [.ref (G.2.1 + 66), .int v1, .int v2] (en2 G κ dyn) sz (some (.int r9.1)) (en2 G r9.2 dyn) sz := by
  refine je_met "MinistryDesksModel" rfl (by decide +kernel) (Nat.le_of_ble_eq_true rfl) [(0, .ref (G.2.1 + 66)), (1, .int v1), (2, .int v2)] rfl (fun p e s m args below meth c C => ?_)
  unfold pX6_share at h
  refine je_aload_n C dX6_share_0 1 rfl 0 rfl ?_
  refine je_iconst C (0) dX6_share_1 2 rfl ic_0 ?_
  refine sX6_166 C dX6_share_2 5 rfl ?_
  refine jk_lt h (fun k2 h => ?_)
  refine je_iload_n C dX6_share_5 6 rfl 2 rfl ?_
  refine je_iconst C (-1) dX6_share_6 7 rfl ic_m1 ?_
  refine je_icmp_lt C 20 dX6_share_7 10 rfl rfl h (fun h => ?_) (fun h => ?_)
  · refine je_iconst C (-1) dX6_share_20 21 rfl ic_m1 ?_
    cases h
    exact je_iret C dX6_share_21
  refine je_iload_n C dX6_share_10 11 rfl 2 rfl ?_
  refine je_aload_n C dX6_share_11 12 rfl 0 rfl ?_
  refine gX6_13 C dX6_share_12 15 rfl ?_
  refine je_iconst C (1) dX6_share_15 16 rfl ic_1 ?_
  refine jk_iald C kd68 dX6_share_16 17 rfl h (fun h => ?_)
  refine je_icmp_lt C 22 dX6_share_17 20 rfl rfl h (fun h => ?_) (fun h => ?_)
  · refine je_aload_n C dX6_share_22 23 rfl 0 rfl ?_
    refine je_iload_n C dX6_share_23 24 rfl 1 rfl ?_
    obtain ⟨k24, hg, h⟩ := p_cl_inv h
    refine je_callVv (As := [.int v1]) (rest := []) C (metX6_layShares hg) (en2_at kd66) rfl hdX6_layShares rfl cwX6_538 rfl ⟨Nat.le_of_ble_eq_true rfl, Nat.le_of_ble_eq_true rfl⟩ (Nat.le_of_ble_eq_true rfl) dX6_share_24 27 rfl ⟨Nat.le_refl _, Nat.le_refl _⟩ ?_
    refine je_iconst C (0) dX6_share_27 28 rfl ic_0 ?_
    refine je_istore_n C dX6_share_28 29 rfl (Nat.le_of_ble_eq_true rfl) [(3, .int (0 : Int32)), (0, .ref (G.2.1 + 66)), (1, .int v1), (2, .int v2)] rfl ?_
    refine je_iconst C (1) dX6_share_29 30 rfl ic_1 ?_
    refine je_istore C dX6_share_30 32 rfl (Nat.le_of_ble_eq_true rfl) [(4, .int (1 : Int32)), (3, .int (0 : Int32)), (0, .ref (G.2.1 + 66)), (1, .int v1), (2, .int v2)] rfl ?_
    refine je_iconst C (0) dX6_share_32 33 rfl ic_0 ?_
    refine je_istore C dX6_share_33 35 rfl (Nat.le_of_ble_eq_true rfl) [(5, .int (0 : Int32)), (4, .int (1 : Int32)), (3, .int (0 : Int32)), (0, .ref (G.2.1 + 66)), (1, .int v1), (2, .int v2)] rfl ?_
    refine je_sub [3, 4, 5, 2, 1, 0] [(0, .ref (G.2.1 + 66)), (1, .int v1), (2, .int v2), (3, .int (0 : Int32)), (4, .int (1 : Int32)), (5, .int (0 : Int32))] rfl ?_
    exact wX6_share_35 C F k24 v1 v2 (0 : Int32) (1 : Int32) (0 : Int32) h
  refine je_iconst C (-1) dX6_share_20 21 rfl ic_m1 ?_
  cases h
  exact je_iret C dX6_share_21
theorem bp_15 : (Int8.ofInt (15)).toInt32 = (15 : Int32) := by decide +kernel
theorem mlX6_542 : Cond.methodLink "MinistryDesksModel" 542 Lib.Math.min.name ∈ lw_all ∧ Cond.static Lib.Math.min.name ∈ lw_all ∧ Cond.initialized "java/lang/Math" ∈ lw_all ∧ Cond.code Lib.Math.min.name Lib.Math.min.code 2 (some .int) ∈ lw_all := ⟨q2301, q631, q173, q632⟩
set_option maxHeartbeats 4000000 in
theorem wX6_fewest_34 {p : Program} {l : Launch} {e : Env} {s : State} {m : MethodId} {args : Array Value} {below : List Frame} {meth : Method} {c : Code} {G : je_G} {dyn : Nat → Option je_E} {sz : Nat} {F : Nat} {r9 : Int32 × kp_K} {k9 : kp_K → Int32 → Int32 → Option (Int32 × kp_K)} (C : Cx p s m args meth c G "MinistryDesksModel" cX6_fewest 6 (some .int)) (hk9 : ∀ (kq : kp_K) (q1 : Int32) (q2 : Int32), k9 kq q1 q2 = some r9 → Js p l e ({ frames := 1, cells := 0, slots := 0, locals := 29 } : Room) s m args below meth c G 6 (MQ below (je_Q G (some (.int r9.1)) (en2 G r9.2 dyn) sz) args s 0 0 (je_A G)) (en2 G kq dyn) sz 0 0 9 [(0, .ref (G.2.1 + 66)), (1, .int q1), (2, .int q2)] []) : ∀ (n : Nat) (κ : kp_K) (v1 : Int32) (v2 : Int32) (v3 : Int32) (v4 : Int32) (v5 : Int32), bX6_fewest_34 F k9 n κ v1 v2 v3 v4 v5 = some r9 → Js p l e ({ frames := 1, cells := 0, slots := 0, locals := 29 } : Room) s m args below meth c G 6 (MQ below (je_Q G (some (.int r9.1)) (en2 G r9.2 dyn) sz) args s 0 0 (je_A G)) (en2 G κ dyn) sz 0 0 34 [(0, .ref (G.2.1 + 66)), (1, .int v1), (2, .int v2), (3, .int v3), (4, .int v4), (5, .int v5)] [] := by
  intro n
  induction n with
  | zero =>
    intro κ v1 v2 v3 v4 v5 h
    cases h
  | succ n ih =>
    intro κ v1 v2 v3 v4 v5 h
    rw [bX6_fewest_34] at h
    refine je_iload C dX6_fewest_34 36 rfl 5 rfl ?_
    refine je_iconst C (1) dX6_fewest_36 37 rfl ic_1 ?_
    refine je_aload_n C dX6_fewest_37 38 rfl 0 rfl ?_
    refine gX6_13 C dX6_fewest_38 41 rfl ?_
    refine je_iconst C (0) dX6_fewest_41 42 rfl ic_0 ?_
    refine jk_iald C kd68 dX6_fewest_42 43 rfl h (fun h => ?_)
    refine je_ishl C dX6_fewest_43 44 rfl ?_
    refine je_icmp_ge C 77 dX6_fewest_44 47 rfl rfl h (fun h => ?_) (fun h => ?_)
    · refine je_iload_n C dX6_fewest_77 78 rfl 1 rfl ?_
      refine je_iload_n C dX6_fewest_78 79 rfl 3 rfl ?_
      refine je_if_le C 87 dX6_fewest_79 82 rfl rfl h (fun h => ?_) (fun h => ?_)
      · refine je_iconst C (0) dX6_fewest_87 88 rfl ic_0 ?_
        refine je_iadd C dX6_fewest_88 89 rfl ?_
        refine je_lti h (fun t89 h => ?_)
        refine je_istore_n C dX6_fewest_89 90 rfl (Nat.le_of_ble_eq_true rfl) [(1, .int t89), (0, .ref (G.2.1 + 66)), (2, .int v2), (3, .int v3), (4, .int v4), (5, .int v5)] rfl ?_
        refine je_iinc C (1) dX6_fewest_90 93 rfl 2 rfl ic_1 (Nat.le_of_ble_eq_true rfl) [(2, .int (v2 + (1 : Int32))), (1, .int t89), (0, .ref (G.2.1 + 66)), (3, .int v3), (4, .int v4), (5, .int v5)] rfl ?_
        refine je_goto C 9 dX6_fewest_93 rfl ?_
        refine je_sub [2, 1, 0] [(0, .ref (G.2.1 + 66)), (1, .int t89), (2, .int (v2 + (1 : Int32)))] rfl ?_
        exact hk9 κ t89 (v2 + (1 : Int32)) h
      refine je_iload C dX6_fewest_82 84 rfl 4 rfl ?_
      refine je_goto C 88 dX6_fewest_84 rfl ?_
      refine je_iadd C dX6_fewest_88 89 rfl ?_
      refine je_lti h (fun t89_2 h => ?_)
      refine je_istore_n C dX6_fewest_89 90 rfl (Nat.le_of_ble_eq_true rfl) [(1, .int t89_2), (0, .ref (G.2.1 + 66)), (2, .int v2), (3, .int v3), (4, .int v4), (5, .int v5)] rfl ?_
      refine je_iinc C (1) dX6_fewest_90 93 rfl 2 rfl ic_1 (Nat.le_of_ble_eq_true rfl) [(2, .int (v2 + (1 : Int32))), (1, .int t89_2), (0, .ref (G.2.1 + 66)), (3, .int v3), (4, .int v4), (5, .int v5)] rfl ?_
      refine je_goto C 9 dX6_fewest_93 rfl ?_
      refine je_sub [2, 1, 0] [(0, .ref (G.2.1 + 66)), (1, .int t89_2), (2, .int (v2 + (1 : Int32)))] rfl ?_
      exact hk9 κ t89_2 (v2 + (1 : Int32)) h
    refine je_aload_n C dX6_fewest_47 48 rfl 0 rfl ?_
    refine je_iload_n C dX6_fewest_48 49 rfl 2 rfl ?_
    refine je_iload C dX6_fewest_49 51 rfl 5 rfl ?_
    refine je_iconst C (0) dX6_fewest_51 52 rfl ic_0 ?_
    obtain ⟨t52, hg, h⟩ := p_cl_inv h
    refine je_callVi (As := [.int v2, .int v5, .int (0 : Int32)]) (rest := []) C (metX6_worthBy hg) (en2_at kd66) rfl hdX6_worthBy rfl cwX6_529 rfl ⟨Nat.le_of_ble_eq_true rfl, Nat.le_of_ble_eq_true rfl⟩ (Nat.le_of_ble_eq_true rfl) dX6_fewest_52 55 rfl ⟨Nat.le_refl _, Nat.le_refl _⟩ ?_
    refine je_iload_n C dX6_fewest_55 56 rfl 3 rfl ?_
    refine je_icmp_ne C 71 dX6_fewest_56 59 rfl rfl h (fun h => ?_) (fun h => ?_)
    · refine je_iinc C (1) dX6_fewest_71 74 rfl 5 rfl ic_1 (Nat.le_of_ble_eq_true rfl) [(5, .int (v5 + (1 : Int32))), (0, .ref (G.2.1 + 66)), (1, .int v1), (2, .int v2), (3, .int v3), (4, .int v4)] rfl ?_
      refine je_goto C 34 dX6_fewest_74 rfl ?_
      refine je_sub [1, 2, 3, 4, 5, 0] [(0, .ref (G.2.1 + 66)), (1, .int v1), (2, .int v2), (3, .int v3), (4, .int v4), (5, .int (v5 + (1 : Int32)))] rfl ?_
      exact ih κ v1 v2 v3 v4 (v5 + (1 : Int32)) h
    refine je_iload C dX6_fewest_59 61 rfl 4 rfl ?_
    refine je_iload C dX6_fewest_61 63 rfl 5 rfl ?_
    obtain ⟨t63, hg, h⟩ := p_cl_inv h
    refine je_callSi (As := [.int v5]) (rest := [.int v4]) C (metX6_bitsOf hg) hdX6_bitsOf cwX6_479 rfl ⟨Nat.le_of_ble_eq_true rfl, Nat.le_of_ble_eq_true rfl⟩ (Nat.le_of_ble_eq_true rfl) dX6_fewest_63 66 rfl ⟨Nat.le_refl _, Nat.le_refl _⟩ ?_
    refine je_mmin C ⟨Nat.le_of_ble_eq_true rfl, Nat.le_of_ble_eq_true rfl⟩ (Nat.le_of_ble_eq_true rfl) mlX6_542 dX6_fewest_66 69 rfl ⟨Nat.le_refl _, Nat.le_refl _⟩ ?_
    refine je_lti h (fun t69 h => ?_)
    refine je_istore C dX6_fewest_69 71 rfl (Nat.le_of_ble_eq_true rfl) [(4, .int t69), (0, .ref (G.2.1 + 66)), (1, .int v1), (2, .int v2), (3, .int v3), (5, .int v5)] rfl ?_
    refine je_iinc C (1) dX6_fewest_71 74 rfl 5 rfl ic_1 (Nat.le_of_ble_eq_true rfl) [(5, .int (v5 + (1 : Int32))), (4, .int t69), (0, .ref (G.2.1 + 66)), (1, .int v1), (2, .int v2), (3, .int v3)] rfl ?_
    refine je_goto C 34 dX6_fewest_74 rfl ?_
    refine je_sub [2, 3, 4, 5, 1, 0] [(0, .ref (G.2.1 + 66)), (1, .int v1), (2, .int v2), (3, .int v3), (4, .int t69), (5, .int (v5 + (1 : Int32)))] rfl ?_
    exact ih κ v1 v2 v3 t69 (v5 + (1 : Int32)) h
set_option maxHeartbeats 4000000 in
theorem wX6_fewest_9 {p : Program} {l : Launch} {e : Env} {s : State} {m : MethodId} {args : Array Value} {below : List Frame} {meth : Method} {c : Code} {G : je_G} {dyn : Nat → Option je_E} {sz : Nat} {F : Nat} {r9 : Int32 × kp_K} (C : Cx p s m args meth c G "MinistryDesksModel" cX6_fewest 6 (some .int)) : ∀ (n : Nat) (κ : kp_K) (v1 : Int32) (v2 : Int32), bX6_fewest_9 F n κ v1 v2 = some r9 → Js p l e ({ frames := 1, cells := 0, slots := 0, locals := 29 } : Room) s m args below meth c G 6 (MQ below (je_Q G (some (.int r9.1)) (en2 G r9.2 dyn) sz) args s 0 0 (je_A G)) (en2 G κ dyn) sz 0 0 9 [(0, .ref (G.2.1 + 66)), (1, .int v1), (2, .int v2)] [] := by
  intro n
  induction n with
  | zero =>
    intro κ v1 v2 h
    cases h
  | succ n ih =>
    intro κ v1 v2 h
    rw [bX6_fewest_9] at h
    refine je_iload_n C dX6_fewest_9 10 rfl 2 rfl ?_
    refine je_aload_n C dX6_fewest_10 11 rfl 0 rfl ?_
    refine gX6_13 C dX6_fewest_11 14 rfl ?_
    refine je_iconst C (1) dX6_fewest_14 15 rfl ic_1 ?_
    refine jk_iald C kd68 dX6_fewest_15 16 rfl h (fun h => ?_)
    refine je_icmp_ge C 96 dX6_fewest_16 19 rfl rfl h (fun h => ?_) (fun h => ?_)
    · refine je_iload_n C dX6_fewest_96 97 rfl 1 rfl ?_
      cases h
      exact je_iret C dX6_fewest_97
    refine je_aload_n C dX6_fewest_19 20 rfl 0 rfl ?_
    refine je_iload_n C dX6_fewest_20 21 rfl 2 rfl ?_
    refine je_bipush C (15) dX6_fewest_21 23 rfl bp_15 ?_
    refine je_iconst C (0) dX6_fewest_23 24 rfl ic_0 ?_
    obtain ⟨t24, hg, h⟩ := p_cl_inv h
    refine je_callVi (As := [.int v2, .int (15 : Int32), .int (0 : Int32)]) (rest := []) C (metX6_worthBy hg) (en2_at kd66) rfl hdX6_worthBy rfl cwX6_529 rfl ⟨Nat.le_of_ble_eq_true rfl, Nat.le_of_ble_eq_true rfl⟩ (Nat.le_of_ble_eq_true rfl) dX6_fewest_24 27 rfl ⟨Nat.le_refl _, Nat.le_refl _⟩ ?_
    refine je_istore_n C dX6_fewest_27 28 rfl (Nat.le_of_ble_eq_true rfl) [(3, .int t24), (0, .ref (G.2.1 + 66)), (1, .int v1), (2, .int v2)] rfl ?_
    refine je_iconst C (4) dX6_fewest_28 29 rfl ic_4 ?_
    refine je_istore C dX6_fewest_29 31 rfl (Nat.le_of_ble_eq_true rfl) [(4, .int (4 : Int32)), (3, .int t24), (0, .ref (G.2.1 + 66)), (1, .int v1), (2, .int v2)] rfl ?_
    refine je_iconst C (0) dX6_fewest_31 32 rfl ic_0 ?_
    refine je_istore C dX6_fewest_32 34 rfl (Nat.le_of_ble_eq_true rfl) [(5, .int (0 : Int32)), (4, .int (4 : Int32)), (3, .int t24), (0, .ref (G.2.1 + 66)), (1, .int v1), (2, .int v2)] rfl ?_
    refine je_sub [3, 4, 5, 2, 1, 0] [(0, .ref (G.2.1 + 66)), (1, .int v1), (2, .int v2), (3, .int t24), (4, .int (4 : Int32)), (5, .int (0 : Int32))] rfl ?_
    exact wX6_fewest_34 C ih F κ v1 v2 t24 (4 : Int32) (0 : Int32) h
set_option maxHeartbeats 4000000 in
theorem metX6_fewest {l : Launch} {G : je_G} {dyn : Nat → Option je_E} {sz : Nat} {F : Nat} {κ : kp_K}  {r9 : Int32 × kp_K} (h : pX6_fewest F κ = some r9) : MetS l G yX6_fewest cX6_fewest 6 (some .int) 1 29 0 0 [.ref (G.2.1 + 66)] (en2 G κ dyn) sz (some (.int r9.1)) (en2 G r9.2 dyn) sz := by
  refine je_met "MinistryDesksModel" rfl (by decide +kernel) (Nat.le_of_ble_eq_true rfl) [(0, .ref (G.2.1 + 66))] rfl (fun p e s m args below meth c C => ?_)
  unfold pX6_fewest at h
  refine je_aload_n C dX6_fewest_0 1 rfl 0 rfl ?_
  refine je_iconst C (0) dX6_fewest_1 2 rfl ic_0 ?_
  refine sX6_166 C dX6_fewest_2 5 rfl ?_
  refine jk_lt h (fun k2 h => ?_)
  refine je_iconst C (0) dX6_fewest_5 6 rfl ic_0 ?_
  refine je_istore_n C dX6_fewest_6 7 rfl (Nat.le_of_ble_eq_true rfl) [(1, .int (0 : Int32)), (0, .ref (G.2.1 + 66))] rfl ?_
  refine je_iconst C (0) dX6_fewest_7 8 rfl ic_0 ?_
  refine je_istore_n C dX6_fewest_8 9 rfl (Nat.le_of_ble_eq_true rfl) [(2, .int (0 : Int32)), (1, .int (0 : Int32)), (0, .ref (G.2.1 + 66))] rfl ?_
  refine je_sub [2, 1, 0] [(0, .ref (G.2.1 + 66)), (1, .int (0 : Int32)), (2, .int (0 : Int32))] rfl ?_
  exact wX6_fewest_9 C F k2 (0 : Int32) (0 : Int32) h
set_option maxHeartbeats 4000000 in
theorem wX6_areLines_15 {p : Program} {l : Launch} {e : Env} {s : State} {m : MethodId} {args : Array Value} {below : List Frame} {meth : Method} {c : Code} {G : je_G} {dyn : Nat → Option je_E} {sz : Nat} {F : Nat} {κ : kp_K} {r9 : Int32} (C : Cx p s m args meth c G "MinistryDesksModel" cX6_areLines 5 (some .boolean)) : ∀ (n : Nat) (v1 : Int32) (v2 : Int64) (v4 : Int32), bX6_areLines_15 F n κ v1 v2 v4 = some r9 → Js p l e ({ frames := 0, cells := 0, slots := 0, locals := 0 } : Room) s m args below meth c G 5 (MQ below (je_Q G (some (.int r9)) (en2 G κ dyn) sz) args s 0 0 (je_A G)) (en2 G κ dyn) sz 0 0 15 [(0, .ref (G.2.1 + 66)), (1, .int v1), (2, .long v2), (4, .int v4)] [] := by
  intro n
  induction n with
  | zero =>
    intro v1 v2 v4 h
    cases h
  | succ n ih =>
    intro v1 v2 v4 h
    rw [bX6_areLines_15] at h
    refine je_iload C dX6_areLines_15 17 rfl 3 rfl ?_
    refine je_iload_n C dX6_areLines_17 18 rfl 1 rfl ?_
    refine je_icmp_ge C 52 dX6_areLines_18 21 rfl rfl h (fun h => ?_) (fun h => ?_)
    · refine je_iconst C (1) dX6_areLines_52 53 rfl ic_1 ?_
      cases h
      exact je_zret C dX6_areLines_53 (Or.inr rfl)
    refine je_lload_n C dX6_areLines_21 22 rfl 2 rfl ?_
    refine je_bipush C (8) dX6_areLines_22 24 rfl bp_8 ?_
    refine je_iload C dX6_areLines_24 26 rfl 3 rfl ?_
    refine je_imul C dX6_areLines_26 27 rfl ?_
    refine je_lshr C dX6_areLines_27 28 rfl ?_
    refine je_ldc2 C q2310 dX6_areLines_28 31 rfl ?_
    refine je_land C dX6_areLines_31 32 rfl ?_
    refine je_lconst C (1) dX6_areLines_32 33 rfl rfl ?_
    refine je_aload_n C dX6_areLines_33 34 rfl 0 rfl ?_
    refine gX6_13 C dX6_areLines_34 37 rfl ?_
    refine je_iconst C (1) dX6_areLines_37 38 rfl ic_1 ?_
    refine jk_iald C kd68 dX6_areLines_38 39 rfl h (fun h => ?_)
    refine je_lshl C dX6_areLines_39 40 rfl ?_
    refine je_lcmp C dX6_areLines_40 41 rfl ?_
    refine je_if_lt C 46 dX6_areLines_41 44 rfl rfl h (fun h => ?_) (fun h => ?_)
    · refine je_iinc C (1) dX6_areLines_46 49 rfl 3 rfl ic_1 (Nat.le_of_ble_eq_true rfl) [(4, .int (v4 + (1 : Int32))), (0, .ref (G.2.1 + 66)), (1, .int v1), (2, .long v2)] rfl ?_
      refine je_goto C 15 dX6_areLines_49 rfl ?_
      refine je_sub [1, 2, 3, 0] [(0, .ref (G.2.1 + 66)), (1, .int v1), (2, .long v2), (4, .int (v4 + (1 : Int32)))] rfl ?_
      exact ih v1 v2 (v4 + (1 : Int32)) h
    refine je_iconst C (0) dX6_areLines_44 45 rfl ic_0 ?_
    cases h
    exact je_zret C dX6_areLines_45 (Or.inl rfl)
set_option maxHeartbeats 4000000 in
theorem metX6_areLines {l : Launch} {G : je_G} {dyn : Nat → Option je_E} {sz : Nat} {F : Nat} {κ : kp_K} {v1 : Int32} {v2 : Int64} {r9 : Int32} (h : pX6_areLines F κ v1 v2 = some r9) : MetS l G yX6_areLines cX6_areLines 5 (some .boolean) 0 0 0 0 [.ref (G.2.1 + 66), .int v1, .long v2] (en2 G κ dyn) sz (some (.int r9)) (en2 G κ dyn) sz := by
  refine je_met "MinistryDesksModel" rfl (by decide +kernel) (Nat.le_of_ble_eq_true rfl) [(0, .ref (G.2.1 + 66)), (1, .int v1), (2, .long v2)] rfl (fun p e s m args below meth c C => ?_)
  unfold pX6_areLines at h
  refine je_iload_n C dX6_areLines_0 1 rfl 1 rfl ?_
  refine je_if_lt C 10 dX6_areLines_1 4 rfl rfl h (fun h => ?_) (fun h => ?_)
  · refine je_iconst C (0) dX6_areLines_10 11 rfl ic_0 ?_
    cases h
    exact je_zret C dX6_areLines_11 (Or.inl rfl)
  refine je_iload_n C dX6_areLines_4 5 rfl 1 rfl ?_
  refine je_bipush C (7) dX6_areLines_5 7 rfl bp_7 ?_
  refine je_icmp_le C 12 dX6_areLines_7 10 rfl rfl h (fun h => ?_) (fun h => ?_)
  · refine je_iconst C (0) dX6_areLines_12 13 rfl ic_0 ?_
    refine je_istore C dX6_areLines_13 15 rfl (Nat.le_of_ble_eq_true rfl) [(4, .int (0 : Int32)), (0, .ref (G.2.1 + 66)), (1, .int v1), (2, .long v2)] rfl ?_
    refine je_sub [1, 2, 3, 0] [(0, .ref (G.2.1 + 66)), (1, .int v1), (2, .long v2), (4, .int (0 : Int32))] rfl ?_
    exact wX6_areLines_15 C F v1 v2 (0 : Int32) h
  refine je_iconst C (0) dX6_areLines_10 11 rfl ic_0 ?_
  cases h
  exact je_zret C dX6_areLines_11 (Or.inl rfl)
set_option maxHeartbeats 4000000 in
theorem wX6_shownBy_17 {p : Program} {l : Launch} {e : Env} {s : State} {m : MethodId} {args : Array Value} {below : List Frame} {meth : Method} {c : Code} {G : je_G} {σ : Nat → Option je_E} {sz : Nat} {F : Nat} {r9 : Int32} {k3 : Int32 → Int64 → Int32 → Int32 → Option (Int32)} (C : Cx p s m args meth c G "MinistryDesksModel" cX6_shownBy 8 (some .int)) (hk3 : ∀ (q1 : Int32) (q2 : Int64) (q4 : Int32) (q5 : Int32), k3 q1 q2 q4 q5 = some r9 → Js p l e ({ frames := 0, cells := 0, slots := 0, locals := 0 } : Room) s m args below meth c G 8 (MQ below (je_Q G (some (.int r9)) σ sz) args s 0 0 (je_A G)) σ sz 0 0 3 [(0, .ref (G.2.1 + 66)), (1, .int q1), (2, .long q2), (4, .int q4), (5, .int q5)] []) : ∀ (n : Nat) (v1 : Int32) (v2 : Int64) (v4 : Int32) (v5 : Int32) (v6 : Int32) (v7 : Int32), bX6_shownBy_17 F k3 n v1 v2 v4 v5 v6 v7 = some r9 → Js p l e ({ frames := 0, cells := 0, slots := 0, locals := 0 } : Room) s m args below meth c G 8 (MQ below (je_Q G (some (.int r9)) σ sz) args s 0 0 (je_A G)) σ sz 0 0 17 [(0, .ref (G.2.1 + 66)), (1, .int v1), (2, .long v2), (4, .int v4), (5, .int v5), (6, .int v6), (7, .int v7)] [] := by
  intro n
  induction n with
  | zero =>
    intro v1 v2 v4 v5 v6 v7 h
    cases h
  | succ n ih =>
    intro v1 v2 v4 v5 v6 v7 h
    rw [bX6_shownBy_17] at h
    refine je_iload C dX6_shownBy_17 19 rfl 6 rfl ?_
    refine je_iload_n C dX6_shownBy_19 20 rfl 1 rfl ?_
    refine je_icmp_ge C 57 dX6_shownBy_20 23 rfl rfl h (fun h => ?_) (fun h => ?_)
    · refine je_iload C dX6_shownBy_57 59 rfl 5 rfl ?_
      refine je_iconst C (1) dX6_shownBy_59 60 rfl ic_1 ?_
      refine je_iload C dX6_shownBy_60 62 rfl 3 rfl ?_
      refine je_ishl C dX6_shownBy_62 63 rfl ?_
      refine je_icmp_ne C 69 dX6_shownBy_63 66 rfl rfl h (fun h => ?_) (fun h => ?_)
      · refine je_iinc C (1) dX6_shownBy_69 72 rfl 4 rfl ic_1 (Nat.le_of_ble_eq_true rfl) [(5, .int (v5 + (1 : Int32))), (0, .ref (G.2.1 + 66)), (1, .int v1), (2, .long v2), (4, .int v4), (6, .int v6), (7, .int v7)] rfl ?_
        refine je_goto C 3 dX6_shownBy_72 rfl ?_
        refine je_sub [1, 2, 3, 4, 0] [(0, .ref (G.2.1 + 66)), (1, .int v1), (2, .long v2), (4, .int v4), (5, .int (v5 + (1 : Int32)))] rfl ?_
        exact hk3 v1 v2 v4 (v5 + (1 : Int32)) h
      refine je_iload C dX6_shownBy_66 68 rfl 4 rfl ?_
      cases h
      exact je_iret C dX6_shownBy_68
    refine je_iload C dX6_shownBy_23 25 rfl 4 rfl ?_
    refine je_iload C dX6_shownBy_25 27 rfl 6 rfl ?_
    refine je_ishr C dX6_shownBy_27 28 rfl ?_
    refine je_iconst C (1) dX6_shownBy_28 29 rfl ic_1 ?_
    refine je_iand C dX6_shownBy_29 30 rfl ?_
    refine je_iconst C (1) dX6_shownBy_30 31 rfl ic_1 ?_
    refine je_icmp_ne C 51 dX6_shownBy_31 34 rfl rfl h (fun h => ?_) (fun h => ?_)
    · refine je_iinc C (1) dX6_shownBy_51 54 rfl 6 rfl ic_1 (Nat.le_of_ble_eq_true rfl) [(7, .int (v7 + (1 : Int32))), (0, .ref (G.2.1 + 66)), (1, .int v1), (2, .long v2), (4, .int v4), (5, .int v5), (6, .int v6)] rfl ?_
      refine je_goto C 17 dX6_shownBy_54 rfl ?_
      refine je_sub [1, 2, 3, 4, 5, 6, 0] [(0, .ref (G.2.1 + 66)), (1, .int v1), (2, .long v2), (4, .int v4), (5, .int v5), (6, .int v6), (7, .int (v7 + (1 : Int32)))] rfl ?_
      exact ih v1 v2 v4 v5 v6 (v7 + (1 : Int32)) h
    refine je_iload C dX6_shownBy_34 36 rfl 5 rfl ?_
    refine je_lload_n C dX6_shownBy_36 37 rfl 2 rfl ?_
    refine je_bipush C (8) dX6_shownBy_37 39 rfl bp_8 ?_
    refine je_iload C dX6_shownBy_39 41 rfl 6 rfl ?_
    refine je_imul C dX6_shownBy_41 42 rfl ?_
    refine je_lshr C dX6_shownBy_42 43 rfl ?_
    refine je_ldc2 C q2310 dX6_shownBy_43 46 rfl ?_
    refine je_land C dX6_shownBy_46 47 rfl ?_
    refine je_l2i C dX6_shownBy_47 48 rfl ?_
    refine je_ixor C dX6_shownBy_48 49 rfl ?_
    refine je_lti h (fun t49 h => ?_)
    refine je_istore C dX6_shownBy_49 51 rfl (Nat.le_of_ble_eq_true rfl) [(6, .int t49), (0, .ref (G.2.1 + 66)), (1, .int v1), (2, .long v2), (4, .int v4), (5, .int v5), (7, .int v7)] rfl ?_
    refine je_iinc C (1) dX6_shownBy_51 54 rfl 6 rfl ic_1 (Nat.le_of_ble_eq_true rfl) [(7, .int (v7 + (1 : Int32))), (6, .int t49), (0, .ref (G.2.1 + 66)), (1, .int v1), (2, .long v2), (4, .int v4), (5, .int v5)] rfl ?_
    refine je_goto C 17 dX6_shownBy_54 rfl ?_
    refine je_sub [2, 3, 4, 5, 6, 1, 0] [(0, .ref (G.2.1 + 66)), (1, .int v1), (2, .long v2), (4, .int v4), (5, .int v5), (6, .int t49), (7, .int (v7 + (1 : Int32)))] rfl ?_
    exact ih v1 v2 v4 v5 t49 (v7 + (1 : Int32)) h
set_option maxHeartbeats 4000000 in
theorem wX6_shownBy_3 {p : Program} {l : Launch} {e : Env} {s : State} {m : MethodId} {args : Array Value} {below : List Frame} {meth : Method} {c : Code} {G : je_G} {σ : Nat → Option je_E} {sz : Nat} {F : Nat} {r9 : Int32} (C : Cx p s m args meth c G "MinistryDesksModel" cX6_shownBy 8 (some .int)) : ∀ (n : Nat) (v1 : Int32) (v2 : Int64) (v4 : Int32) (v5 : Int32), bX6_shownBy_3 F n v1 v2 v4 v5 = some r9 → Js p l e ({ frames := 0, cells := 0, slots := 0, locals := 0 } : Room) s m args below meth c G 8 (MQ below (je_Q G (some (.int r9)) σ sz) args s 0 0 (je_A G)) σ sz 0 0 3 [(0, .ref (G.2.1 + 66)), (1, .int v1), (2, .long v2), (4, .int v4), (5, .int v5)] [] := by
  intro n
  induction n with
  | zero =>
    intro v1 v2 v4 v5 h
    cases h
  | succ n ih =>
    intro v1 v2 v4 v5 h
    rw [bX6_shownBy_3] at h
    refine je_iload C dX6_shownBy_3 5 rfl 4 rfl ?_
    refine je_iconst C (1) dX6_shownBy_5 6 rfl ic_1 ?_
    refine je_iload_n C dX6_shownBy_6 7 rfl 1 rfl ?_
    refine je_ishl C dX6_shownBy_7 8 rfl ?_
    refine je_icmp_ge C 75 dX6_shownBy_8 11 rfl rfl h (fun h => ?_) (fun h => ?_)
    · refine je_iconst C (-1) dX6_shownBy_75 76 rfl ic_m1 ?_
      cases h
      exact je_iret C dX6_shownBy_76
    refine je_iconst C (0) dX6_shownBy_11 12 rfl ic_0 ?_
    refine je_istore C dX6_shownBy_12 14 rfl (Nat.le_of_ble_eq_true rfl) [(6, .int (0 : Int32)), (0, .ref (G.2.1 + 66)), (1, .int v1), (2, .long v2), (4, .int v4), (5, .int v5)] rfl ?_
    refine je_iconst C (0) dX6_shownBy_14 15 rfl ic_0 ?_
    refine je_istore C dX6_shownBy_15 17 rfl (Nat.le_of_ble_eq_true rfl) [(7, .int (0 : Int32)), (6, .int (0 : Int32)), (0, .ref (G.2.1 + 66)), (1, .int v1), (2, .long v2), (4, .int v4), (5, .int v5)] rfl ?_
    refine je_sub [2, 3, 4, 5, 6, 1, 0] [(0, .ref (G.2.1 + 66)), (1, .int v1), (2, .long v2), (4, .int v4), (5, .int v5), (6, .int (0 : Int32)), (7, .int (0 : Int32))] rfl ?_
    exact wX6_shownBy_17 C ih F v1 v2 v4 v5 (0 : Int32) (0 : Int32) h
set_option maxHeartbeats 4000000 in
theorem metX6_shownBy {l : Launch} {G : je_G} {σ : Nat → Option je_E} {sz : Nat} {F : Nat} {v1 : Int32} {v2 : Int64} {v4 : Int32} {r9 : Int32} (h : pX6_shownBy F v1 v2 v4 = some r9) : MetS l G yX6_shownBy cX6_shownBy 8 (some .int) 0 0 0 0 [.ref (G.2.1 + 66), .int v1, .long v2, .int v4] σ sz (some (.int r9)) σ sz := by
  refine je_met "MinistryDesksModel" rfl (by decide +kernel) (Nat.le_of_ble_eq_true rfl) [(0, .ref (G.2.1 + 66)), (1, .int v1), (2, .long v2), (4, .int v4)] rfl (fun p e s m args below meth c C => ?_)
  unfold pX6_shownBy at h
  refine je_iconst C (1) dX6_shownBy_0 1 rfl ic_1 ?_
  refine je_istore C dX6_shownBy_1 3 rfl (Nat.le_of_ble_eq_true rfl) [(5, .int (1 : Int32)), (0, .ref (G.2.1 + 66)), (1, .int v1), (2, .long v2), (4, .int v4)] rfl ?_
  refine je_sub [1, 2, 3, 4, 0] [(0, .ref (G.2.1 + 66)), (1, .int v1), (2, .long v2), (4, .int v4), (5, .int (1 : Int32))] rfl ?_
  exact wX6_shownBy_3 C F v1 v2 v4 (1 : Int32) h
theorem hdX6_areLines : je_hd yX6_areLines 2 := ⟨by decide +kernel, by decide +kernel, by decide +kernel⟩
theorem hdX6_shownBy : je_hd yX6_shownBy 3 := ⟨by decide +kernel, by decide +kernel, by decide +kernel⟩
theorem cwX6_547 : GoodIn lw_all (wsV "MinistryDesksModel" 547 "MinistryDesksModel" yX6_areLines (ws_ yX6_areLines cX6_areLines 5 (some .boolean))) := lw_V q2306 q2308 qs152 q169 q2309
theorem cwX6_551 : GoodIn lw_all (wsV "MinistryDesksModel" 551 "MinistryDesksModel" yX6_shownBy (ws_ yX6_shownBy cX6_shownBy 8 (some .int))) := lw_V q2311 q2313 qs153 q169 q2314
set_option maxHeartbeats 4000000 in
theorem wX6_gives_22 {p : Program} {l : Launch} {e : Env} {s : State} {m : MethodId} {args : Array Value} {below : List Frame} {meth : Method} {c : Code} {G : je_G} {dyn : Nat → Option je_E} {sz : Nat} {F : Nat} {r9 : Int32 × kp_K} (C : Cx p s m args meth c G "MinistryDesksModel" cX6_gives 6 (some .int)) : ∀ (n : Nat) (κ : kp_K) (v1 : Int32) (v2 : Int64) (v4 : Int32) (v5 : Int32), bX6_gives_22 F n κ v1 v2 v4 v5 = some r9 → Js p l e ({ frames := 1, cells := 0, slots := 0, locals := 27 } : Room) s m args below meth c G 6 (MQ below (je_Q G (some (.int r9.1)) (en2 G r9.2 dyn) sz) args s 0 0 (je_A G)) (en2 G κ dyn) sz 0 0 22 [(0, .ref (G.2.1 + 66)), (1, .int v1), (2, .long v2), (4, .int v4), (5, .int v5)] [] := by
  intro n
  induction n with
  | zero =>
    intro κ v1 v2 v4 v5 h
    cases h
  | succ n ih =>
    intro κ v1 v2 v4 v5 h
    rw [bX6_gives_22] at h
    refine je_iload C dX6_gives_22 24 rfl 4 rfl ?_
    refine je_aload_n C dX6_gives_24 25 rfl 0 rfl ?_
    refine gX6_13 C dX6_gives_25 28 rfl ?_
    refine je_iconst C (1) dX6_gives_28 29 rfl ic_1 ?_
    refine jk_iald C kd68 dX6_gives_29 30 rfl h (fun h => ?_)
    refine je_icmp_ge C 60 dX6_gives_30 33 rfl rfl h (fun h => ?_) (fun h => ?_)
    · refine je_iload C dX6_gives_60 62 rfl 3 rfl ?_
      cases h
      exact je_iret C dX6_gives_62
    refine je_aload_n C dX6_gives_33 34 rfl 0 rfl ?_
    refine je_iload_n C dX6_gives_34 35 rfl 1 rfl ?_
    refine je_lload_n C dX6_gives_35 36 rfl 2 rfl ?_
    refine je_iload C dX6_gives_36 38 rfl 4 rfl ?_
    obtain ⟨t38, hg, h⟩ := p_cl_inv h
    refine je_callVi (As := [.int v1, .long v2, .int v5]) (rest := []) C (metX6_shownBy hg) (en2_at kd66) rfl hdX6_shownBy rfl cwX6_551 rfl ⟨Nat.le_of_ble_eq_true rfl, Nat.le_of_ble_eq_true rfl⟩ (Nat.le_of_ble_eq_true rfl) dX6_gives_38 41 rfl ⟨Nat.le_refl _, Nat.le_refl _⟩ ?_
    refine je_iconst C (-1) dX6_gives_41 42 rfl ic_m1 ?_
    refine je_icmp_eq C 54 dX6_gives_42 45 rfl rfl h (fun h => ?_) (fun h => ?_)
    · refine je_iinc C (1) dX6_gives_54 57 rfl 4 rfl ic_1 (Nat.le_of_ble_eq_true rfl) [(5, .int (v5 + (1 : Int32))), (0, .ref (G.2.1 + 66)), (1, .int v1), (2, .long v2), (4, .int v4)] rfl ?_
      refine je_goto C 22 dX6_gives_57 rfl ?_
      refine je_sub [1, 2, 3, 4, 0] [(0, .ref (G.2.1 + 66)), (1, .int v1), (2, .long v2), (4, .int v4), (5, .int (v5 + (1 : Int32)))] rfl ?_
      exact ih κ v1 v2 v4 (v5 + (1 : Int32)) h
    refine je_iload C dX6_gives_45 47 rfl 3 rfl ?_
    refine je_iconst C (1) dX6_gives_47 48 rfl ic_1 ?_
    refine je_iload C dX6_gives_48 50 rfl 4 rfl ?_
    refine je_ishl C dX6_gives_50 51 rfl ?_
    refine je_ior C dX6_gives_51 52 rfl ?_
    refine je_lti h (fun t52 h => ?_)
    refine je_istore C dX6_gives_52 54 rfl (Nat.le_of_ble_eq_true rfl) [(4, .int t52), (0, .ref (G.2.1 + 66)), (1, .int v1), (2, .long v2), (5, .int v5)] rfl ?_
    refine je_iinc C (1) dX6_gives_54 57 rfl 4 rfl ic_1 (Nat.le_of_ble_eq_true rfl) [(5, .int (v5 + (1 : Int32))), (4, .int t52), (0, .ref (G.2.1 + 66)), (1, .int v1), (2, .long v2)] rfl ?_
    refine je_goto C 22 dX6_gives_57 rfl ?_
    refine je_sub [2, 3, 4, 1, 0] [(0, .ref (G.2.1 + 66)), (1, .int v1), (2, .long v2), (4, .int t52), (5, .int (v5 + (1 : Int32)))] rfl ?_
    exact ih κ v1 v2 t52 (v5 + (1 : Int32)) h
set_option maxHeartbeats 4000000 in
theorem metX6_gives {l : Launch} {G : je_G} {dyn : Nat → Option je_E} {sz : Nat} {F : Nat} {κ : kp_K} {v1 : Int32} {v2 : Int64} {r9 : Int32 × kp_K} (h : pX6_gives F κ v1 v2 = some r9) : MetS l G yX6_gives cX6_gives 6 (some .int) 1 27 0 0 [.ref (G.2.1 + 66), .int v1, .long v2] (en2 G κ dyn) sz (some (.int r9.1)) (en2 G r9.2 dyn) sz := by
  refine je_met "MinistryDesksModel" rfl (by decide +kernel) (Nat.le_of_ble_eq_true rfl) [(0, .ref (G.2.1 + 66)), (1, .int v1), (2, .long v2)] rfl (fun p e s m args below meth c C => ?_)
  unfold pX6_gives at h
  refine je_aload_n C dX6_gives_0 1 rfl 0 rfl ?_
  refine je_iconst C (0) dX6_gives_1 2 rfl ic_0 ?_
  refine sX6_166 C dX6_gives_2 5 rfl ?_
  refine jk_lt h (fun k2 h => ?_)
  refine je_aload_n C dX6_gives_5 6 rfl 0 rfl ?_
  refine je_iload_n C dX6_gives_6 7 rfl 1 rfl ?_
  refine je_lload_n C dX6_gives_7 8 rfl 2 rfl ?_
  obtain ⟨t8, hg, h⟩ := p_cl_inv h
  refine je_callVi (As := [.int v1, .long v2]) (rest := []) C (metX6_areLines hg) (en2_at kd66) rfl hdX6_areLines rfl cwX6_547 rfl ⟨Nat.le_of_ble_eq_true rfl, Nat.le_of_ble_eq_true rfl⟩ (Nat.le_of_ble_eq_true rfl) dX6_gives_8 11 rfl ⟨Nat.le_refl _, Nat.le_refl _⟩ ?_
  refine je_if_ne C 16 dX6_gives_11 14 rfl rfl h (fun h => ?_) (fun h => ?_)
  · refine je_iconst C (0) dX6_gives_16 17 rfl ic_0 ?_
    refine je_istore C dX6_gives_17 19 rfl (Nat.le_of_ble_eq_true rfl) [(4, .int (0 : Int32)), (0, .ref (G.2.1 + 66)), (1, .int v1), (2, .long v2)] rfl ?_
    refine je_iconst C (0) dX6_gives_19 20 rfl ic_0 ?_
    refine je_istore C dX6_gives_20 22 rfl (Nat.le_of_ble_eq_true rfl) [(5, .int (0 : Int32)), (4, .int (0 : Int32)), (0, .ref (G.2.1 + 66)), (1, .int v1), (2, .long v2)] rfl ?_
    refine je_sub [2, 3, 4, 1, 0] [(0, .ref (G.2.1 + 66)), (1, .int v1), (2, .long v2), (4, .int (0 : Int32)), (5, .int (0 : Int32))] rfl ?_
    exact wX6_gives_22 C F k2 v1 v2 (0 : Int32) (0 : Int32) h
  refine je_iconst C (-1) dX6_gives_14 15 rfl ic_m1 ?_
  cases h
  exact je_iret C dX6_gives_15
set_option maxHeartbeats 4000000 in
theorem metX6_isFact {l : Launch} {G : je_G} {dyn : Nat → Option je_E} {sz : Nat} {κ : kp_K} {v1 : Int32} {r9 : Int32} (h : pX6_isFact κ v1 = some r9) : MetS l G yX6_isFact cX6_isFact 2 (some .boolean) 0 0 0 0 [.ref (G.2.1 + 66), .int v1] (en2 G κ dyn) sz (some (.int r9)) (en2 G κ dyn) sz := by
  refine je_met "MinistryDesksModel" rfl (by decide +kernel) (Nat.le_of_ble_eq_true rfl) [(0, .ref (G.2.1 + 66)), (1, .int v1)] rfl (fun p e s m args below meth c C => ?_)
  unfold pX6_isFact at h
  refine je_iload_n C dX6_isFact_0 1 rfl 1 rfl ?_
  refine je_if_lt C 18 dX6_isFact_1 4 rfl rfl h (fun h => ?_) (fun h => ?_)
  · refine je_iconst C (0) dX6_isFact_18 19 rfl ic_0 ?_
    cases h
    exact je_zret C dX6_isFact_19 (Or.inl rfl)
  refine je_iload_n C dX6_isFact_4 5 rfl 1 rfl ?_
  refine je_aload_n C dX6_isFact_5 6 rfl 0 rfl ?_
  refine gX6_13 C dX6_isFact_6 9 rfl ?_
  refine je_iconst C (1) dX6_isFact_9 10 rfl ic_1 ?_
  refine jk_iald C kd68 dX6_isFact_10 11 rfl h (fun h => ?_)
  refine je_icmp_ge C 18 dX6_isFact_11 14 rfl rfl h (fun h => ?_) (fun h => ?_)
  · refine je_iconst C (0) dX6_isFact_18 19 rfl ic_0 ?_
    cases h
    exact je_zret C dX6_isFact_19 (Or.inl rfl)
  refine je_iconst C (1) dX6_isFact_14 15 rfl ic_1 ?_
  refine je_goto C 19 dX6_isFact_15 rfl ?_
  cases h
  exact je_zret C dX6_isFact_19 (Or.inr rfl)
theorem hdX6_isFact : je_hd yX6_isFact 1 := ⟨by decide +kernel, by decide +kernel, by decide +kernel⟩
theorem cwX6_555 : GoodIn lw_all (wsV "MinistryDesksModel" 555 "MinistryDesksModel" yX6_isFact (ws_ yX6_isFact cX6_isFact 2 (some .boolean))) := lw_V q2319 q2321 qs154 q169 q2322
set_option maxHeartbeats 4000000 in
theorem metX6_shows {l : Launch} {G : je_G} {dyn : Nat → Option je_E} {sz : Nat} {F : Nat} {κ : kp_K} {v1 : Int32} {v2 : Int64} {v4 : Int32} {r9 : Int32 × kp_K} (h : pX6_shows F κ v1 v2 v4 = some r9) : MetS l G yX6_shows cX6_shows 6 (some .int) 1 27 0 0 [.ref (G.2.1 + 66), .int v1, .long v2, .int v4] (en2 G κ dyn) sz (some (.int r9.1)) (en2 G r9.2 dyn) sz := by
  refine je_met "MinistryDesksModel" rfl (by decide +kernel) (Nat.le_of_ble_eq_true rfl) [(0, .ref (G.2.1 + 66)), (1, .int v1), (2, .long v2), (4, .int v4)] rfl (fun p e s m args below meth c C => ?_)
  unfold pX6_shows at h
  refine je_aload_n C dX6_shows_0 1 rfl 0 rfl ?_
  refine je_iconst C (0) dX6_shows_1 2 rfl ic_0 ?_
  refine sX6_166 C dX6_shows_2 5 rfl ?_
  refine jk_lt h (fun k2 h => ?_)
  refine je_aload_n C dX6_shows_5 6 rfl 0 rfl ?_
  refine je_iload_n C dX6_shows_6 7 rfl 1 rfl ?_
  refine je_lload_n C dX6_shows_7 8 rfl 2 rfl ?_
  obtain ⟨t8, hg, h⟩ := p_cl_inv h
  refine je_callVi (As := [.int v1, .long v2]) (rest := []) C (metX6_areLines hg) (en2_at kd66) rfl hdX6_areLines rfl cwX6_547 rfl ⟨Nat.le_of_ble_eq_true rfl, Nat.le_of_ble_eq_true rfl⟩ (Nat.le_of_ble_eq_true rfl) dX6_shows_8 11 rfl ⟨Nat.le_refl _, Nat.le_refl _⟩ ?_
  refine je_if_eq C 23 dX6_shows_11 14 rfl rfl h (fun h => ?_) (fun h => ?_)
  · refine je_iconst C (-1) dX6_shows_23 24 rfl ic_m1 ?_
    cases h
    exact je_iret C dX6_shows_24
  refine je_aload_n C dX6_shows_14 15 rfl 0 rfl ?_
  refine je_iload C dX6_shows_15 17 rfl 3 rfl ?_
  obtain ⟨t17, hg, h⟩ := p_cl_inv h
  refine je_callVi (As := [.int v4]) (rest := []) C (metX6_isFact hg) (en2_at kd66) rfl hdX6_isFact rfl cwX6_555 rfl ⟨Nat.le_of_ble_eq_true rfl, Nat.le_of_ble_eq_true rfl⟩ (Nat.le_of_ble_eq_true rfl) dX6_shows_17 20 rfl ⟨Nat.le_refl _, Nat.le_refl _⟩ ?_
  refine je_if_ne C 25 dX6_shows_20 23 rfl rfl h (fun h => ?_) (fun h => ?_)
  · refine je_aload_n C dX6_shows_25 26 rfl 0 rfl ?_
    refine je_iload_n C dX6_shows_26 27 rfl 1 rfl ?_
    refine je_lload_n C dX6_shows_27 28 rfl 2 rfl ?_
    refine je_iload C dX6_shows_28 30 rfl 3 rfl ?_
    obtain ⟨t30, hg, h⟩ := p_cl_inv h
    refine je_callVi (As := [.int v1, .long v2, .int v4]) (rest := []) C (metX6_shownBy hg) (en2_at kd66) rfl hdX6_shownBy rfl cwX6_551 rfl ⟨Nat.le_of_ble_eq_true rfl, Nat.le_of_ble_eq_true rfl⟩ (Nat.le_of_ble_eq_true rfl) dX6_shows_30 33 rfl ⟨Nat.le_refl _, Nat.le_refl _⟩ ?_
    refine je_istore C dX6_shows_33 35 rfl (Nat.le_of_ble_eq_true rfl) [(5, .int t30), (0, .ref (G.2.1 + 66)), (1, .int v1), (2, .long v2), (4, .int v4)] rfl ?_
    refine je_iload C dX6_shows_35 37 rfl 0 rfl ?_
    refine je_iconst C (-1) dX6_shows_37 38 rfl ic_m1 ?_
    refine je_icmp_ne C 46 dX6_shows_38 41 rfl rfl h (fun h => ?_) (fun h => ?_)
    · refine je_iload C dX6_shows_46 48 rfl 0 rfl ?_
      cases h
      exact je_iret C dX6_shows_48
    refine je_bipush C (-2) dX6_shows_41 43 rfl bp_m2 ?_
    refine je_goto C 48 dX6_shows_43 rfl ?_
    cases h
    exact je_iret C dX6_shows_48
  refine je_iconst C (-1) dX6_shows_23 24 rfl ic_m1 ?_
  cases h
  exact je_iret C dX6_shows_24
set_option maxHeartbeats 4000000 in
theorem wX6_noonsTo_6 {p : Program} {l : Launch} {e : Env} {s : State} {m : MethodId} {args : Array Value} {below : List Frame} {meth : Method} {c : Code} {G : je_G} {dyn : Nat → Option je_E} {sz : Nat} {F : Nat} {κ : kp_K} {r9 : Int32} (C : Cx p s m args meth c G "MinistryDesksModel" cX6_noonsTo 6 (some .int)) : ∀ (n : Nat) (v2 : Int32) (v3 : Int32) (v4 : Int32) (v5 : Int32), bX6_noonsTo_6 F n κ v2 v3 v4 v5 = some r9 → Js p l e ({ frames := 0, cells := 0, slots := 0, locals := 0 } : Room) s m args below meth c G 6 (MQ below (je_Q G (some (.int r9)) (en2 G κ dyn) sz) args s 0 0 (je_A G)) (en2 G κ dyn) sz 0 0 6 [(0, .ref (G.2.1 + 66)), (2, .int v2), (3, .int v3), (4, .int v4), (5, .int v5)] [] := by
  intro n
  induction n with
  | zero =>
    intro v2 v3 v4 v5 h
    cases h
  | succ n ih =>
    intro v2 v3 v4 v5 h
    rw [bX6_noonsTo_6] at h
    refine je_iload C dX6_noonsTo_6 8 rfl 4 rfl ?_
    refine je_iconst C (4) dX6_noonsTo_8 9 rfl ic_4 ?_
    refine je_icmp_ge C 55 dX6_noonsTo_9 12 rfl rfl h (fun h => ?_) (fun h => ?_)
    · refine je_iconst C (-1) dX6_noonsTo_55 56 rfl ic_m1 ?_
      cases h
      exact je_iret C dX6_noonsTo_56
    refine je_iload C dX6_noonsTo_12 14 rfl 3 rfl ?_
    refine je_iload_n C dX6_noonsTo_14 15 rfl 1 rfl ?_
    refine je_icmp_eq C 24 dX6_noonsTo_15 18 rfl rfl h (fun h => ?_) (fun h => ?_)
    · refine je_iload C dX6_noonsTo_24 26 rfl 4 rfl ?_
      cases h
      exact je_iret C dX6_noonsTo_26
    refine je_iload C dX6_noonsTo_18 20 rfl 3 rfl ?_
    refine je_iload_n C dX6_noonsTo_20 21 rfl 2 rfl ?_
    refine je_icmp_ne C 27 dX6_noonsTo_21 24 rfl rfl h (fun h => ?_) (fun h => ?_)
    · refine je_aload_n C dX6_noonsTo_27 28 rfl 0 rfl ?_
      refine gX6_22 C dX6_noonsTo_28 31 rfl ?_
      refine je_iload C dX6_noonsTo_31 33 rfl 3 rfl ?_
      refine jk_iald C kd71 dX6_noonsTo_33 34 rfl h (fun h => ?_)
      refine je_iconst C (-1) dX6_noonsTo_34 35 rfl ic_m1 ?_
      refine je_icmp_ne C 40 dX6_noonsTo_35 38 rfl rfl h (fun h => ?_) (fun h => ?_)
      · refine je_aload_n C dX6_noonsTo_40 41 rfl 0 rfl ?_
        refine gX6_22 C dX6_noonsTo_41 44 rfl ?_
        refine je_iload C dX6_noonsTo_44 46 rfl 3 rfl ?_
        refine jk_iald C kd71 dX6_noonsTo_46 47 rfl h (fun h => ?_)
        refine je_lti h (fun t47 h => ?_)
        refine je_istore C dX6_noonsTo_47 49 rfl (Nat.le_of_ble_eq_true rfl) [(4, .int t47), (0, .ref (G.2.1 + 66)), (2, .int v2), (3, .int v3), (5, .int v5)] rfl ?_
        refine je_iinc C (1) dX6_noonsTo_49 52 rfl 4 rfl ic_1 (Nat.le_of_ble_eq_true rfl) [(5, .int (v5 + (1 : Int32))), (4, .int t47), (0, .ref (G.2.1 + 66)), (2, .int v2), (3, .int v3)] rfl ?_
        refine je_goto C 6 dX6_noonsTo_52 rfl ?_
        refine je_sub [2, 3, 4, 1, 0] [(0, .ref (G.2.1 + 66)), (2, .int v2), (3, .int v3), (4, .int t47), (5, .int (v5 + (1 : Int32)))] rfl ?_
        exact ih v2 v3 t47 (v5 + (1 : Int32)) h
      refine je_iconst C (-1) dX6_noonsTo_38 39 rfl ic_m1 ?_
      cases h
      exact je_iret C dX6_noonsTo_39
    refine je_iload C dX6_noonsTo_24 26 rfl 4 rfl ?_
    cases h
    exact je_iret C dX6_noonsTo_26
set_option maxHeartbeats 4000000 in
theorem metX6_noonsTo {l : Launch} {G : je_G} {dyn : Nat → Option je_E} {sz : Nat} {F : Nat} {κ : kp_K} {v1 : Int32} {v2 : Int32} {v3 : Int32} {r9 : Int32} (h : pX6_noonsTo F κ v1 v2 v3 = some r9) : MetS l G yX6_noonsTo cX6_noonsTo 6 (some .int) 0 0 0 0 [.ref (G.2.1 + 66), .int v1, .int v2, .int v3] (en2 G κ dyn) sz (some (.int r9)) (en2 G κ dyn) sz := by
  refine je_met "MinistryDesksModel" rfl (by decide +kernel) (Nat.le_of_ble_eq_true rfl) [(0, .ref (G.2.1 + 66)), (1, .int v1), (2, .int v2), (3, .int v3)] rfl (fun p e s m args below meth c C => ?_)
  unfold pX6_noonsTo at h
  refine je_iload_n C dX6_noonsTo_0 1 rfl 1 rfl ?_
  refine je_istore C dX6_noonsTo_1 3 rfl (Nat.le_of_ble_eq_true rfl) [(4, .int v1), (0, .ref (G.2.1 + 66)), (1, .int v1), (2, .int v2), (3, .int v3)] rfl ?_
  refine je_iconst C (0) dX6_noonsTo_3 4 rfl ic_0 ?_
  refine je_istore C dX6_noonsTo_4 6 rfl (Nat.le_of_ble_eq_true rfl) [(5, .int (0 : Int32)), (4, .int v1), (0, .ref (G.2.1 + 66)), (1, .int v1), (2, .int v2), (3, .int v3)] rfl ?_
  refine je_sub [2, 4, 5, 1, 0] [(0, .ref (G.2.1 + 66)), (2, .int v2), (3, .int v3), (4, .int v1), (5, .int (0 : Int32))] rfl ?_
  exact wX6_noonsTo_6 C F v2 v3 v1 (0 : Int32) h
theorem hdX6_noonsTo : je_hd yX6_noonsTo 3 := ⟨by decide +kernel, by decide +kernel, by decide +kernel⟩
theorem cwX6_558 : GoodIn lw_all (wsV "MinistryDesksModel" 558 "MinistryDesksModel" yX6_noonsTo (ws_ yX6_noonsTo cX6_noonsTo 6 (some .int))) := lw_V q2327 q2329 qs155 q169 q2330
set_option maxHeartbeats 4000000 in
theorem metX6_rumour {l : Launch} {G : je_G} {dyn : Nat → Option je_E} {sz : Nat} {F : Nat} {κ : kp_K} {v1 : Int32} {v2 : Int32} {r9 : Int32 × kp_K} (h : pX6_rumour F κ v1 v2 = some r9) : MetS l G yX6_rumour cX6_rumour 4 (some .int) 1 25 0 0 [.ref (G.2.1 + 66), .int v1, .int v2] (en2 G κ dyn) sz (some (.int r9.1)) (en2 G r9.2 dyn) sz := by
  refine je_met "MinistryDesksModel" rfl (by decide +kernel) (Nat.le_of_ble_eq_true rfl) [(0, .ref (G.2.1 + 66)), (1, .int v1), (2, .int v2)] rfl (fun p e s m args below meth c C => ?_)
  unfold pX6_rumour at h
  refine je_aload_n C dX6_rumour_0 1 rfl 0 rfl ?_
  refine je_iconst C (0) dX6_rumour_1 2 rfl ic_0 ?_
  refine sX6_166 C dX6_rumour_2 5 rfl ?_
  refine jk_lt h (fun k2 h => ?_)
  refine je_aload_n C dX6_rumour_5 6 rfl 0 rfl ?_
  refine je_iload_n C dX6_rumour_6 7 rfl 1 rfl ?_
  obtain ⟨t7, hg, h⟩ := p_cl_inv h
  refine je_callVi (As := [.int v1]) (rest := []) C (metX6_isDesk hg) (en2_at kd66) rfl hdX6_isDesk rfl cwX6_452 rfl ⟨Nat.le_of_ble_eq_true rfl, Nat.le_of_ble_eq_true rfl⟩ (Nat.le_of_ble_eq_true rfl) dX6_rumour_7 10 rfl ⟨Nat.le_refl _, Nat.le_refl _⟩ ?_
  refine je_if_eq C 21 dX6_rumour_10 13 rfl rfl h (fun h => ?_) (fun h => ?_)
  · refine je_iconst C (-1) dX6_rumour_21 22 rfl ic_m1 ?_
    cases h
    exact je_iret C dX6_rumour_22
  refine je_aload_n C dX6_rumour_13 14 rfl 0 rfl ?_
  refine je_iload_n C dX6_rumour_14 15 rfl 2 rfl ?_
  obtain ⟨t15, hg, h⟩ := p_cl_inv h
  refine je_callVi (As := [.int v2]) (rest := []) C (metX6_isDesk hg) (en2_at kd66) rfl hdX6_isDesk rfl cwX6_452 rfl ⟨Nat.le_of_ble_eq_true rfl, Nat.le_of_ble_eq_true rfl⟩ (Nat.le_of_ble_eq_true rfl) dX6_rumour_15 18 rfl ⟨Nat.le_refl _, Nat.le_refl _⟩ ?_
  refine je_if_ne C 23 dX6_rumour_18 21 rfl rfl h (fun h => ?_) (fun h => ?_)
  · refine je_aload_n C dX6_rumour_23 24 rfl 0 rfl ?_
    refine je_iload_n C dX6_rumour_24 25 rfl 2 rfl ?_
    refine je_iload_n C dX6_rumour_25 26 rfl 1 rfl ?_
    refine je_iload_n C dX6_rumour_26 27 rfl 1 rfl ?_
    obtain ⟨t27, hg, h⟩ := p_cl_inv h
    refine je_callVi (As := [.int v2, .int v1, .int v1]) (rest := []) C (metX6_noonsTo hg) (en2_at kd66) rfl hdX6_noonsTo rfl cwX6_558 rfl ⟨Nat.le_of_ble_eq_true rfl, Nat.le_of_ble_eq_true rfl⟩ (Nat.le_of_ble_eq_true rfl) dX6_rumour_27 30 rfl ⟨Nat.le_refl _, Nat.le_refl _⟩ ?_
    refine je_istore_n C dX6_rumour_30 31 rfl (Nat.le_of_ble_eq_true rfl) [(3, .int t27), (0, .ref (G.2.1 + 66)), (1, .int v1), (2, .int v2)] rfl ?_
    refine je_iload_n C dX6_rumour_31 32 rfl 0 rfl ?_
    refine je_iconst C (-1) dX6_rumour_32 33 rfl ic_m1 ?_
    refine je_icmp_ne C 41 dX6_rumour_33 36 rfl rfl h (fun h => ?_) (fun h => ?_)
    · refine je_iload_n C dX6_rumour_41 42 rfl 0 rfl ?_
      cases h
      exact je_iret C dX6_rumour_42
    refine je_bipush C (-2) dX6_rumour_36 38 rfl bp_m2 ?_
    refine je_goto C 42 dX6_rumour_38 rfl ?_
    cases h
    exact je_iret C dX6_rumour_42
  refine je_iconst C (-1) dX6_rumour_21 22 rfl ic_m1 ?_
  cases h
  exact je_iret C dX6_rumour_22
set_option maxHeartbeats 4000000 in
theorem wX6_endsWith_23 {p : Program} {l : Launch} {e : Env} {s : State} {m : MethodId} {args : Array Value} {below : List Frame} {meth : Method} {c : Code} {G : je_G} {dyn : Nat → Option je_E} {sz : Nat} {F : Nat} {κ : kp_K} {r9 : Int32} (C : Cx p s m args meth c G "MinistryDesksModel" cX6_endsWith 7 (some .int)) : ∀ (n : Nat) (v4 : Int32) (v5 : Int32) (v6 : Int32), bX6_endsWith_23 F n κ v4 v5 v6 = some r9 → Js p l e ({ frames := 1, cells := 0, slots := 0, locals := 25 } : Room) s m args below meth c G 7 (MQ below (je_Q G (some (.int r9)) (en2 G κ dyn) sz) args s 0 0 (je_A G)) (en2 G κ dyn) sz 0 0 23 [(0, .ref (G.2.1 + 66)), (4, .int v4), (5, .int v5), (6, .int v6)] [] := by
  intro n
  induction n with
  | zero =>
    intro v4 v5 v6 h
    cases h
  | succ n ih =>
    intro v4 v5 v6 h
    rw [bX6_endsWith_23] at h
    refine je_iload C dX6_endsWith_23 25 rfl 3 rfl ?_
    refine je_iload C dX6_endsWith_25 27 rfl 1 rfl ?_
    refine je_icmp_ge C 45 dX6_endsWith_27 30 rfl rfl h (fun h => ?_) (fun h => ?_)
    · refine je_iload C dX6_endsWith_45 47 rfl 2 rfl ?_
      cases h
      exact je_iret C dX6_endsWith_47
    refine je_aload_n C dX6_endsWith_30 31 rfl 0 rfl ?_
    refine gX6_22 C dX6_endsWith_31 34 rfl ?_
    refine je_iload C dX6_endsWith_34 36 rfl 2 rfl ?_
    refine jk_iald C kd71 dX6_endsWith_36 37 rfl h (fun h => ?_)
    refine je_lti h (fun t37 h => ?_)
    refine je_istore C dX6_endsWith_37 39 rfl (Nat.le_of_ble_eq_true rfl) [(5, .int t37), (0, .ref (G.2.1 + 66)), (4, .int v4), (6, .int v6)] rfl ?_
    refine je_iinc C (1) dX6_endsWith_39 42 rfl 3 rfl ic_1 (Nat.le_of_ble_eq_true rfl) [(6, .int (v6 + (1 : Int32))), (5, .int t37), (0, .ref (G.2.1 + 66)), (4, .int v4)] rfl ?_
    refine je_goto C 23 dX6_endsWith_42 rfl ?_
    refine je_sub [2, 3, 1, 0] [(0, .ref (G.2.1 + 66)), (4, .int v4), (5, .int t37), (6, .int (v6 + (1 : Int32)))] rfl ?_
    exact ih v4 t37 (v6 + (1 : Int32)) h
set_option maxHeartbeats 4000000 in
theorem metX6_endsWith {l : Launch} {G : je_G} {dyn : Nat → Option je_E} {sz : Nat} {F : Nat} {κ : kp_K} {v1 : Int32} {v2 : Int32} {v3 : Int32} {r9 : Int32} (h : pX6_endsWith F κ v1 v2 v3 = some r9) : MetS l G yX6_endsWith cX6_endsWith 7 (some .int) 1 25 0 0 [.ref (G.2.1 + 66), .int v1, .int v2, .int v3] (en2 G κ dyn) sz (some (.int r9)) (en2 G κ dyn) sz := by
  refine je_met "MinistryDesksModel" rfl (by decide +kernel) (Nat.le_of_ble_eq_true rfl) [(0, .ref (G.2.1 + 66)), (1, .int v1), (2, .int v2), (3, .int v3)] rfl (fun p e s m args below meth c C => ?_)
  unfold pX6_endsWith at h
  refine je_aload_n C dX6_endsWith_0 1 rfl 0 rfl ?_
  refine je_iload_n C dX6_endsWith_1 2 rfl 1 rfl ?_
  refine je_iload_n C dX6_endsWith_2 3 rfl 2 rfl ?_
  refine je_iload_n C dX6_endsWith_3 4 rfl 3 rfl ?_
  obtain ⟨t4, hg, h⟩ := p_cl_inv h
  refine je_callVi (As := [.int v1, .int v2, .int v3]) (rest := []) C (metX6_noonsTo hg) (en2_at kd66) rfl hdX6_noonsTo rfl cwX6_558 rfl ⟨Nat.le_of_ble_eq_true rfl, Nat.le_of_ble_eq_true rfl⟩ (Nat.le_of_ble_eq_true rfl) dX6_endsWith_4 7 rfl ⟨Nat.le_refl _, Nat.le_refl _⟩ ?_
  refine je_istore C dX6_endsWith_7 9 rfl (Nat.le_of_ble_eq_true rfl) [(4, .int t4), (0, .ref (G.2.1 + 66)), (1, .int v1), (2, .int v2), (3, .int v3)] rfl ?_
  refine je_iload C dX6_endsWith_9 11 rfl 0 rfl ?_
  refine je_iconst C (-1) dX6_endsWith_11 12 rfl ic_m1 ?_
  refine je_icmp_ne C 17 dX6_endsWith_12 15 rfl rfl h (fun h => ?_) (fun h => ?_)
  · refine je_iload_n C dX6_endsWith_17 18 rfl 2 rfl ?_
    refine je_istore C dX6_endsWith_18 20 rfl (Nat.le_of_ble_eq_true rfl) [(5, .int v1), (4, .int t4), (0, .ref (G.2.1 + 66)), (1, .int v1), (2, .int v2), (3, .int v3)] rfl ?_
    refine je_iconst C (0) dX6_endsWith_20 21 rfl ic_0 ?_
    refine je_istore C dX6_endsWith_21 23 rfl (Nat.le_of_ble_eq_true rfl) [(6, .int (0 : Int32)), (5, .int v1), (4, .int t4), (0, .ref (G.2.1 + 66)), (1, .int v1), (2, .int v2), (3, .int v3)] rfl ?_
    refine je_sub [3, 2, 1, 0] [(0, .ref (G.2.1 + 66)), (4, .int t4), (5, .int v1), (6, .int (0 : Int32))] rfl ?_
    exact wX6_endsWith_23 C F t4 v1 (0 : Int32) h
  refine je_iconst C (-1) dX6_endsWith_15 16 rfl ic_m1 ?_
  cases h
  exact je_iret C dX6_endsWith_16
theorem hdX6_endsWith : je_hd yX6_endsWith 3 := ⟨by decide +kernel, by decide +kernel, by decide +kernel⟩
theorem cwX6_561 : GoodIn lw_all (wsV "MinistryDesksModel" 561 "MinistryDesksModel" yX6_endsWith (ws_ yX6_endsWith cX6_endsWith 7 (some .int))) := lw_V q2335 q2337 qs156 q169 q2338
set_option maxHeartbeats 4000000 in
theorem wX6_differ_40 {p : Program} {l : Launch} {e : Env} {s : State} {m : MethodId} {args : Array Value} {below : List Frame} {meth : Method} {c : Code} {G : je_G} {dyn : Nat → Option je_E} {sz : Nat} {F : Nat} {r9 : Int32 × kp_K} (C : Cx p s m args meth c G "MinistryDesksModel" cX6_differ 7 (some .int)) : ∀ (n : Nat) (κ : kp_K) (v1 : Int32) (v2 : Int32) (v3 : Int32) (v4 : Int32), bX6_differ_40 F n κ v1 v2 v3 v4 = some r9 → Js p l e ({ frames := 2, cells := 0, slots := 0, locals := 51 } : Room) s m args below meth c G 7 (MQ below (je_Q G (some (.int r9.1)) (en2 G r9.2 dyn) sz) args s 0 0 (je_A G)) (en2 G κ dyn) sz 0 0 40 [(0, .ref (G.2.1 + 66)), (1, .int v1), (2, .int v2), (3, .int v3), (4, .int v4)] [] := by
  intro n
  induction n with
  | zero =>
    intro κ v1 v2 v3 v4 h
    cases h
  | succ n ih =>
    intro κ v1 v2 v3 v4 h
    rw [bX6_differ_40] at h
    refine je_iload C dX6_differ_40 42 rfl 4 rfl ?_
    refine je_aload_n C dX6_differ_42 43 rfl 0 rfl ?_
    refine gX6_13 C dX6_differ_43 46 rfl ?_
    refine je_iconst C (0) dX6_differ_46 47 rfl ic_0 ?_
    refine jk_iald C kd68 dX6_differ_47 48 rfl h (fun h => ?_)
    refine je_icmp_ge C 132 dX6_differ_48 51 rfl rfl h (fun h => ?_) (fun h => ?_)
    · refine je_bipush C (-2) dX6_differ_132 134 rfl bp_m2 ?_
      cases h
      exact je_iret C dX6_differ_134
    refine je_aload_n C dX6_differ_51 52 rfl 0 rfl ?_
    refine gX6_22 C dX6_differ_52 55 rfl ?_
    refine je_iload C dX6_differ_55 57 rfl 4 rfl ?_
    refine jk_iald C kd71 dX6_differ_57 58 rfl h (fun h => ?_)
    refine je_iconst C (-1) dX6_differ_58 59 rfl ic_m1 ?_
    refine je_icmp_ne C 65 dX6_differ_59 62 rfl rfl h (fun h => ?_) (fun h => ?_)
    · refine je_aload_n C dX6_differ_65 66 rfl 0 rfl ?_
      refine je_iload C dX6_differ_66 68 rfl 4 rfl ?_
      refine je_iload_n C dX6_differ_68 69 rfl 1 rfl ?_
      refine je_iload_n C dX6_differ_69 70 rfl 2 rfl ?_
      obtain ⟨t70, hg, h⟩ := p_cl_inv h
      refine je_callVi (As := [.int v4, .int v1, .int v2]) (rest := []) C (metX6_endsWith hg) (en2_at kd66) rfl hdX6_endsWith rfl cwX6_561 rfl ⟨Nat.le_of_ble_eq_true rfl, Nat.le_of_ble_eq_true rfl⟩ (Nat.le_of_ble_eq_true rfl) dX6_differ_70 73 rfl ⟨Nat.le_refl _, Nat.le_refl _⟩ ?_
      refine je_istore C dX6_differ_73 75 rfl (Nat.le_of_ble_eq_true rfl) [(5, .int t70), (0, .ref (G.2.1 + 66)), (1, .int v1), (2, .int v2), (3, .int v3), (4, .int v4)] rfl ?_
      refine je_aload_n C dX6_differ_75 76 rfl 1 rfl ?_
      refine je_aload_n C dX6_differ_76 77 rfl 1 rfl ?_
      refine gX6_22 C dX6_differ_77 80 rfl ?_
      refine je_iload C dX6_differ_80 82 rfl 5 rfl ?_
      refine jk_iald C kd71 dX6_differ_82 83 rfl h (fun h => ?_)
      refine je_iload_n C dX6_differ_83 84 rfl 2 rfl ?_
      refine je_iload_n C dX6_differ_84 85 rfl 3 rfl ?_
      obtain ⟨t85, hg, h⟩ := p_cl_inv h
      refine je_callVi (As := [.int (κ.1 71 v4.toNatClampNeg), .int v1, .int v2]) (rest := []) C (metX6_endsWith hg) (en2_at kd66) rfl hdX6_endsWith rfl cwX6_561 rfl ⟨Nat.le_of_ble_eq_true rfl, Nat.le_of_ble_eq_true rfl⟩ (Nat.le_of_ble_eq_true rfl) dX6_differ_85 88 rfl ⟨Nat.le_refl _, Nat.le_refl _⟩ ?_
      refine je_istore C dX6_differ_88 90 rfl (Nat.le_of_ble_eq_true rfl) [(6, .int t85), (5, .int t70), (0, .ref (G.2.1 + 66)), (1, .int v1), (2, .int v2), (3, .int v3), (4, .int v4)] rfl ?_
      refine je_iload C dX6_differ_90 92 rfl 1 rfl ?_
      refine je_iconst C (-1) dX6_differ_92 93 rfl ic_m1 ?_
      refine je_icmp_eq C 126 dX6_differ_93 96 rfl rfl h (fun h => ?_) (fun h => ?_)
      · refine je_iinc C (1) dX6_differ_126 129 rfl 6 rfl ic_1 (Nat.le_of_ble_eq_true rfl) [(4, .int (v4 + (1 : Int32))), (6, .int t85), (5, .int t70), (0, .ref (G.2.1 + 66)), (1, .int v1), (2, .int v2), (3, .int v3)] rfl ?_
        refine je_goto C 40 dX6_differ_129 rfl ?_
        refine je_sub [3, 4, 5, 6, 0] [(0, .ref (G.2.1 + 66)), (1, .int v1), (2, .int v2), (3, .int v3), (4, .int (v4 + (1 : Int32)))] rfl ?_
        exact ih κ v1 v2 v3 (v4 + (1 : Int32)) h
      refine je_iload C dX6_differ_96 98 rfl 0 rfl ?_
      refine je_iconst C (-1) dX6_differ_98 99 rfl ic_m1 ?_
      refine je_icmp_eq C 126 dX6_differ_99 102 rfl rfl h (fun h => ?_) (fun h => ?_)
      · refine je_iinc C (1) dX6_differ_126 129 rfl 6 rfl ic_1 (Nat.le_of_ble_eq_true rfl) [(4, .int (v4 + (1 : Int32))), (6, .int t85), (5, .int t70), (0, .ref (G.2.1 + 66)), (1, .int v1), (2, .int v2), (3, .int v3)] rfl ?_
        refine je_goto C 40 dX6_differ_129 rfl ?_
        refine je_sub [3, 4, 5, 6, 0] [(0, .ref (G.2.1 + 66)), (1, .int v1), (2, .int v2), (3, .int v3), (4, .int (v4 + (1 : Int32)))] rfl ?_
        exact ih κ v1 v2 v3 (v4 + (1 : Int32)) h
      refine je_iload C dX6_differ_102 104 rfl 1 rfl ?_
      refine je_iload C dX6_differ_104 106 rfl 0 rfl ?_
      refine je_icmp_eq C 126 dX6_differ_106 109 rfl rfl h (fun h => ?_) (fun h => ?_)
      · refine je_iinc C (1) dX6_differ_126 129 rfl 6 rfl ic_1 (Nat.le_of_ble_eq_true rfl) [(4, .int (v4 + (1 : Int32))), (6, .int t85), (5, .int t70), (0, .ref (G.2.1 + 66)), (1, .int v1), (2, .int v2), (3, .int v3)] rfl ?_
        refine je_goto C 40 dX6_differ_129 rfl ?_
        refine je_sub [3, 4, 5, 6, 0] [(0, .ref (G.2.1 + 66)), (1, .int v1), (2, .int v2), (3, .int v3), (4, .int (v4 + (1 : Int32)))] rfl ?_
        exact ih κ v1 v2 v3 (v4 + (1 : Int32)) h
      refine je_iload_n C dX6_differ_109 110 rfl 5 rfl ?_
      refine je_if_ne C 118 dX6_differ_110 113 rfl rfl h (fun h => ?_) (fun h => ?_)
      · refine je_aload_n C dX6_differ_118 119 rfl 2 rfl ?_
        refine gX6_22 C dX6_differ_119 122 rfl ?_
        refine je_iload C dX6_differ_122 124 rfl 6 rfl ?_
        refine jk_iald C kd71 dX6_differ_124 125 rfl h (fun h => ?_)
        cases h
        exact je_iret C dX6_differ_125
      refine je_iload C dX6_differ_113 115 rfl 6 rfl ?_
      refine je_goto C 125 dX6_differ_115 rfl ?_
      cases h
      exact je_iret C dX6_differ_125
    refine je_goto C 126 dX6_differ_62 rfl ?_
    refine je_iinc C (1) dX6_differ_126 129 rfl 4 rfl ic_1 (Nat.le_of_ble_eq_true rfl) [(4, .int (v4 + (1 : Int32))), (0, .ref (G.2.1 + 66)), (1, .int v1), (2, .int v2), (3, .int v3)] rfl ?_
    refine je_goto C 40 dX6_differ_129 rfl ?_
    refine je_sub [1, 2, 3, 4, 0] [(0, .ref (G.2.1 + 66)), (1, .int v1), (2, .int v2), (3, .int v3), (4, .int (v4 + (1 : Int32)))] rfl ?_
    exact ih κ v1 v2 v3 (v4 + (1 : Int32)) h
set_option maxHeartbeats 4000000 in
theorem metX6_differ {l : Launch} {G : je_G} {dyn : Nat → Option je_E} {sz : Nat} {F : Nat} {κ : kp_K} {v1 : Int32} {v2 : Int32} {v3 : Int32} {r9 : Int32 × kp_K} (h : pX6_differ F κ v1 v2 v3 = some r9) : MetS l G yX6_differ cX6_differ 7 (some .int) 2 51 0 0 [.ref (G.2.1 + 66), .int v1, .int v2, .int v3] (en2 G κ dyn) sz (some (.int r9.1)) (en2 G r9.2 dyn) sz := by
  refine je_met "MinistryDesksModel" rfl (by decide +kernel) (Nat.le_of_ble_eq_true rfl) [(0, .ref (G.2.1 + 66)), (1, .int v1), (2, .int v2), (3, .int v3)] rfl (fun p e s m args below meth c C => ?_)
  unfold pX6_differ at h
  refine je_aload_n C dX6_differ_0 1 rfl 0 rfl ?_
  refine je_iconst C (0) dX6_differ_1 2 rfl ic_0 ?_
  refine sX6_166 C dX6_differ_2 5 rfl ?_
  refine jk_lt h (fun k2 h => ?_)
  refine je_aload_n C dX6_differ_5 6 rfl 0 rfl ?_
  refine je_iload_n C dX6_differ_6 7 rfl 1 rfl ?_
  obtain ⟨t7, hg, h⟩ := p_cl_inv h
  refine je_callVi (As := [.int v1]) (rest := []) C (metX6_isDesk hg) (en2_at kd66) rfl hdX6_isDesk rfl cwX6_452 rfl ⟨Nat.le_of_ble_eq_true rfl, Nat.le_of_ble_eq_true rfl⟩ (Nat.le_of_ble_eq_true rfl) dX6_differ_7 10 rfl ⟨Nat.le_refl _, Nat.le_refl _⟩ ?_
  refine je_if_eq C 35 dX6_differ_10 13 rfl rfl h (fun h => ?_) (fun h => ?_)
  · refine je_iconst C (-1) dX6_differ_35 36 rfl ic_m1 ?_
    cases h
    exact je_iret C dX6_differ_36
  refine je_aload_n C dX6_differ_13 14 rfl 0 rfl ?_
  refine je_iload_n C dX6_differ_14 15 rfl 2 rfl ?_
  obtain ⟨t15, hg, h⟩ := p_cl_inv h
  refine je_callVi (As := [.int v2]) (rest := []) C (metX6_isDesk hg) (en2_at kd66) rfl hdX6_isDesk rfl cwX6_452 rfl ⟨Nat.le_of_ble_eq_true rfl, Nat.le_of_ble_eq_true rfl⟩ (Nat.le_of_ble_eq_true rfl) dX6_differ_15 18 rfl ⟨Nat.le_refl _, Nat.le_refl _⟩ ?_
  refine je_if_eq C 35 dX6_differ_18 21 rfl rfl h (fun h => ?_) (fun h => ?_)
  · refine je_iconst C (-1) dX6_differ_35 36 rfl ic_m1 ?_
    cases h
    exact je_iret C dX6_differ_36
  refine je_iload_n C dX6_differ_21 22 rfl 1 rfl ?_
  refine je_iload_n C dX6_differ_22 23 rfl 2 rfl ?_
  refine je_icmp_eq C 35 dX6_differ_23 26 rfl rfl h (fun h => ?_) (fun h => ?_)
  · refine je_iconst C (-1) dX6_differ_35 36 rfl ic_m1 ?_
    cases h
    exact je_iret C dX6_differ_36
  refine je_iload_n C dX6_differ_26 27 rfl 3 rfl ?_
  refine je_if_lt C 35 dX6_differ_27 30 rfl rfl h (fun h => ?_) (fun h => ?_)
  · refine je_iconst C (-1) dX6_differ_35 36 rfl ic_m1 ?_
    cases h
    exact je_iret C dX6_differ_36
  refine je_iload_n C dX6_differ_30 31 rfl 3 rfl ?_
  refine je_iconst C (1) dX6_differ_31 32 rfl ic_1 ?_
  refine je_icmp_le C 37 dX6_differ_32 35 rfl rfl h (fun h => ?_) (fun h => ?_)
  · refine je_iconst C (0) dX6_differ_37 38 rfl ic_0 ?_
    refine je_istore C dX6_differ_38 40 rfl (Nat.le_of_ble_eq_true rfl) [(4, .int (0 : Int32)), (0, .ref (G.2.1 + 66)), (1, .int v1), (2, .int v2), (3, .int v3)] rfl ?_
    refine je_sub [1, 2, 3, 4, 0] [(0, .ref (G.2.1 + 66)), (1, .int v1), (2, .int v2), (3, .int v3), (4, .int (0 : Int32))] rfl ?_
    exact wX6_differ_40 C F k2 v1 v2 v3 (0 : Int32) h
  refine je_iconst C (-1) dX6_differ_35 36 rfl ic_m1 ?_
  cases h
  exact je_iret C dX6_differ_36
set_option maxHeartbeats 4000000 in
theorem wX6_ignorant_87 {p : Program} {l : Launch} {e : Env} {s : State} {m : MethodId} {args : Array Value} {below : List Frame} {meth : Method} {c : Code} {G : je_G} {dyn : Nat → Option je_E} {sz : Nat} {F : Nat} {r9 : Int32 × kp_K} {k19 : kp_K → Int32 → Int32 → Int32 → Option (Int32 × kp_K)} (C : Cx p s m args meth c G "MinistryDesksModel" cX6_ignorant 7 (some .int)) (hk19 : ∀ (kq : kp_K) (q1 : Int32) (q2 : Int32) (q3 : Int32), k19 kq q1 q2 q3 = some r9 → Js p l e ({ frames := 2, cells := 0, slots := 0, locals := 46 } : Room) s m args below meth c G 7 (MQ below (je_Q G (some (.int r9.1)) (en2 G r9.2 dyn) sz) args s 0 0 (je_A G)) (en2 G kq dyn) sz 0 0 19 [(0, .ref (G.2.1 + 66)), (1, .int q1), (2, .int q2), (3, .int q3)] []) (κ : kp_K) (v1 : Int32) (v2 : Int32) (v3 : Int32) (v4 : Int32) (h : bX6_ignorant_87 F k19 κ v1 v2 v3 v4 = some r9) : Js p l e ({ frames := 2, cells := 0, slots := 0, locals := 46 } : Room) s m args below meth c G 7 (MQ below (je_Q G (some (.int r9.1)) (en2 G r9.2 dyn) sz) args s 0 0 (je_A G)) (en2 G κ dyn) sz 0 0 87 [(0, .ref (G.2.1 + 66)), (1, .int v1), (2, .int v2), (3, .int v3), (4, .int v4)] [] := by
  unfold bX6_ignorant_87 at h
  refine je_iload_n C dX6_ignorant_87 88 rfl 2 rfl ?_
  refine je_iload C dX6_ignorant_88 90 rfl 4 rfl ?_
  refine je_if_eq C 97 dX6_ignorant_90 93 rfl rfl h (fun h => ?_) (fun h => ?_)
  · refine je_iconst C (1) dX6_ignorant_97 98 rfl ic_1 ?_
    refine je_iload_n C dX6_ignorant_98 99 rfl 3 rfl ?_
    refine je_ishl C dX6_ignorant_99 100 rfl ?_
    refine je_ior C dX6_ignorant_100 101 rfl ?_
    refine je_lti h (fun t101 h => ?_)
    refine je_istore_n C dX6_ignorant_101 102 rfl (Nat.le_of_ble_eq_true rfl) [(2, .int t101), (0, .ref (G.2.1 + 66)), (1, .int v1), (3, .int v3), (4, .int v4)] rfl ?_
    refine je_iinc C (1) dX6_ignorant_102 105 rfl 3 rfl ic_1 (Nat.le_of_ble_eq_true rfl) [(3, .int (v3 + (1 : Int32))), (2, .int t101), (0, .ref (G.2.1 + 66)), (1, .int v1), (4, .int v4)] rfl ?_
    refine je_goto C 19 dX6_ignorant_105 rfl ?_
    refine je_sub [2, 3, 1, 0] [(0, .ref (G.2.1 + 66)), (1, .int v1), (2, .int t101), (3, .int (v3 + (1 : Int32)))] rfl ?_
    exact hk19 κ v1 t101 (v3 + (1 : Int32)) h
  refine je_iconst C (0) dX6_ignorant_93 94 rfl ic_0 ?_
  refine je_goto C 100 dX6_ignorant_94 rfl ?_
  refine je_ior C dX6_ignorant_100 101 rfl ?_
  refine je_lti h (fun t101_2 h => ?_)
  refine je_istore_n C dX6_ignorant_101 102 rfl (Nat.le_of_ble_eq_true rfl) [(2, .int t101_2), (0, .ref (G.2.1 + 66)), (1, .int v1), (3, .int v3), (4, .int v4)] rfl ?_
  refine je_iinc C (1) dX6_ignorant_102 105 rfl 3 rfl ic_1 (Nat.le_of_ble_eq_true rfl) [(3, .int (v3 + (1 : Int32))), (2, .int t101_2), (0, .ref (G.2.1 + 66)), (1, .int v1), (4, .int v4)] rfl ?_
  refine je_goto C 19 dX6_ignorant_105 rfl ?_
  refine je_sub [2, 3, 1, 0] [(0, .ref (G.2.1 + 66)), (1, .int v1), (2, .int t101_2), (3, .int (v3 + (1 : Int32)))] rfl ?_
  exact hk19 κ v1 t101_2 (v3 + (1 : Int32)) h
set_option maxHeartbeats 4000000 in
theorem wX6_ignorant_69 {p : Program} {l : Launch} {e : Env} {s : State} {m : MethodId} {args : Array Value} {below : List Frame} {meth : Method} {c : Code} {G : je_G} {dyn : Nat → Option je_E} {sz : Nat} {F : Nat} {r9 : Int32 × kp_K} {k19 : kp_K → Int32 → Int32 → Int32 → Option (Int32 × kp_K)} {k38 : kp_K → Int32 → Int32 → Int32 → Int32 → Int32 → Int32 → Option (Int32 × kp_K)} (C : Cx p s m args meth c G "MinistryDesksModel" cX6_ignorant 7 (some .int)) (hk19 : ∀ (kq : kp_K) (q1 : Int32) (q2 : Int32) (q3 : Int32), k19 kq q1 q2 q3 = some r9 → Js p l e ({ frames := 2, cells := 0, slots := 0, locals := 46 } : Room) s m args below meth c G 7 (MQ below (je_Q G (some (.int r9.1)) (en2 G r9.2 dyn) sz) args s 0 0 (je_A G)) (en2 G kq dyn) sz 0 0 19 [(0, .ref (G.2.1 + 66)), (1, .int q1), (2, .int q2), (3, .int q3)] []) (hk38 : ∀ (kq : kp_K) (q1 : Int32) (q2 : Int32) (q3 : Int32) (q4 : Int32) (q5 : Int32) (q6 : Int32), k38 kq q1 q2 q3 q4 q5 q6 = some r9 → Js p l e ({ frames := 2, cells := 0, slots := 0, locals := 46 } : Room) s m args below meth c G 7 (MQ below (je_Q G (some (.int r9.1)) (en2 G r9.2 dyn) sz) args s 0 0 (je_A G)) (en2 G kq dyn) sz 0 0 38 [(0, .ref (G.2.1 + 66)), (1, .int q1), (2, .int q2), (3, .int q3), (4, .int q4), (5, .int q5), (6, .int q6)] []) (κ : kp_K) (v1 : Int32) (v2 : Int32) (v3 : Int32) (v5 : Int32) (v6 : Int32) (s0 : Int32) (s1 : Int32) (h : bX6_ignorant_69 F k19 k38 κ v1 v2 v3 v5 v6 s0 s1 = some r9) : Js p l e ({ frames := 2, cells := 0, slots := 0, locals := 46 } : Room) s m args below meth c G 7 (MQ below (je_Q G (some (.int r9.1)) (en2 G r9.2 dyn) sz) args s 0 0 (je_A G)) (en2 G κ dyn) sz 0 0 69 [(0, .ref (G.2.1 + 66)), (1, .int v1), (2, .int v2), (3, .int v3), (5, .int v5), (6, .int v6)] [.int s0, .int s1] := by
  unfold bX6_ignorant_69 at h
  refine je_ior C dX6_ignorant_69 70 rfl ?_
  refine je_lti h (fun t70 h => ?_)
  refine je_istore C dX6_ignorant_70 72 rfl (Nat.le_of_ble_eq_true rfl) [(4, .int t70), (0, .ref (G.2.1 + 66)), (1, .int v1), (2, .int v2), (3, .int v3), (5, .int v5), (6, .int v6)] rfl ?_
  refine je_aload_n C dX6_ignorant_72 73 rfl 1 rfl ?_
  refine gX6_22 C dX6_ignorant_73 76 rfl ?_
  refine je_iload C dX6_ignorant_76 78 rfl 5 rfl ?_
  refine jk_iald C kd71 dX6_ignorant_78 79 rfl h (fun h => ?_)
  refine je_lti h (fun t79 h => ?_)
  refine je_istore C dX6_ignorant_79 81 rfl (Nat.le_of_ble_eq_true rfl) [(5, .int t79), (4, .int t70), (0, .ref (G.2.1 + 66)), (1, .int v1), (2, .int v2), (3, .int v3), (6, .int v6)] rfl ?_
  refine je_iinc C (1) dX6_ignorant_81 84 rfl 6 rfl ic_1 (Nat.le_of_ble_eq_true rfl) [(6, .int (v6 + (1 : Int32))), (5, .int t79), (4, .int t70), (0, .ref (G.2.1 + 66)), (1, .int v1), (2, .int v2), (3, .int v3)] rfl ?_
  refine je_goto C 38 dX6_ignorant_84 rfl ?_
  refine je_sub [3, 4, 5, 6, 2, 1, 0] [(0, .ref (G.2.1 + 66)), (1, .int v1), (2, .int v2), (3, .int v3), (4, .int t70), (5, .int t79), (6, .int (v6 + (1 : Int32)))] rfl ?_
  exact hk38 κ v1 v2 v3 t70 t79 (v6 + (1 : Int32)) h
set_option maxHeartbeats 4000000 in
theorem wX6_ignorant_38 {p : Program} {l : Launch} {e : Env} {s : State} {m : MethodId} {args : Array Value} {below : List Frame} {meth : Method} {c : Code} {G : je_G} {dyn : Nat → Option je_E} {sz : Nat} {F : Nat} {r9 : Int32 × kp_K} {k19 : kp_K → Int32 → Int32 → Int32 → Option (Int32 × kp_K)} (C : Cx p s m args meth c G "MinistryDesksModel" cX6_ignorant 7 (some .int)) (hk19 : ∀ (kq : kp_K) (q1 : Int32) (q2 : Int32) (q3 : Int32), k19 kq q1 q2 q3 = some r9 → Js p l e ({ frames := 2, cells := 0, slots := 0, locals := 46 } : Room) s m args below meth c G 7 (MQ below (je_Q G (some (.int r9.1)) (en2 G r9.2 dyn) sz) args s 0 0 (je_A G)) (en2 G kq dyn) sz 0 0 19 [(0, .ref (G.2.1 + 66)), (1, .int q1), (2, .int q2), (3, .int q3)] []) : ∀ (n : Nat) (κ : kp_K) (v1 : Int32) (v2 : Int32) (v3 : Int32) (v4 : Int32) (v5 : Int32) (v6 : Int32), bX6_ignorant_38 F k19 n κ v1 v2 v3 v4 v5 v6 = some r9 → Js p l e ({ frames := 2, cells := 0, slots := 0, locals := 46 } : Room) s m args below meth c G 7 (MQ below (je_Q G (some (.int r9.1)) (en2 G r9.2 dyn) sz) args s 0 0 (je_A G)) (en2 G κ dyn) sz 0 0 38 [(0, .ref (G.2.1 + 66)), (1, .int v1), (2, .int v2), (3, .int v3), (4, .int v4), (5, .int v5), (6, .int v6)] [] := by
  intro n
  induction n with
  | zero =>
    intro κ v1 v2 v3 v4 v5 v6 h
    cases h
  | succ n ih =>
    intro κ v1 v2 v3 v4 v5 v6 h
    rw [bX6_ignorant_38] at h
    refine je_iload C dX6_ignorant_38 40 rfl 6 rfl ?_
    refine je_iconst C (4) dX6_ignorant_40 41 rfl ic_4 ?_
    refine je_icmp_ge C 87 dX6_ignorant_41 44 rfl rfl h (fun h => ?_) (fun h => ?_)
    · refine je_sub [0, 1, 2, 3, 4] [(0, .ref (G.2.1 + 66)), (1, .int v1), (2, .int v2), (3, .int v3), (4, .int v4)] rfl ?_
      exact wX6_ignorant_87 C hk19 κ v1 v2 v3 v4 h
    refine je_iload C dX6_ignorant_44 46 rfl 5 rfl ?_
    refine je_iconst C (-1) dX6_ignorant_46 47 rfl ic_m1 ?_
    refine je_icmp_eq C 87 dX6_ignorant_47 50 rfl rfl h (fun h => ?_) (fun h => ?_)
    · refine je_sub [0, 1, 2, 3, 4] [(0, .ref (G.2.1 + 66)), (1, .int v1), (2, .int v2), (3, .int v3), (4, .int v4)] rfl ?_
      exact wX6_ignorant_87 C hk19 κ v1 v2 v3 v4 h
    refine je_iload C dX6_ignorant_50 52 rfl 4 rfl ?_
    refine je_aload_n C dX6_ignorant_52 53 rfl 0 rfl ?_
    refine je_iconst C (0) dX6_ignorant_53 54 rfl ic_0 ?_
    refine je_iload C dX6_ignorant_54 56 rfl 5 rfl ?_
    refine je_iload_n C dX6_ignorant_56 57 rfl 1 rfl ?_
    obtain ⟨t57, hg, h⟩ := p_cl_inv h
    refine je_callVi (As := [.int (0 : Int32), .int v5, .int v1]) (rest := [.int v4]) C (metX6_lineOf hg) (en2_at kd66) rfl hdX6_lineOf rfl cwX6_401 rfl ⟨Nat.le_of_ble_eq_true rfl, Nat.le_of_ble_eq_true rfl⟩ (Nat.le_of_ble_eq_true rfl) dX6_ignorant_57 60 rfl ⟨Nat.le_refl _, Nat.le_refl _⟩ ?_
    refine je_iconst C (-1) dX6_ignorant_60 61 rfl ic_m1 ?_
    refine je_icmp_eq C 68 dX6_ignorant_61 64 rfl rfl h (fun h => ?_) (fun h => ?_)
    · refine je_iconst C (0) dX6_ignorant_68 69 rfl ic_0 ?_
      refine je_sub [0, 1, 2, 3, 5, 6] [(0, .ref (G.2.1 + 66)), (1, .int v1), (2, .int v2), (3, .int v3), (5, .int v5), (6, .int v6)] rfl ?_
      exact wX6_ignorant_69 C hk19 ih κ v1 v2 v3 v5 v6 (0 : Int32) v4 h
    refine je_iconst C (1) dX6_ignorant_64 65 rfl ic_1 ?_
    refine je_goto C 69 dX6_ignorant_65 rfl ?_
    refine je_sub [0, 1, 2, 3, 5, 6] [(0, .ref (G.2.1 + 66)), (1, .int v1), (2, .int v2), (3, .int v3), (5, .int v5), (6, .int v6)] rfl ?_
    exact wX6_ignorant_69 C hk19 ih κ v1 v2 v3 v5 v6 (1 : Int32) v4 h
set_option maxHeartbeats 4000000 in
theorem wX6_ignorant_19 {p : Program} {l : Launch} {e : Env} {s : State} {m : MethodId} {args : Array Value} {below : List Frame} {meth : Method} {c : Code} {G : je_G} {dyn : Nat → Option je_E} {sz : Nat} {F : Nat} {r9 : Int32 × kp_K} (C : Cx p s m args meth c G "MinistryDesksModel" cX6_ignorant 7 (some .int)) : ∀ (n : Nat) (κ : kp_K) (v1 : Int32) (v2 : Int32) (v3 : Int32), bX6_ignorant_19 F n κ v1 v2 v3 = some r9 → Js p l e ({ frames := 2, cells := 0, slots := 0, locals := 46 } : Room) s m args below meth c G 7 (MQ below (je_Q G (some (.int r9.1)) (en2 G r9.2 dyn) sz) args s 0 0 (je_A G)) (en2 G κ dyn) sz 0 0 19 [(0, .ref (G.2.1 + 66)), (1, .int v1), (2, .int v2), (3, .int v3)] [] := by
  intro n
  induction n with
  | zero =>
    intro κ v1 v2 v3 h
    cases h
  | succ n ih =>
    intro κ v1 v2 v3 h
    rw [bX6_ignorant_19] at h
    refine je_iload_n C dX6_ignorant_19 20 rfl 3 rfl ?_
    refine je_aload_n C dX6_ignorant_20 21 rfl 0 rfl ?_
    refine gX6_13 C dX6_ignorant_21 24 rfl ?_
    refine je_iconst C (0) dX6_ignorant_24 25 rfl ic_0 ?_
    refine jk_iald C kd68 dX6_ignorant_25 26 rfl h (fun h => ?_)
    refine je_icmp_ge C 108 dX6_ignorant_26 29 rfl rfl h (fun h => ?_) (fun h => ?_)
    · refine je_iload_n C dX6_ignorant_108 109 rfl 2 rfl ?_
      cases h
      exact je_iret C dX6_ignorant_109
    refine je_iconst C (0) dX6_ignorant_29 30 rfl ic_0 ?_
    refine je_istore C dX6_ignorant_30 32 rfl (Nat.le_of_ble_eq_true rfl) [(4, .int (0 : Int32)), (0, .ref (G.2.1 + 66)), (1, .int v1), (2, .int v2), (3, .int v3)] rfl ?_
    refine je_iload_n C dX6_ignorant_32 33 rfl 4 rfl ?_
    refine je_istore C dX6_ignorant_33 35 rfl (Nat.le_of_ble_eq_true rfl) [(5, .int v3), (4, .int (0 : Int32)), (0, .ref (G.2.1 + 66)), (1, .int v1), (2, .int v2), (3, .int v3)] rfl ?_
    refine je_iconst C (0) dX6_ignorant_35 36 rfl ic_0 ?_
    refine je_istore C dX6_ignorant_36 38 rfl (Nat.le_of_ble_eq_true rfl) [(6, .int (0 : Int32)), (5, .int v3), (4, .int (0 : Int32)), (0, .ref (G.2.1 + 66)), (1, .int v1), (2, .int v2), (3, .int v3)] rfl ?_
    refine je_sub [3, 4, 5, 6, 2, 1, 0] [(0, .ref (G.2.1 + 66)), (1, .int v1), (2, .int v2), (3, .int v3), (4, .int (0 : Int32)), (5, .int v3), (6, .int (0 : Int32))] rfl ?_
    exact wX6_ignorant_38 C ih F κ v1 v2 v3 (0 : Int32) v3 (0 : Int32) h
set_option maxHeartbeats 4000000 in
theorem metX6_ignorant {l : Launch} {G : je_G} {dyn : Nat → Option je_E} {sz : Nat} {F : Nat} {κ : kp_K} {v1 : Int32} {r9 : Int32 × kp_K} (h : pX6_ignorant F κ v1 = some r9) : MetS l G yX6_ignorant cX6_ignorant 7 (some .int) 2 46 0 0 [.ref (G.2.1 + 66), .int v1] (en2 G κ dyn) sz (some (.int r9.1)) (en2 G r9.2 dyn) sz := by
  refine je_met "MinistryDesksModel" rfl (by decide +kernel) (Nat.le_of_ble_eq_true rfl) [(0, .ref (G.2.1 + 66)), (1, .int v1)] rfl (fun p e s m args below meth c C => ?_)
  unfold pX6_ignorant at h
  refine je_aload_n C dX6_ignorant_0 1 rfl 0 rfl ?_
  refine je_iconst C (0) dX6_ignorant_1 2 rfl ic_0 ?_
  refine sX6_166 C dX6_ignorant_2 5 rfl ?_
  refine jk_lt h (fun k2 h => ?_)
  refine je_aload_n C dX6_ignorant_5 6 rfl 0 rfl ?_
  refine je_iload_n C dX6_ignorant_6 7 rfl 1 rfl ?_
  obtain ⟨t7, hg, h⟩ := p_cl_inv h
  refine je_callVi (As := [.int v1]) (rest := []) C (metX6_isFact hg) (en2_at kd66) rfl hdX6_isFact rfl cwX6_555 rfl ⟨Nat.le_of_ble_eq_true rfl, Nat.le_of_ble_eq_true rfl⟩ (Nat.le_of_ble_eq_true rfl) dX6_ignorant_7 10 rfl ⟨Nat.le_refl _, Nat.le_refl _⟩ ?_
  refine je_if_ne C 15 dX6_ignorant_10 13 rfl rfl h (fun h => ?_) (fun h => ?_)
  · refine je_iconst C (0) dX6_ignorant_15 16 rfl ic_0 ?_
    refine je_istore_n C dX6_ignorant_16 17 rfl (Nat.le_of_ble_eq_true rfl) [(2, .int (0 : Int32)), (0, .ref (G.2.1 + 66)), (1, .int v1)] rfl ?_
    refine je_iconst C (0) dX6_ignorant_17 18 rfl ic_0 ?_
    refine je_istore_n C dX6_ignorant_18 19 rfl (Nat.le_of_ble_eq_true rfl) [(3, .int (0 : Int32)), (2, .int (0 : Int32)), (0, .ref (G.2.1 + 66)), (1, .int v1)] rfl ?_
    refine je_sub [2, 3, 1, 0] [(0, .ref (G.2.1 + 66)), (1, .int v1), (2, .int (0 : Int32)), (3, .int (0 : Int32))] rfl ?_
    exact wX6_ignorant_19 C F k2 v1 (0 : Int32) (0 : Int32) h
  refine je_iconst C (-1) dX6_ignorant_13 14 rfl ic_m1 ?_
  cases h
  exact je_iret C dX6_ignorant_14
set_option maxHeartbeats 4000000 in
theorem wX6_spy_74 {p : Program} {l : Launch} {e : Env} {s : State} {m : MethodId} {args : Array Value} {below : List Frame} {meth : Method} {c : Code} {G : je_G} {dyn : Nat → Option je_E} {sz : Nat} {F : Nat} {r9 : Int32 × kp_K} {k36 : kp_K → Int32 → Int32 → Int32 → Int32 → Option (Int32 × kp_K)} (C : Cx p s m args meth c G "MinistryDesksModel" cX6_spy 5 (some .int)) (hk36 : ∀ (kq : kp_K) (q1 : Int32) (q2 : Int32) (q3 : Int32) (q4 : Int32), k36 kq q1 q2 q3 q4 = some r9 → Js p l e ({ frames := 2, cells := 0, slots := 0, locals := 46 } : Room) s m args below meth c G 5 (MQ below (je_Q G (some (.int r9.1)) (en2 G r9.2 dyn) sz) args s 0 0 (je_A G)) (en2 G kq dyn) sz 0 0 36 [(0, .ref (G.2.1 + 66)), (1, .int q1), (2, .int q2), (3, .int q3), (4, .int q4)] []) (κ : kp_K) (v1 : Int32) (v2 : Int32) (v4 : Int32) (s0 : Int32) (h : bX6_spy_74 F k36 κ v1 v2 v4 s0 = some r9) : Js p l e ({ frames := 2, cells := 0, slots := 0, locals := 46 } : Room) s m args below meth c G 5 (MQ below (je_Q G (some (.int r9.1)) (en2 G r9.2 dyn) sz) args s 0 0 (je_A G)) (en2 G κ dyn) sz 0 0 74 [(0, .ref (G.2.1 + 66)), (1, .int v1), (2, .int v2), (4, .int v4)] [.int s0] := by
  unfold bX6_spy_74 at h
  refine je_iconst C (0) dX6_spy_74 75 rfl ic_0 ?_
  refine je_iadd C dX6_spy_75 76 rfl ?_
  refine je_lti h (fun t76 h => ?_)
  refine je_istore_n C dX6_spy_76 77 rfl (Nat.le_of_ble_eq_true rfl) [(3, .int t76), (0, .ref (G.2.1 + 66)), (1, .int v1), (2, .int v2), (4, .int v4)] rfl ?_
  refine je_iinc C (1) dX6_spy_77 80 rfl 4 rfl ic_1 (Nat.le_of_ble_eq_true rfl) [(4, .int (v4 + (1 : Int32))), (3, .int t76), (0, .ref (G.2.1 + 66)), (1, .int v1), (2, .int v2)] rfl ?_
  refine je_goto C 36 dX6_spy_80 rfl ?_
  refine je_sub [2, 3, 4, 1, 0] [(0, .ref (G.2.1 + 66)), (1, .int v1), (2, .int v2), (3, .int t76), (4, .int (v4 + (1 : Int32)))] rfl ?_
  exact hk36 κ v1 v2 t76 (v4 + (1 : Int32)) h
set_option maxHeartbeats 4000000 in
theorem wX6_spy_36 {p : Program} {l : Launch} {e : Env} {s : State} {m : MethodId} {args : Array Value} {below : List Frame} {meth : Method} {c : Code} {G : je_G} {dyn : Nat → Option je_E} {sz : Nat} {F : Nat} {r9 : Int32 × kp_K} (C : Cx p s m args meth c G "MinistryDesksModel" cX6_spy 5 (some .int)) : ∀ (n : Nat) (κ : kp_K) (v1 : Int32) (v2 : Int32) (v3 : Int32) (v4 : Int32), bX6_spy_36 F n κ v1 v2 v3 v4 = some r9 → Js p l e ({ frames := 2, cells := 0, slots := 0, locals := 46 } : Room) s m args below meth c G 5 (MQ below (je_Q G (some (.int r9.1)) (en2 G r9.2 dyn) sz) args s 0 0 (je_A G)) (en2 G κ dyn) sz 0 0 36 [(0, .ref (G.2.1 + 66)), (1, .int v1), (2, .int v2), (3, .int v3), (4, .int v4)] [] := by
  intro n
  induction n with
  | zero =>
    intro κ v1 v2 v3 v4 h
    cases h
  | succ n ih =>
    intro κ v1 v2 v3 v4 h
    rw [bX6_spy_36] at h
    refine je_iload C dX6_spy_36 38 rfl 4 rfl ?_
    refine je_aload_n C dX6_spy_38 39 rfl 0 rfl ?_
    refine gX6_13 C dX6_spy_39 42 rfl ?_
    refine je_iconst C (0) dX6_spy_42 43 rfl ic_0 ?_
    refine jk_iald C kd68 dX6_spy_43 44 rfl h (fun h => ?_)
    refine je_icmp_ge C 83 dX6_spy_44 47 rfl rfl h (fun h => ?_) (fun h => ?_)
    · refine je_iload_n C dX6_spy_83 84 rfl 3 rfl ?_
      cases h
      exact je_iret C dX6_spy_84
    refine je_iload_n C dX6_spy_47 48 rfl 3 rfl ?_
    refine je_iload_n C dX6_spy_48 49 rfl 1 rfl ?_
    refine je_iload C dX6_spy_49 51 rfl 4 rfl ?_
    refine je_ishr C dX6_spy_51 52 rfl ?_
    refine je_iconst C (1) dX6_spy_52 53 rfl ic_1 ?_
    refine je_iand C dX6_spy_53 54 rfl ?_
    refine je_iconst C (1) dX6_spy_54 55 rfl ic_1 ?_
    refine je_icmp_ne C 74 dX6_spy_55 58 rfl rfl h (fun h => ?_) (fun h => ?_)
    · refine je_sub [0, 1, 2, 4] [(0, .ref (G.2.1 + 66)), (1, .int v1), (2, .int v2), (4, .int v4)] rfl ?_
      exact wX6_spy_74 C ih κ v1 v2 v4 v3 h
    refine je_aload_n C dX6_spy_58 59 rfl 0 rfl ?_
    refine je_iconst C (0) dX6_spy_59 60 rfl ic_0 ?_
    refine je_iload C dX6_spy_60 62 rfl 4 rfl ?_
    refine je_iload_n C dX6_spy_62 63 rfl 2 rfl ?_
    obtain ⟨t63, hg, h⟩ := p_cl_inv h
    refine je_callVi (As := [.int (0 : Int32), .int v4, .int v2]) (rest := [.int v3]) C (metX6_lineOf hg) (en2_at kd66) rfl hdX6_lineOf rfl cwX6_401 rfl ⟨Nat.le_of_ble_eq_true rfl, Nat.le_of_ble_eq_true rfl⟩ (Nat.le_of_ble_eq_true rfl) dX6_spy_63 66 rfl ⟨Nat.le_refl _, Nat.le_refl _⟩ ?_
    refine je_iconst C (-1) dX6_spy_66 67 rfl ic_m1 ?_
    refine je_icmp_eq C 74 dX6_spy_67 70 rfl rfl h (fun h => ?_) (fun h => ?_)
    · refine je_sub [0, 1, 2, 4] [(0, .ref (G.2.1 + 66)), (1, .int v1), (2, .int v2), (4, .int v4)] rfl ?_
      exact wX6_spy_74 C ih κ v1 v2 v4 v3 h
    refine je_iconst C (1) dX6_spy_70 71 rfl ic_1 ?_
    refine je_goto C 75 dX6_spy_71 rfl ?_
    refine je_iadd C dX6_spy_75 76 rfl ?_
    refine je_lti h (fun t76 h => ?_)
    refine je_istore_n C dX6_spy_76 77 rfl (Nat.le_of_ble_eq_true rfl) [(3, .int t76), (0, .ref (G.2.1 + 66)), (1, .int v1), (2, .int v2), (4, .int v4)] rfl ?_
    refine je_iinc C (1) dX6_spy_77 80 rfl 4 rfl ic_1 (Nat.le_of_ble_eq_true rfl) [(4, .int (v4 + (1 : Int32))), (3, .int t76), (0, .ref (G.2.1 + 66)), (1, .int v1), (2, .int v2)] rfl ?_
    refine je_goto C 36 dX6_spy_80 rfl ?_
    refine je_sub [2, 3, 4, 1, 0] [(0, .ref (G.2.1 + 66)), (1, .int v1), (2, .int v2), (3, .int t76), (4, .int (v4 + (1 : Int32)))] rfl ?_
    exact ih κ v1 v2 t76 (v4 + (1 : Int32)) h
set_option maxHeartbeats 4000000 in
theorem metX6_spy {l : Launch} {G : je_G} {dyn : Nat → Option je_E} {sz : Nat} {F : Nat} {κ : kp_K} {v1 : Int32} {v2 : Int32} {r9 : Int32 × kp_K} (h : pX6_spy F κ v1 v2 = some r9) : MetS l G yX6_spy cX6_spy 5 (some .int) 2 46 0 0 [.ref (G.2.1 + 66), .int v1, .int v2] (en2 G κ dyn) sz (some (.int r9.1)) (en2 G r9.2 dyn) sz := by
  refine je_met "MinistryDesksModel" rfl (by decide +kernel) (Nat.le_of_ble_eq_true rfl) [(0, .ref (G.2.1 + 66)), (1, .int v1), (2, .int v2)] rfl (fun p e s m args below meth c C => ?_)
  unfold pX6_spy at h
  refine je_aload_n C dX6_spy_0 1 rfl 0 rfl ?_
  refine je_iconst C (0) dX6_spy_1 2 rfl ic_0 ?_
  refine sX6_166 C dX6_spy_2 5 rfl ?_
  refine jk_lt h (fun k2 h => ?_)
  refine je_iload_n C dX6_spy_5 6 rfl 1 rfl ?_
  refine je_if_lt C 29 dX6_spy_6 9 rfl rfl h (fun h => ?_) (fun h => ?_)
  · refine je_iconst C (-1) dX6_spy_29 30 rfl ic_m1 ?_
    cases h
    exact je_iret C dX6_spy_30
  refine je_iload_n C dX6_spy_9 10 rfl 1 rfl ?_
  refine je_iconst C (1) dX6_spy_10 11 rfl ic_1 ?_
  refine je_aload_n C dX6_spy_11 12 rfl 0 rfl ?_
  refine gX6_13 C dX6_spy_12 15 rfl ?_
  refine je_iconst C (0) dX6_spy_15 16 rfl ic_0 ?_
  refine jk_iald C kd68 dX6_spy_16 17 rfl h (fun h => ?_)
  refine je_ishl C dX6_spy_17 18 rfl ?_
  refine je_icmp_ge C 29 dX6_spy_18 21 rfl rfl h (fun h => ?_) (fun h => ?_)
  · refine je_iconst C (-1) dX6_spy_29 30 rfl ic_m1 ?_
    cases h
    exact je_iret C dX6_spy_30
  refine je_aload_n C dX6_spy_21 22 rfl 0 rfl ?_
  refine je_iload_n C dX6_spy_22 23 rfl 2 rfl ?_
  obtain ⟨t23, hg, h⟩ := p_cl_inv h
  refine je_callVi (As := [.int v2]) (rest := []) C (metX6_isFact hg) (en2_at kd66) rfl hdX6_isFact rfl cwX6_555 rfl ⟨Nat.le_of_ble_eq_true rfl, Nat.le_of_ble_eq_true rfl⟩ (Nat.le_of_ble_eq_true rfl) dX6_spy_23 26 rfl ⟨Nat.le_refl _, Nat.le_refl _⟩ ?_
  refine je_if_ne C 31 dX6_spy_26 29 rfl rfl h (fun h => ?_) (fun h => ?_)
  · refine je_iconst C (0) dX6_spy_31 32 rfl ic_0 ?_
    refine je_istore_n C dX6_spy_32 33 rfl (Nat.le_of_ble_eq_true rfl) [(3, .int (0 : Int32)), (0, .ref (G.2.1 + 66)), (1, .int v1), (2, .int v2)] rfl ?_
    refine je_iconst C (0) dX6_spy_33 34 rfl ic_0 ?_
    refine je_istore C dX6_spy_34 36 rfl (Nat.le_of_ble_eq_true rfl) [(4, .int (0 : Int32)), (3, .int (0 : Int32)), (0, .ref (G.2.1 + 66)), (1, .int v1), (2, .int v2)] rfl ?_
    refine je_sub [2, 3, 4, 1, 0] [(0, .ref (G.2.1 + 66)), (1, .int v1), (2, .int v2), (3, .int (0 : Int32)), (4, .int (0 : Int32))] rfl ?_
    exact wX6_spy_36 C F k2 v1 v2 (0 : Int32) (0 : Int32) h
  refine je_iconst C (-1) dX6_spy_29 30 rfl ic_m1 ?_
  cases h
  exact je_iret C dX6_spy_30
set_option maxHeartbeats 4000000 in
theorem metX6_isName {l : Launch} {G : je_G} {σ : Nat → Option je_E} {sz : Nat} {v0 : Int32} {r9 : Int32} (h : pX6_isName v0 = some r9) : MetS l G yX6_isName cX6_isName 1 (some .boolean) 0 0 0 0 [.int v0] σ sz (some (.int r9)) σ sz := by
  refine je_met "MinistryDesksModel" rfl (by decide +kernel) (Nat.le_of_ble_eq_true rfl) [(0, .int v0)] rfl (fun p e s m args below meth c C => ?_)
  unfold pX6_isName at h
  refine je_iload_n C dX6_isName_0 1 rfl 0 rfl ?_
  refine je_if_lt C 15 dX6_isName_1 4 rfl rfl h (fun h => ?_) (fun h => ?_)
  · refine je_iconst C (0) dX6_isName_15 16 rfl ic_0 ?_
    cases h
    exact je_zret C dX6_isName_16 (Or.inl rfl)
  refine je_iload_n C dX6_isName_4 5 rfl 0 rfl ?_
  refine je_sipush C (999) dX6_isName_5 8 rfl sp_999 ?_
  refine je_icmp_gt C 15 dX6_isName_8 11 rfl rfl h (fun h => ?_) (fun h => ?_)
  · refine je_iconst C (0) dX6_isName_15 16 rfl ic_0 ?_
    cases h
    exact je_zret C dX6_isName_16 (Or.inl rfl)
  refine je_iconst C (1) dX6_isName_11 12 rfl ic_1 ?_
  refine je_goto C 16 dX6_isName_12 rfl ?_
  cases h
  exact je_zret C dX6_isName_16 (Or.inr rfl)
theorem hdX6_isName : je_hd yX6_isName 1 := ⟨by decide +kernel, by decide +kernel, by decide +kernel⟩
theorem cwX6_564 : GoodIn lw_all (va_wsS "MinistryDesksModel" 564 yX6_isName (ws_ yX6_isName cX6_isName 1 (some .boolean))) := lw_S q2351 q2352 q169 q2353
set_option maxHeartbeats 4000000 in
theorem metX6_law {l : Launch} {G : je_G} {dyn : Nat → Option je_E} {sz : Nat} {F : Nat} {κ : kp_K} {v1 : Int32} {v2 : Int32} {v3 : Int32} {v4 : Int32} {v5 : Int32} {r9 : Int64 × kp_K} (h : pX6_law F κ v1 v2 v3 v4 v5 = some r9) : MetS l G yX6_law cX6_law 6 (some .long) 3 72 0 0 [.ref (G.2.1 + 66), .int v1, .int v2, .int v3, .int v4, .int v5] (en2 G κ dyn) sz (some (.long r9.1)) (en2 G r9.2 dyn) sz := by
  refine je_met "MinistryDesksModel" rfl (by decide +kernel) (Nat.le_of_ble_eq_true rfl) [(0, .ref (G.2.1 + 66)), (1, .int v1), (2, .int v2), (3, .int v3), (4, .int v4), (5, .int v5)] rfl (fun p e s m args below meth c C => ?_)
  unfold pX6_law at h
  refine je_aload_n C dX6_law_0 1 rfl 0 rfl ?_
  refine je_iconst C (0) dX6_law_1 2 rfl ic_0 ?_
  refine sX6_166 C dX6_law_2 5 rfl ?_
  refine jk_lt h (fun k2 h => ?_)
  refine je_iload_n C dX6_law_5 6 rfl 1 rfl ?_
  refine je_if_lt C 52 dX6_law_6 9 rfl rfl h (fun h => ?_) (fun h => ?_)
  · refine je_ldc2 C q2354 dX6_law_52 55 rfl ?_
    cases h
    exact je_lret C dX6_law_55
  refine je_iload_n C dX6_law_9 10 rfl 1 rfl ?_
  refine je_iconst C (1) dX6_law_10 11 rfl ic_1 ?_
  refine je_icmp_gt C 52 dX6_law_11 14 rfl rfl h (fun h => ?_) (fun h => ?_)
  · refine je_ldc2 C q2354 dX6_law_52 55 rfl ?_
    cases h
    exact je_lret C dX6_law_55
  refine je_iload_n C dX6_law_14 15 rfl 2 rfl ?_
  obtain ⟨t15, hg, h⟩ := p_cl_inv h
  refine je_callSi (As := [.int v2]) (rest := []) C (metX6_isName hg) hdX6_isName cwX6_564 rfl ⟨Nat.le_of_ble_eq_true rfl, Nat.le_of_ble_eq_true rfl⟩ (Nat.le_of_ble_eq_true rfl) dX6_law_15 18 rfl ⟨Nat.le_refl _, Nat.le_refl _⟩ ?_
  refine je_if_eq C 52 dX6_law_18 21 rfl rfl h (fun h => ?_) (fun h => ?_)
  · refine je_ldc2 C q2354 dX6_law_52 55 rfl ?_
    cases h
    exact je_lret C dX6_law_55
  refine je_iload_n C dX6_law_21 22 rfl 3 rfl ?_
  obtain ⟨t22, hg, h⟩ := p_cl_inv h
  refine je_callSi (As := [.int v3]) (rest := []) C (metX6_isName hg) hdX6_isName cwX6_564 rfl ⟨Nat.le_of_ble_eq_true rfl, Nat.le_of_ble_eq_true rfl⟩ (Nat.le_of_ble_eq_true rfl) dX6_law_22 25 rfl ⟨Nat.le_refl _, Nat.le_refl _⟩ ?_
  refine je_if_eq C 52 dX6_law_25 28 rfl rfl h (fun h => ?_) (fun h => ?_)
  · refine je_ldc2 C q2354 dX6_law_52 55 rfl ?_
    cases h
    exact je_lret C dX6_law_55
  refine je_iload C dX6_law_28 30 rfl 4 rfl ?_
  obtain ⟨t30, hg, h⟩ := p_cl_inv h
  refine je_callSi (As := [.int v4]) (rest := []) C (metX6_isName hg) hdX6_isName cwX6_564 rfl ⟨Nat.le_of_ble_eq_true rfl, Nat.le_of_ble_eq_true rfl⟩ (Nat.le_of_ble_eq_true rfl) dX6_law_30 33 rfl ⟨Nat.le_refl _, Nat.le_refl _⟩ ?_
  refine je_if_eq C 52 dX6_law_33 36 rfl rfl h (fun h => ?_) (fun h => ?_)
  · refine je_ldc2 C q2354 dX6_law_52 55 rfl ?_
    cases h
    exact je_lret C dX6_law_55
  refine je_iload C dX6_law_36 38 rfl 5 rfl ?_
  obtain ⟨t38, hg, h⟩ := p_cl_inv h
  refine je_callSi (As := [.int v5]) (rest := []) C (metX6_isName hg) hdX6_isName cwX6_564 rfl ⟨Nat.le_of_ble_eq_true rfl, Nat.le_of_ble_eq_true rfl⟩ (Nat.le_of_ble_eq_true rfl) dX6_law_38 41 rfl ⟨Nat.le_refl _, Nat.le_refl _⟩ ?_
  refine je_if_eq C 52 dX6_law_41 44 rfl rfl h (fun h => ?_) (fun h => ?_)
  · refine je_ldc2 C q2354 dX6_law_52 55 rfl ?_
    cases h
    exact je_lret C dX6_law_55
  refine je_aload_n C dX6_law_44 45 rfl 0 rfl ?_
  refine je_iload_n C dX6_law_45 46 rfl 1 rfl ?_
  obtain ⟨t46, hg, h⟩ := p_cl_inv h
  refine je_callVi (As := [.int v1]) (rest := []) C (metX6_isTold hg) (en2_at kd66) rfl hdX6_isTold rfl cwX6_385 rfl ⟨Nat.le_of_ble_eq_true rfl, Nat.le_of_ble_eq_true rfl⟩ (Nat.le_of_ble_eq_true rfl) dX6_law_46 49 rfl ⟨Nat.le_refl _, Nat.le_refl _⟩ ?_
  refine je_if_ne C 56 dX6_law_49 52 rfl rfl h (fun h => ?_) (fun h => ?_)
  · refine je_aload_n C dX6_law_56 57 rfl 0 rfl ?_
    refine gX6_80 C dX6_law_57 60 rfl ?_
    refine je_iconst C (0) dX6_law_60 61 rfl ic_0 ?_
    refine je_iload_n C dX6_law_61 62 rfl 2 rfl ?_
    refine je_i2l C dX6_law_62 63 rfl ?_
    refine jk_last C kd89 dX6_law_63 64 rfl h (fun h => ?_)
    refine jk_lt h (fun k63 h => ?_)
    refine je_aload_n C dX6_law_64 65 rfl 0 rfl ?_
    refine gX6_80 C dX6_law_65 68 rfl ?_
    refine je_iconst C (1) dX6_law_68 69 rfl ic_1 ?_
    refine je_iload_n C dX6_law_69 70 rfl 3 rfl ?_
    refine je_i2l C dX6_law_70 71 rfl ?_
    refine jk_last C kd89 dX6_law_71 72 rfl h (fun h => ?_)
    refine jk_lt h (fun k71 h => ?_)
    refine je_aload_n C dX6_law_72 73 rfl 0 rfl ?_
    refine gX6_80 C dX6_law_73 76 rfl ?_
    refine je_iconst C (2) dX6_law_76 77 rfl ic_2 ?_
    refine je_iload C dX6_law_77 79 rfl 4 rfl ?_
    refine je_i2l C dX6_law_79 80 rfl ?_
    refine jk_last C kd89 dX6_law_80 81 rfl h (fun h => ?_)
    refine jk_lt h (fun k80 h => ?_)
    refine je_aload_n C dX6_law_81 82 rfl 0 rfl ?_
    refine gX6_80 C dX6_law_82 85 rfl ?_
    refine je_iconst C (3) dX6_law_85 86 rfl ic_3 ?_
    refine je_iload C dX6_law_86 88 rfl 5 rfl ?_
    refine je_i2l C dX6_law_88 89 rfl ?_
    refine jk_last C kd89 dX6_law_89 90 rfl h (fun h => ?_)
    refine jk_lt h (fun k89 h => ?_)
    refine je_aload_n C dX6_law_90 91 rfl 0 rfl ?_
    refine gX6_80 C dX6_law_91 94 rfl ?_
    refine je_iconst C (4) dX6_law_94 95 rfl ic_4 ?_
    refine je_lconst C (0) dX6_law_95 96 rfl rfl ?_
    refine jk_last C kd89 dX6_law_96 97 rfl h (fun h => ?_)
    refine jk_lt h (fun k96 h => ?_)
    refine je_aload_n C dX6_law_97 98 rfl 0 rfl ?_
    refine gX6_80 C dX6_law_98 101 rfl ?_
    refine je_iconst C (5) dX6_law_101 102 rfl ic_5 ?_
    refine je_lconst C (0) dX6_law_102 103 rfl rfl ?_
    refine jk_last C kd89 dX6_law_103 104 rfl h (fun h => ?_)
    refine jk_lt h (fun k103 h => ?_)
    refine je_aload_n C dX6_law_104 105 rfl 0 rfl ?_
    refine je_iload_n C dX6_law_105 106 rfl 1 rfl ?_
    obtain ⟨q106, hg, h⟩ := p_cl_inv h
    refine je_callVi (As := [.int v1]) (rest := []) C (metX6_goes0 hg) (en2_at kd66) rfl hdX6_goes0 rfl cwX6_394 rfl ⟨Nat.le_of_ble_eq_true rfl, Nat.le_of_ble_eq_true rfl⟩ (Nat.le_of_ble_eq_true rfl) dX6_law_106 109 rfl ⟨Nat.le_refl _, Nat.le_refl _⟩ ?_
    refine je_lti h (fun t106 h => ?_)
    refine jk_lt h (fun k106 h => ?_)
    refine je_if_eq C 121 dX6_law_109 112 rfl rfl h (fun h => ?_) (fun h => ?_)
    · refine je_ldc2 C q2354 dX6_law_121 124 rfl ?_
      cases h
      exact je_lret C dX6_law_124
    refine je_aload_n C dX6_law_112 113 rfl 0 rfl ?_
    refine gX6_84 C dX6_law_113 116 rfl ?_
    refine je_iconst C (0) dX6_law_116 117 rfl ic_0 ?_
    refine jk_lald C kd90 dX6_law_117 118 rfl h (fun h => ?_)
    refine je_goto C 124 dX6_law_118 rfl ?_
    cases h
    exact je_lret C dX6_law_124
  refine je_ldc2 C q2354 dX6_law_52 55 rfl ?_
  cases h
  exact je_lret C dX6_law_55
theorem gX6_157 {p : Program} {l : Launch} {e : Env} {R : Room} {s : State} {m : MethodId} {args : Array Value} {below : List Frame} {meth : Method} {c : Code} {Q : State → Prop} {G : je_G} {cc : ByteArray} {nL : Nat} {rt : Option FieldType} {sz cells slots pc : Nat} {L : List (Nat × Value)} {st : List Value} {κ : kp_K} {dyn : Nat → Option je_E} (C : Cx p s m args meth c G "MinistryDesksModel" cc nL rt) (d : decode cc pc = .ok (.getfield 157, 3)) (n : Nat) (hn : pc + 3 = n) (kk : Js p l e R s m args below meth c G nL Q (en2 G κ dyn) sz cells slots n L (.ref (G.2.1 + 113) :: st)) : Js p l e R s m args below meth c G nL Q (en2 G κ dyn) sz cells slots pc L (.ref (G.2.1 + 66) :: st) := jk_getR (k := 73) (z := 0) C kd66 rfl in_X6 113 rfl (by decide) q1753 rfl d n hn kk
theorem gX6_160 {p : Program} {l : Launch} {e : Env} {R : Room} {s : State} {m : MethodId} {args : Array Value} {below : List Frame} {meth : Method} {c : Code} {Q : State → Prop} {G : je_G} {cc : ByteArray} {nL : Nat} {rt : Option FieldType} {sz cells slots pc : Nat} {L : List (Nat × Value)} {st : List Value} {κ : kp_K} {dyn : Nat → Option je_E} (C : Cx p s m args meth c G "MinistryDesksModel" cc nL rt) (d : decode cc pc = .ok (.getfield 160, 3)) (n : Nat) (hn : pc + 3 = n) (kk : Js p l e R s m args below meth c G nL Q (en2 G κ dyn) sz cells slots n L (.ref (G.2.1 + 114) :: st)) : Js p l e R s m args below meth c G nL Q (en2 G κ dyn) sz cells slots pc L (.ref (G.2.1 + 66) :: st) := jk_getR (k := 74) (z := 0) C kd66 rfl in_X6 114 rfl (by decide) q1754 rfl d n hn kk
theorem gX6_333 {p : Program} {l : Launch} {e : Env} {R : Room} {s : State} {m : MethodId} {args : Array Value} {below : List Frame} {meth : Method} {c : Code} {Q : State → Prop} {G : je_G} {cc : ByteArray} {nL : Nat} {rt : Option FieldType} {sz cells slots pc : Nat} {L : List (Nat × Value)} {st : List Value} {κ : kp_K} {dyn : Nat → Option je_E} (C : Cx p s m args meth c G "MinistryDesksModel" cc nL rt) (d : decode cc pc = .ok (.getfield 333, 3)) (n : Nat) (hn : pc + 3 = n) (kk : Js p l e R s m args below meth c G nL Q (en2 G κ dyn) sz cells slots n L (.int (κ.1 66 71) :: st)) : Js p l e R s m args below meth c G nL Q (en2 G κ dyn) sz cells slots pc L (.ref (G.2.1 + 66) :: st) := jk_getI (k := 71) C kd66 rfl in_X6 rfl (by decide) q1751 rfl d n hn kk
set_option maxHeartbeats 4000000 in
theorem metX6_hear {l : Launch} {G : je_G} {dyn : Nat → Option je_E} {sz : Nat} {κ : kp_K} {v1 : Int32} {v2 : Int32} {r9 : Int32 × kp_K} (h : pX6_hear κ v1 v2 = some r9) : MetS l G yX6_hear cX6_hear 3 (some .int) 1 21 0 0 [.ref (G.2.1 + 66), .int v1, .int v2] (en2 G κ dyn) sz (some (.int r9.1)) (en2 G r9.2 dyn) sz := by
  refine je_met "MinistryDesksModel" rfl (by decide +kernel) (Nat.le_of_ble_eq_true rfl) [(0, .ref (G.2.1 + 66)), (1, .int v1), (2, .int v2)] rfl (fun p e s m args below meth c C => ?_)
  unfold pX6_hear at h
  refine je_aload_n C dX6_hear_0 1 rfl 0 rfl ?_
  refine je_iconst C (0) dX6_hear_1 2 rfl ic_0 ?_
  refine sX6_166 C dX6_hear_2 5 rfl ?_
  refine jk_lt h (fun k2 h => ?_)
  refine je_aload_n C dX6_hear_5 6 rfl 0 rfl ?_
  refine je_iload_n C dX6_hear_6 7 rfl 1 rfl ?_
  obtain ⟨t7, hg, h⟩ := p_cl_inv h
  refine je_callVi (As := [.int v1]) (rest := []) C (metX6_isQuestion hg) (en2_at kd66) rfl hdX6_isQuestion rfl cwX6_458 rfl ⟨Nat.le_of_ble_eq_true rfl, Nat.le_of_ble_eq_true rfl⟩ (Nat.le_of_ble_eq_true rfl) dX6_hear_7 10 rfl ⟨Nat.le_refl _, Nat.le_refl _⟩ ?_
  refine je_if_eq C 31 dX6_hear_10 13 rfl rfl h (fun h => ?_) (fun h => ?_)
  · refine je_iconst C (-1) dX6_hear_31 32 rfl ic_m1 ?_
    cases h
    exact je_iret C dX6_hear_32
  refine je_iload_n C dX6_hear_13 14 rfl 2 rfl ?_
  refine je_if_lt C 31 dX6_hear_14 17 rfl rfl h (fun h => ?_) (fun h => ?_)
  · refine je_iconst C (-1) dX6_hear_31 32 rfl ic_m1 ?_
    cases h
    exact je_iret C dX6_hear_32
  refine je_iload_n C dX6_hear_17 18 rfl 2 rfl ?_
  refine je_iconst C (2) dX6_hear_18 19 rfl ic_2 ?_
  refine je_icmp_gt C 31 dX6_hear_19 22 rfl rfl h (fun h => ?_) (fun h => ?_)
  · refine je_iconst C (-1) dX6_hear_31 32 rfl ic_m1 ?_
    cases h
    exact je_iret C dX6_hear_32
  refine je_aload_n C dX6_hear_22 23 rfl 0 rfl ?_
  refine gX6_333 C dX6_hear_23 26 rfl ?_
  refine je_bipush C (24) dX6_hear_26 28 rfl bp_24 ?_
  refine je_icmp_ne C 33 dX6_hear_28 31 rfl rfl h (fun h => ?_) (fun h => ?_)
  · refine je_aload_n C dX6_hear_33 34 rfl 0 rfl ?_
    refine gX6_157 C dX6_hear_34 37 rfl ?_
    refine je_aload_n C dX6_hear_37 38 rfl 0 rfl ?_
    refine gX6_333 C dX6_hear_38 41 rfl ?_
    refine je_iload_n C dX6_hear_41 42 rfl 1 rfl ?_
    refine jk_iast C kd113 dX6_hear_42 43 rfl h (fun h => ?_)
    refine jk_lt h (fun k42 h => ?_)
    refine je_aload_n C dX6_hear_43 44 rfl 0 rfl ?_
    refine gX6_160 C dX6_hear_44 47 rfl ?_
    refine je_aload_n C dX6_hear_47 48 rfl 0 rfl ?_
    refine gX6_333 C dX6_hear_48 51 rfl ?_
    refine je_iload_n C dX6_hear_51 52 rfl 2 rfl ?_
    refine jk_iast C kd114 dX6_hear_52 53 rfl h (fun h => ?_)
    refine jk_lt h (fun k52 h => ?_)
    refine je_aload_n C dX6_hear_53 54 rfl 0 rfl ?_
    refine je_dup C dX6_hear_54 55 rfl rfl ?_
    refine gX6_333 C dX6_hear_55 58 rfl ?_
    refine je_iconst C (1) dX6_hear_58 59 rfl ic_1 ?_
    refine je_iadd C dX6_hear_59 60 rfl ?_
    refine sX6_333 C dX6_hear_60 63 rfl ?_
    refine jk_lt h (fun k60 h => ?_)
    refine je_aload_n C dX6_hear_63 64 rfl 0 rfl ?_
    refine gX6_333 C dX6_hear_64 67 rfl ?_
    refine je_iconst C (1) dX6_hear_67 68 rfl ic_1 ?_
    refine je_isub C dX6_hear_68 69 rfl ?_
    cases h
    exact je_iret C dX6_hear_69
  refine je_iconst C (-1) dX6_hear_31 32 rfl ic_m1 ?_
  cases h
  exact je_iret C dX6_hear_32
