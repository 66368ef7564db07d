/-! the reference: walks of its methods: printed by gen -/
set_option maxRecDepth 100000
set_option maxHeartbeats 4000000 in
theorem wX6_whomOf_27 {p : Program} {l : Launch} {e : Env} {s : State} {m : MethodId} {args : Array Value} {below : List Frame} {meth : Method} {c : Code} {G : je_G} {dyn : Nat → Option je_E} {sz : Nat} {κ : kp_K} {r9 : Int32} (C : Cx p s m args meth c G "MinistryDesksModel" cX6_whomOf 2 (some .int)) (v1 : Int32) (h : bX6_whomOf_27 κ v1 = some r9) : Js p l e ({ frames := 0, cells := 0, slots := 0, locals := 0 } : Room) s m args below meth c G 2 (MQ below (je_Q G (some (.int r9)) (en2 G κ dyn) sz) args s 0 0 (je_A G)) (en2 G κ dyn) sz 0 0 27 [(0, .ref (G.2.1 + 66)), (1, .int v1)] [] := by
  unfold bX6_whomOf_27 at h
  refine je_aload_n C dX6_whomOf_27 28 rfl 0 rfl ?_
  refine gX6_22 C dX6_whomOf_28 31 rfl ?_
  refine je_iload_n C dX6_whomOf_31 32 rfl 1 rfl ?_
  refine jk_iald C kd71 dX6_whomOf_32 33 rfl h (fun h => ?_)
  cases h
  exact je_iret C dX6_whomOf_33
set_option maxHeartbeats 4000000 in
theorem metX6_whomOf {l : Launch} {G : je_G} {dyn : Nat → Option je_E} {sz : Nat} {κ : kp_K} {v1 : Int32} {r9 : Int32} (h : pX6_whomOf κ v1 = some r9) : MetS l G yX6_whomOf cX6_whomOf 2 (some .int) 0 0 0 0 [.ref (G.2.1 + 66), .int v1] (en2 G κ dyn) sz (some (.int r9)) (en2 G κ dyn) sz := by
  refine je_met "MinistryDesksModel" rfl (by decide +kernel) (Nat.le_of_ble_eq_true rfl) [(0, .ref (G.2.1 + 66)), (1, .int v1)] rfl (fun p e s m args below meth c C => ?_)
  unfold pX6_whomOf at h
  refine je_aload_n C dX6_whomOf_0 1 rfl 0 rfl ?_
  refine gX6_346 C dX6_whomOf_1 4 rfl ?_
  refine je_if_eq C 23 dX6_whomOf_4 7 rfl rfl h (fun h => ?_) (fun h => ?_)
  · refine je_iconst C (-1) dX6_whomOf_23 24 rfl ic_m1 ?_
    refine je_goto C 33 dX6_whomOf_24 rfl ?_
    cases h
    exact je_iret C dX6_whomOf_33
  refine je_aload_n C dX6_whomOf_7 8 rfl 0 rfl ?_
  refine gX6_346 C dX6_whomOf_8 11 rfl ?_
  refine je_iconst C (4) dX6_whomOf_11 12 rfl ic_4 ?_
  refine je_icmp_ne C 27 dX6_whomOf_12 15 rfl rfl h (fun h => ?_) (fun h => ?_)
  · exact wX6_whomOf_27 C v1 h
  refine je_aload_n C dX6_whomOf_15 16 rfl 0 rfl ?_
  refine gX6_349 C dX6_whomOf_16 19 rfl ?_
  refine je_iload_n C dX6_whomOf_19 20 rfl 1 rfl ?_
  refine je_icmp_ne C 27 dX6_whomOf_20 23 rfl rfl h (fun h => ?_) (fun h => ?_)
  · exact wX6_whomOf_27 C v1 h
  refine je_iconst C (-1) dX6_whomOf_23 24 rfl ic_m1 ?_
  refine je_goto C 33 dX6_whomOf_24 rfl ?_
  cases h
  exact je_iret C dX6_whomOf_33
theorem gX6_133 {p : Program} {l : Launch} {e : Env} {R : Room} {s : State} {m : MethodId} {args : Array Value} {below : List Frame} {meth : Method} {c : Code} {Q : State → Prop} {G : je_G} {cc : ByteArray} {nL : Nat} {rt : Option FieldType} {sz cells slots pc : Nat} {L : List (Nat × Value)} {st : List Value} {κ : kp_K} {dyn : Nat → Option je_E} (C : Cx p s m args meth c G "MinistryDesksModel" cc nL rt) (d : decode cc pc = .ok (.getfield 133, 3)) (n : Nat) (hn : pc + 3 = n) (kk : Js p l e R s m args below meth c G nL Q (en2 G κ dyn) sz cells slots n L (.ref (G.2.1 + 106) :: st)) : Js p l e R s m args below meth c G nL Q (en2 G κ dyn) sz cells slots pc L (.ref (G.2.1 + 66) :: st) := jk_getR (k := 60) (z := 0) C kd66 rfl in_X6 106 rfl (by decide) q1740 rfl d n hn kk
theorem gX6_136 {p : Program} {l : Launch} {e : Env} {R : Room} {s : State} {m : MethodId} {args : Array Value} {below : List Frame} {meth : Method} {c : Code} {Q : State → Prop} {G : je_G} {cc : ByteArray} {nL : Nat} {rt : Option FieldType} {sz cells slots pc : Nat} {L : List (Nat × Value)} {st : List Value} {κ : kp_K} {dyn : Nat → Option je_E} (C : Cx p s m args meth c G "MinistryDesksModel" cc nL rt) (d : decode cc pc = .ok (.getfield 136, 3)) (n : Nat) (hn : pc + 3 = n) (kk : Js p l e R s m args below meth c G nL Q (en2 G κ dyn) sz cells slots n L (.ref (G.2.1 + 107) :: st)) : Js p l e R s m args below meth c G nL Q (en2 G κ dyn) sz cells slots pc L (.ref (G.2.1 + 66) :: st) := jk_getR (k := 61) (z := 0) C kd66 rfl in_X6 107 rfl (by decide) q1741 rfl d n hn kk
set_option maxHeartbeats 4000000 in
theorem wX6_wants_6 {p : Program} {l : Launch} {e : Env} {s : State} {m : MethodId} {args : Array Value} {below : List Frame} {meth : Method} {c : Code} {G : je_G} {dyn : Nat → Option je_E} {sz : Nat} {F : Nat} {r9 : kp_K} (C : Cx p s m args meth c G "MinistryDesksModel" cX6_wants 10 none) : ∀ (n : Nat) (κ : kp_K) (v1 : Int32) (v2 : Int32) (v3 : Int32) (v4 : Int64) (v6 : Int32), bX6_wants_6 F n κ v1 v2 v3 v4 v6 = some r9 → Js p l e ({ frames := 4, cells := 0, slots := 0, locals := 100 } : Room) s m args below meth c G 10 (MQ below (je_Q G none (en2 G r9 dyn) sz) args s 0 0 (je_A G)) (en2 G κ dyn) sz 0 0 6 [(0, .ref (G.2.1 + 66)), (1, .int v1), (2, .int v2), (3, .int v3), (4, .long v4), (6, .int v6)] [] := by
  intro n
  induction n with
  | zero =>
    intro κ v1 v2 v3 v4 v6 h
    cases h
  | succ n ih =>
    intro κ v1 v2 v3 v4 v6 h
    rw [bX6_wants_6] at h
    refine je_iload C dX6_wants_6 8 rfl 5 rfl ?_
    refine je_aload_n C dX6_wants_8 9 rfl 0 rfl ?_
    refine gX6_90 C dX6_wants_9 12 rfl ?_
    refine je_iconst C (4) dX6_wants_12 13 rfl ic_4 ?_
    refine je_iload_n C dX6_wants_13 14 rfl 1 rfl ?_
    refine je_imul C dX6_wants_14 15 rfl ?_
    refine je_iload_n C dX6_wants_15 16 rfl 3 rfl ?_
    refine je_iadd C dX6_wants_16 17 rfl ?_
    refine je_lti h (fun i17 h => ?_)
    refine jk_iald C kd92 dX6_wants_17 18 rfl h (fun h => ?_)
    refine je_icmp_ge C 137 dX6_wants_18 21 rfl rfl h (fun h => ?_) (fun h => ?_)
    · cases h
      exact je_vret C dX6_wants_137
    refine je_iload_n C dX6_wants_21 22 rfl 1 rfl ?_
    refine je_iload_n C dX6_wants_22 23 rfl 3 rfl ?_
    refine je_iload C dX6_wants_23 25 rfl 5 rfl ?_
    obtain ⟨t25, hg, h⟩ := p_cl_inv h
    refine je_callSi (As := [.int v1, .int v3, .int v6]) (rest := []) C (metX6_slot hg) hdX6_slot cwX6_375 rfl ⟨Nat.le_of_ble_eq_true rfl, Nat.le_of_ble_eq_true rfl⟩ (Nat.le_of_ble_eq_true rfl) dX6_wants_25 28 rfl ⟨Nat.le_refl _, Nat.le_refl _⟩ ?_
    refine je_istore C dX6_wants_28 30 rfl (Nat.le_of_ble_eq_true rfl) [(7, .int t25), (0, .ref (G.2.1 + 66)), (1, .int v1), (2, .int v2), (3, .int v3), (4, .long v4), (6, .int v6)] rfl ?_
    refine je_aload_n C dX6_wants_30 31 rfl 1 rfl ?_
    refine gX6_130 C dX6_wants_31 34 rfl ?_
    refine je_iload_n C dX6_wants_34 35 rfl 3 rfl ?_
    refine jk_iald C kd105 dX6_wants_35 36 rfl h (fun h => ?_)
    refine je_aload_n C dX6_wants_36 37 rfl 1 rfl ?_
    refine gX6_93 C dX6_wants_37 40 rfl ?_
    refine je_iload C dX6_wants_40 42 rfl 0 rfl ?_
    refine jk_iald C kd93 dX6_wants_42 43 rfl h (fun h => ?_)
    refine je_ishr C dX6_wants_43 44 rfl ?_
    refine je_iconst C (1) dX6_wants_44 45 rfl ic_1 ?_
    refine je_iand C dX6_wants_45 46 rfl ?_
    refine je_iconst C (1) dX6_wants_46 47 rfl ic_1 ?_
    refine je_icmp_ne C 53 dX6_wants_47 50 rfl rfl h (fun h => ?_) (fun h => ?_)
    · refine je_aload_n C dX6_wants_53 54 rfl 1 rfl ?_
      refine je_iconst C (1) dX6_wants_54 55 rfl ic_1 ?_
      refine je_iload_n C dX6_wants_55 56 rfl 2 rfl ?_
      refine je_iload_n C dX6_wants_56 57 rfl 3 rfl ?_
      refine je_aload_n C dX6_wants_57 58 rfl 1 rfl ?_
      refine gX6_93 C dX6_wants_58 61 rfl ?_
      refine je_iload C dX6_wants_61 63 rfl 0 rfl ?_
      refine jk_iald C kd93 dX6_wants_63 64 rfl h (fun h => ?_)
      refine je_aload_n C dX6_wants_64 65 rfl 1 rfl ?_
      refine gX6_96 C dX6_wants_65 68 rfl ?_
      refine je_iload C dX6_wants_68 70 rfl 0 rfl ?_
      refine jk_iald C kd94 dX6_wants_70 71 rfl h (fun h => ?_)
      refine je_iconst C (-1) dX6_wants_71 72 rfl ic_m1 ?_
      refine je_aload_n C dX6_wants_72 73 rfl 1 rfl ?_
      refine gX6_28 C dX6_wants_73 76 rfl ?_
      refine je_aload_n C dX6_wants_76 77 rfl 1 rfl ?_
      refine gX6_93 C dX6_wants_77 80 rfl ?_
      refine je_iload C dX6_wants_80 82 rfl 0 rfl ?_
      refine jk_iald C kd93 dX6_wants_82 83 rfl h (fun h => ?_)
      refine je_lti h (fun i83 h => ?_)
      refine jk_iald C kd73 dX6_wants_83 84 rfl h (fun h => ?_)
      refine je_i2l C dX6_wants_84 85 rfl ?_
      obtain ⟨q85, hg, h⟩ := p_cl_inv h
      refine je_callVl (As := [.int (1 : Int32), .int v1, .int v2, .int (κ.1 93 t25.toNatClampNeg), .int (κ.1 94 t25.toNatClampNeg), .int (-1 : Int32), .long ((κ.1 73 i83.toNatClampNeg).toInt64)]) (rest := []) C (metX6_lawOf hg) (en2_at kd66) rfl hdX6_lawOf rfl cwX6_397 rfl ⟨Nat.le_of_ble_eq_true rfl, Nat.le_of_ble_eq_true rfl⟩ (Nat.le_of_ble_eq_true rfl) dX6_wants_85 88 rfl ⟨Nat.le_refl _, Nat.le_refl _⟩ ?_
      refine je_ltl h (fun t85 h => ?_)
      refine jk_lt h (fun k85 h => ?_)
      refine je_lstore C dX6_wants_88 90 rfl (Nat.le_of_ble_eq_true rfl) [(8, .long t85), (7, .int t25), (0, .ref (G.2.1 + 66)), (1, .int v1), (2, .int v2), (3, .int v3), (4, .long v4), (6, .int v6)] rfl ?_
      refine je_lload C dX6_wants_90 92 rfl 0 rfl ?_
      refine je_lload C dX6_wants_92 94 rfl 6 rfl ?_
      refine je_lcmp C dX6_wants_94 95 rfl ?_
      refine je_if_gt C 101 dX6_wants_95 98 rfl rfl h (fun h => ?_) (fun h => ?_)
      · refine je_lload C dX6_wants_101 103 rfl 0 rfl ?_
        refine je_lstore C dX6_wants_103 105 rfl (Nat.le_of_ble_eq_true rfl) [(4, .long t85), (8, .long t85), (7, .int t25), (0, .ref (G.2.1 + 66)), (1, .int v1), (2, .int v2), (3, .int v3), (6, .int v6)] rfl ?_
        refine je_aload_n C dX6_wants_105 106 rfl 3 rfl ?_
        refine gX6_133 C dX6_wants_106 109 rfl ?_
        refine je_iload_n C dX6_wants_109 110 rfl 5 rfl ?_
        refine je_aload_n C dX6_wants_110 111 rfl 3 rfl ?_
        refine gX6_93 C dX6_wants_111 114 rfl ?_
        refine je_iload C dX6_wants_114 116 rfl 2 rfl ?_
        refine jk_iald C kd93 dX6_wants_116 117 rfl h (fun h => ?_)
        refine jk_iast C kd106 dX6_wants_117 118 rfl h (fun h => ?_)
        refine jk_lt h (fun k117 h => ?_)
        refine je_aload_n C dX6_wants_118 119 rfl 3 rfl ?_
        refine gX6_136 C dX6_wants_119 122 rfl ?_
        refine je_iload_n C dX6_wants_122 123 rfl 5 rfl ?_
        refine je_aload_n C dX6_wants_123 124 rfl 3 rfl ?_
        refine gX6_96 C dX6_wants_124 127 rfl ?_
        refine je_iload C dX6_wants_127 129 rfl 2 rfl ?_
        refine jk_iald C kd94 dX6_wants_129 130 rfl h (fun h => ?_)
        refine jk_iast C kd107 dX6_wants_130 131 rfl h (fun h => ?_)
        refine jk_lt h (fun k130 h => ?_)
        refine je_iinc C (1) dX6_wants_131 134 rfl 7 rfl ic_1 (Nat.le_of_ble_eq_true rfl) [(6, .int (v6 + (1 : Int32))), (4, .long t85), (8, .long t85), (7, .int t25), (0, .ref (G.2.1 + 66)), (1, .int v1), (2, .int v2), (3, .int v3)] rfl ?_
        refine je_goto C 6 dX6_wants_134 rfl ?_
        refine je_sub [4, 5, 6, 7, 1, 0] [(0, .ref (G.2.1 + 66)), (1, .int v1), (2, .int v2), (3, .int v3), (4, .long t85), (6, .int (v6 + (1 : Int32)))] rfl ?_
        exact ih k130 v1 v2 v3 t85 (v6 + (1 : Int32)) h
      refine je_goto C 131 dX6_wants_98 rfl ?_
      refine je_iinc C (1) dX6_wants_131 134 rfl 7 rfl ic_1 (Nat.le_of_ble_eq_true rfl) [(6, .int (v6 + (1 : Int32))), (8, .long t85), (7, .int t25), (0, .ref (G.2.1 + 66)), (1, .int v1), (2, .int v2), (3, .int v3), (4, .long v4)] rfl ?_
      refine je_goto C 6 dX6_wants_134 rfl ?_
      refine je_sub [3, 4, 5, 6, 7, 0] [(0, .ref (G.2.1 + 66)), (1, .int v1), (2, .int v2), (3, .int v3), (4, .long v4), (6, .int (v6 + (1 : Int32)))] rfl ?_
      exact ih k85 v1 v2 v3 v4 (v6 + (1 : Int32)) h
    refine je_goto C 131 dX6_wants_50 rfl ?_
    refine je_iinc C (1) dX6_wants_131 134 rfl 6 rfl ic_1 (Nat.le_of_ble_eq_true rfl) [(6, .int (v6 + (1 : Int32))), (7, .int t25), (0, .ref (G.2.1 + 66)), (1, .int v1), (2, .int v2), (3, .int v3), (4, .long v4)] rfl ?_
    refine je_goto C 6 dX6_wants_134 rfl ?_
    refine je_sub [2, 3, 4, 5, 6, 0] [(0, .ref (G.2.1 + 66)), (1, .int v1), (2, .int v2), (3, .int v3), (4, .long v4), (6, .int (v6 + (1 : Int32)))] rfl ?_
    exact ih κ v1 v2 v3 v4 (v6 + (1 : Int32)) h
set_option maxHeartbeats 4000000 in
theorem metX6_wants {l : Launch} {G : je_G} {dyn : Nat → Option je_E} {sz : Nat} {F : Nat} {κ : kp_K} {v1 : Int32} {v2 : Int32} {v3 : Int32} {r9 : kp_K} (h : pX6_wants F κ v1 v2 v3 = some r9) : MetS l G yX6_wants cX6_wants 10 none 4 100 0 0 [.ref (G.2.1 + 66), .int v1, .int v2, .int v3] (en2 G κ dyn) sz none (en2 G r9 dyn) sz := by
  refine je_met "MinistryDesksModel" rfl (by decide +kernel) (Nat.le_of_ble_eq_true rfl) [(0, .ref (G.2.1 + 66)), (1, .int v1), (2, .int v2), (3, .int v3)] rfl (fun p e s m args below meth c C => ?_)
  unfold pX6_wants at h
  refine je_lconst C (0) dX6_wants_0 1 rfl rfl ?_
  refine je_lstore C dX6_wants_1 3 rfl (Nat.le_of_ble_eq_true rfl) [(4, .long (0 : Int64)), (0, .ref (G.2.1 + 66)), (1, .int v1), (2, .int v2), (3, .int v3)] rfl ?_
  refine je_iconst C (0) dX6_wants_3 4 rfl ic_0 ?_
  refine je_istore C dX6_wants_4 6 rfl (Nat.le_of_ble_eq_true rfl) [(6, .int (0 : Int32)), (4, .long (0 : Int64)), (0, .ref (G.2.1 + 66)), (1, .int v1), (2, .int v2), (3, .int v3)] rfl ?_
  refine je_sub [2, 3, 4, 5, 1, 0] [(0, .ref (G.2.1 + 66)), (1, .int v1), (2, .int v2), (3, .int v3), (4, .long (0 : Int64)), (6, .int (0 : Int32))] rfl ?_
  exact wX6_wants_6 C F κ v1 v2 v3 (0 : Int64) (0 : Int32) h
theorem hdX6_arrives : je_hd yX6_arrives 4 := ⟨by decide +kernel, by decide +kernel, by decide +kernel⟩
theorem hdX6_wants : je_hd yX6_wants 3 := ⟨by decide +kernel, by decide +kernel, by decide +kernel⟩
theorem hdX6_whomOf : je_hd yX6_whomOf 1 := ⟨by decide +kernel, by decide +kernel, by decide +kernel⟩
theorem cwX6_427 : GoodIn lw_all (wsV "MinistryDesksModel" 427 "MinistryDesksModel" yX6_whomOf (ws_ yX6_whomOf cX6_whomOf 2 (some .int))) := lw_V q2173 q2175 qs130 q169 q2176
theorem cwX6_430 : GoodIn lw_all (wsV "MinistryDesksModel" 430 "MinistryDesksModel" yX6_wants (ws_ yX6_wants cX6_wants 10 none)) := lw_V q2177 q2179 qs131 q169 q2180
theorem cwX6_433 : GoodIn lw_all (wsV "MinistryDesksModel" 433 "MinistryDesksModel" yX6_arrives (ws_ yX6_arrives cX6_arrives 8 none)) := lw_V q2115 q2117 qs117 q169 q2118
theorem sX6_379 {p : Program} {l : Launch} {e : Env} {R : Room} {s : State} {m : MethodId} {args : Array Value} {below : List Frame} {meth : Method} {c : Code} {Q : State → Prop} {G : je_G} {cc : ByteArray} {nL : Nat} {rt : Option FieldType} {sz cells slots pc : Nat} {L : List (Nat × Value)} {st : List Value} {κ : kp_K} {dyn : Nat → Option je_E} (C : Cx p s m args meth c G "MinistryDesksModel" cc nL rt) {v : Int32} (hz : v = 0 ∨ v = 1) (d : decode cc pc = .ok (.putfield 379, 3)) (n : Nat) (hn : pc + 3 = n) (kk : Js p l e R s m args below meth c G nL Q (en2 G (s_i κ 66 59 v) dyn) sz cells slots n L st) : Js p l e R s m args below meth c G nL Q (en2 G κ dyn) sz cells slots pc L (.int v :: .ref (G.2.1 + 66) :: st) := jk_putZ (k := 59) C kd66 rfl in_X6 tyX6 tyX6_ok nmX6 rfl (by decide) q1739 rfl rfl rfl hz d n hn kk
set_option maxHeartbeats 4000000 in
theorem wX6_noon_82 {p : Program} {l : Launch} {e : Env} {s : State} {m : MethodId} {args : Array Value} {below : List Frame} {meth : Method} {c : Code} {G : je_G} {dyn : Nat → Option je_E} {sz : Nat} {F : Nat} {r9 : kp_K} (C : Cx p s m args meth c G "MinistryDesksModel" cX6_noon 3 none) : ∀ (n : Nat) (κ : kp_K) (v1 : Int32) (v2 : Int32), bX6_noon_82 F n κ v1 v2 = some r9 → Js p l e ({ frames := 7, cells := 0, slots := 0, locals := 183 } : Room) s m args below meth c G 3 (MQ below (je_Q G none (en2 G r9 dyn) sz) args s 0 0 (je_A G)) (en2 G κ dyn) sz 0 0 82 [(0, .ref (G.2.1 + 66)), (1, .int v1), (2, .int v2)] [] := by
  intro n
  induction n with
  | zero =>
    intro κ v1 v2 h
    cases h
  | succ n ih =>
    intro κ v1 v2 h
    rw [bX6_noon_82] at h
    refine je_iload_n C dX6_noon_82 83 rfl 2 rfl ?_
    refine je_aload_n C dX6_noon_83 84 rfl 0 rfl ?_
    refine gX6_13 C dX6_noon_84 87 rfl ?_
    refine je_iconst C (0) dX6_noon_87 88 rfl ic_0 ?_
    refine jk_iald C kd68 dX6_noon_88 89 rfl h (fun h => ?_)
    refine je_icmp_ge C 126 dX6_noon_89 92 rfl rfl h (fun h => ?_) (fun h => ?_)
    · refine je_aload_n C dX6_noon_126 127 rfl 0 rfl ?_
      refine je_iconst C (0) dX6_noon_127 128 rfl ic_0 ?_
      refine sX6_379 C (Or.inl rfl) dX6_noon_128 131 rfl ?_
      refine jk_lt h (fun k128 h => ?_)
      cases h
      exact je_vret C dX6_noon_131
    refine je_aload_n C dX6_noon_92 93 rfl 0 rfl ?_
    refine gX6_133 C dX6_noon_93 96 rfl ?_
    refine je_iload_n C dX6_noon_96 97 rfl 2 rfl ?_
    refine jk_iald C kd106 dX6_noon_97 98 rfl h (fun h => ?_)
    refine je_iconst C (-1) dX6_noon_98 99 rfl ic_m1 ?_
    refine je_icmp_eq C 120 dX6_noon_99 102 rfl rfl h (fun h => ?_) (fun h => ?_)
    · refine je_iinc C (1) dX6_noon_120 123 rfl 2 rfl ic_1 (Nat.le_of_ble_eq_true rfl) [(2, .int (v2 + (1 : Int32))), (0, .ref (G.2.1 + 66)), (1, .int v1)] rfl ?_
      refine je_goto C 82 dX6_noon_123 rfl ?_
      refine je_sub [1, 2, 0] [(0, .ref (G.2.1 + 66)), (1, .int v1), (2, .int (v2 + (1 : Int32)))] rfl ?_
      exact ih κ v1 (v2 + (1 : Int32)) h
    refine je_aload_n C dX6_noon_102 103 rfl 0 rfl ?_
    refine je_iload_n C dX6_noon_103 104 rfl 1 rfl ?_
    refine je_iload_n C dX6_noon_104 105 rfl 2 rfl ?_
    refine je_aload_n C dX6_noon_105 106 rfl 0 rfl ?_
    refine gX6_133 C dX6_noon_106 109 rfl ?_
    refine je_iload_n C dX6_noon_109 110 rfl 2 rfl ?_
    refine jk_iald C kd106 dX6_noon_110 111 rfl h (fun h => ?_)
    refine je_aload_n C dX6_noon_111 112 rfl 0 rfl ?_
    refine gX6_136 C dX6_noon_112 115 rfl ?_
    refine je_iload_n C dX6_noon_115 116 rfl 2 rfl ?_
    refine jk_iald C kd107 dX6_noon_116 117 rfl h (fun h => ?_)
    obtain ⟨k117, hg, h⟩ := p_cl_inv h
    refine je_callVv (As := [.int v1, .int v2, .int (κ.1 106 v2.toNatClampNeg), .int (κ.1 107 v2.toNatClampNeg)]) (rest := []) C (metX6_arrives hg) (en2_at kd66) rfl hdX6_arrives rfl cwX6_433 rfl ⟨Nat.le_of_ble_eq_true rfl, Nat.le_of_ble_eq_true rfl⟩ (Nat.le_of_ble_eq_true rfl) dX6_noon_117 120 rfl ⟨Nat.le_refl _, Nat.le_refl _⟩ ?_
    refine je_iinc C (1) dX6_noon_120 123 rfl 2 rfl ic_1 (Nat.le_of_ble_eq_true rfl) [(2, .int (v2 + (1 : Int32))), (0, .ref (G.2.1 + 66)), (1, .int v1)] rfl ?_
    refine je_goto C 82 dX6_noon_123 rfl ?_
    refine je_sub [1, 2, 0] [(0, .ref (G.2.1 + 66)), (1, .int v1), (2, .int (v2 + (1 : Int32)))] rfl ?_
    exact ih k117 v1 (v2 + (1 : Int32)) h
set_option maxHeartbeats 4000000 in
theorem wX6_noon_37 {p : Program} {l : Launch} {e : Env} {s : State} {m : MethodId} {args : Array Value} {below : List Frame} {meth : Method} {c : Code} {G : je_G} {dyn : Nat → Option je_E} {sz : Nat} {F : Nat} {r9 : kp_K} (C : Cx p s m args meth c G "MinistryDesksModel" cX6_noon 3 none) : ∀ (n : Nat) (κ : kp_K) (v1 : Int32) (v2 : Int32), bX6_noon_37 F n κ v1 v2 = some r9 → Js p l e ({ frames := 7, cells := 0, slots := 0, locals := 183 } : Room) s m args below meth c G 3 (MQ below (je_Q G none (en2 G r9 dyn) sz) args s 0 0 (je_A G)) (en2 G κ dyn) sz 0 0 37 [(0, .ref (G.2.1 + 66)), (1, .int v1), (2, .int v2)] [] := by
  intro n
  induction n with
  | zero =>
    intro κ v1 v2 h
    cases h
  | succ n ih =>
    intro κ v1 v2 h
    rw [bX6_noon_37] at h
    refine je_iload_n C dX6_noon_37 38 rfl 2 rfl ?_
    refine je_aload_n C dX6_noon_38 39 rfl 0 rfl ?_
    refine gX6_13 C dX6_noon_39 42 rfl ?_
    refine je_iconst C (0) dX6_noon_42 43 rfl ic_0 ?_
    refine jk_iald C kd68 dX6_noon_43 44 rfl h (fun h => ?_)
    refine je_icmp_ge C 80 dX6_noon_44 47 rfl rfl h (fun h => ?_) (fun h => ?_)
    · refine je_iconst C (0) dX6_noon_80 81 rfl ic_0 ?_
      refine je_istore_n C dX6_noon_81 82 rfl (Nat.le_of_ble_eq_true rfl) [(2, .int (0 : Int32)), (0, .ref (G.2.1 + 66)), (1, .int v1)] rfl ?_
      refine je_sub [1, 2, 0] [(0, .ref (G.2.1 + 66)), (1, .int v1), (2, .int (0 : Int32))] rfl ?_
      exact wX6_noon_82 C F κ v1 (0 : Int32) h
    refine je_aload_n C dX6_noon_47 48 rfl 0 rfl ?_
    refine gX6_133 C dX6_noon_48 51 rfl ?_
    refine je_iload_n C dX6_noon_51 52 rfl 2 rfl ?_
    refine je_iconst C (-1) dX6_noon_52 53 rfl ic_m1 ?_
    refine jk_iast C kd106 dX6_noon_53 54 rfl h (fun h => ?_)
    refine jk_lt h (fun k53 h => ?_)
    refine je_aload_n C dX6_noon_54 55 rfl 0 rfl ?_
    refine je_iload_n C dX6_noon_55 56 rfl 2 rfl ?_
    obtain ⟨t56, hg, h⟩ := p_cl_inv h
    refine je_callVi (As := [.int v2]) (rest := []) C (metX6_whomOf hg) (en2_at kd66) rfl hdX6_whomOf rfl cwX6_427 rfl ⟨Nat.le_of_ble_eq_true rfl, Nat.le_of_ble_eq_true rfl⟩ (Nat.le_of_ble_eq_true rfl) dX6_noon_56 59 rfl ⟨Nat.le_refl _, Nat.le_refl _⟩ ?_
    refine je_iconst C (-1) dX6_noon_59 60 rfl ic_m1 ?_
    refine je_icmp_eq C 74 dX6_noon_60 63 rfl rfl h (fun h => ?_) (fun h => ?_)
    · refine je_iinc C (1) dX6_noon_74 77 rfl 2 rfl ic_1 (Nat.le_of_ble_eq_true rfl) [(2, .int (v2 + (1 : Int32))), (0, .ref (G.2.1 + 66)), (1, .int v1)] rfl ?_
      refine je_goto C 37 dX6_noon_77 rfl ?_
      refine je_sub [1, 2, 0] [(0, .ref (G.2.1 + 66)), (1, .int v1), (2, .int (v2 + (1 : Int32)))] rfl ?_
      exact ih k53 v1 (v2 + (1 : Int32)) h
    refine je_aload_n C dX6_noon_63 64 rfl 0 rfl ?_
    refine je_iload_n C dX6_noon_64 65 rfl 1 rfl ?_
    refine je_iload_n C dX6_noon_65 66 rfl 2 rfl ?_
    refine je_aload_n C dX6_noon_66 67 rfl 0 rfl ?_
    refine je_iload_n C dX6_noon_67 68 rfl 2 rfl ?_
    obtain ⟨t68, hg, h⟩ := p_cl_inv h
    refine je_callVi (As := [.int v2]) (rest := [.int v2, .int v1, .ref (G.2.1 + 66)]) C (metX6_whomOf hg) (en2_at kd66) rfl hdX6_whomOf rfl cwX6_427 rfl ⟨Nat.le_of_ble_eq_true rfl, Nat.le_of_ble_eq_true rfl⟩ (Nat.le_of_ble_eq_true rfl) dX6_noon_68 71 rfl ⟨Nat.le_refl _, Nat.le_refl _⟩ ?_
    obtain ⟨k71, hg, h⟩ := p_cl_inv h
    refine je_callVv (As := [.int v1, .int v2, .int t68]) (rest := []) C (metX6_wants hg) (en2_at kd66) rfl hdX6_wants rfl cwX6_430 rfl ⟨Nat.le_of_ble_eq_true rfl, Nat.le_of_ble_eq_true rfl⟩ (Nat.le_of_ble_eq_true rfl) dX6_noon_71 74 rfl ⟨Nat.le_refl _, Nat.le_refl _⟩ ?_
    refine je_iinc C (1) dX6_noon_74 77 rfl 2 rfl ic_1 (Nat.le_of_ble_eq_true rfl) [(2, .int (v2 + (1 : Int32))), (0, .ref (G.2.1 + 66)), (1, .int v1)] rfl ?_
    refine je_goto C 37 dX6_noon_77 rfl ?_
    refine je_sub [1, 2, 0] [(0, .ref (G.2.1 + 66)), (1, .int v1), (2, .int (v2 + (1 : Int32)))] rfl ?_
    exact ih k71 v1 (v2 + (1 : Int32)) h
set_option maxHeartbeats 4000000 in
theorem wX6_noon_2 {p : Program} {l : Launch} {e : Env} {s : State} {m : MethodId} {args : Array Value} {below : List Frame} {meth : Method} {c : Code} {G : je_G} {dyn : Nat → Option je_E} {sz : Nat} {F : Nat} {r9 : kp_K} (C : Cx p s m args meth c G "MinistryDesksModel" cX6_noon 3 none) : ∀ (n : Nat) (κ : kp_K) (v1 : Int32) (v2 : Int32), bX6_noon_2 F n κ v1 v2 = some r9 → Js p l e ({ frames := 7, cells := 0, slots := 0, locals := 183 } : Room) s m args below meth c G 3 (MQ below (je_Q G none (en2 G r9 dyn) sz) args s 0 0 (je_A G)) (en2 G κ dyn) sz 0 0 2 [(0, .ref (G.2.1 + 66)), (1, .int v1), (2, .int v2)] [] := by
  intro n
  induction n with
  | zero =>
    intro κ v1 v2 h
    cases h
  | succ n ih =>
    intro κ v1 v2 h
    rw [bX6_noon_2] at h
    refine je_iload_n C dX6_noon_2 3 rfl 2 rfl ?_
    refine je_aload_n C dX6_noon_3 4 rfl 0 rfl ?_
    refine gX6_13 C dX6_noon_4 7 rfl ?_
    refine je_iconst C (0) dX6_noon_7 8 rfl ic_0 ?_
    refine jk_iald C kd68 dX6_noon_8 9 rfl h (fun h => ?_)
    refine je_icmp_ge C 30 dX6_noon_9 12 rfl rfl h (fun h => ?_) (fun h => ?_)
    · refine je_aload_n C dX6_noon_30 31 rfl 0 rfl ?_
      refine je_iconst C (1) dX6_noon_31 32 rfl ic_1 ?_
      refine sX6_379 C (Or.inr rfl) dX6_noon_32 35 rfl ?_
      refine jk_lt h (fun k32 h => ?_)
      refine je_iconst C (0) dX6_noon_35 36 rfl ic_0 ?_
      refine je_istore_n C dX6_noon_36 37 rfl (Nat.le_of_ble_eq_true rfl) [(2, .int (0 : Int32)), (0, .ref (G.2.1 + 66)), (1, .int v1)] rfl ?_
      refine je_sub [1, 2, 0] [(0, .ref (G.2.1 + 66)), (1, .int v1), (2, .int (0 : Int32))] rfl ?_
      exact wX6_noon_37 C F k32 v1 (0 : Int32) h
    refine je_aload_n C dX6_noon_12 13 rfl 0 rfl ?_
    refine gX6_130 C dX6_noon_13 16 rfl ?_
    refine je_iload_n C dX6_noon_16 17 rfl 2 rfl ?_
    refine je_aload_n C dX6_noon_17 18 rfl 0 rfl ?_
    refine je_iload_n C dX6_noon_18 19 rfl 1 rfl ?_
    refine je_iload_n C dX6_noon_19 20 rfl 2 rfl ?_
    obtain ⟨t20, hg, h⟩ := p_cl_inv h
    refine je_callVi (As := [.int v1, .int v2]) (rest := [.int v2, .ref (G.2.1 + 105)]) C (metX6_setOf hg) (en2_at kd66) rfl hdX6_setOf rfl cwX6_382 rfl ⟨Nat.le_of_ble_eq_true rfl, Nat.le_of_ble_eq_true rfl⟩ (Nat.le_of_ble_eq_true rfl) dX6_noon_20 23 rfl ⟨Nat.le_refl _, Nat.le_refl _⟩ ?_
    refine jk_iast C kd105 dX6_noon_23 24 rfl h (fun h => ?_)
    refine jk_lt h (fun k23 h => ?_)
    refine je_iinc C (1) dX6_noon_24 27 rfl 2 rfl ic_1 (Nat.le_of_ble_eq_true rfl) [(2, .int (v2 + (1 : Int32))), (0, .ref (G.2.1 + 66)), (1, .int v1)] rfl ?_
    refine je_goto C 2 dX6_noon_27 rfl ?_
    refine je_sub [1, 2, 0] [(0, .ref (G.2.1 + 66)), (1, .int v1), (2, .int (v2 + (1 : Int32)))] rfl ?_
    exact ih k23 v1 (v2 + (1 : Int32)) h
set_option maxHeartbeats 4000000 in
theorem metX6_noon {l : Launch} {G : je_G} {dyn : Nat → Option je_E} {sz : Nat} {F : Nat} {κ : kp_K} {v1 : Int32} {r9 : kp_K} (h : pX6_noon F κ v1 = some r9) : MetS l G yX6_noon cX6_noon 3 none 7 183 0 0 [.ref (G.2.1 + 66), .int v1] (en2 G κ dyn) sz none (en2 G r9 dyn) sz := by
  refine je_met "MinistryDesksModel" rfl (by decide +kernel) (Nat.le_of_ble_eq_true rfl) [(0, .ref (G.2.1 + 66)), (1, .int v1)] rfl (fun p e s m args below meth c C => ?_)
  unfold pX6_noon at h
  refine je_iconst C (0) dX6_noon_0 1 rfl ic_0 ?_
  refine je_istore_n C dX6_noon_1 2 rfl (Nat.le_of_ble_eq_true rfl) [(2, .int (0 : Int32)), (0, .ref (G.2.1 + 66)), (1, .int v1)] rfl ?_
  refine je_sub [1, 2, 0] [(0, .ref (G.2.1 + 66)), (1, .int v1), (2, .int (0 : Int32))] rfl ?_
  exact wX6_noon_2 C F κ v1 (0 : Int32) h
set_option maxHeartbeats 4000000 in
theorem wX6_burns_2 {p : Program} {l : Launch} {e : Env} {s : State} {m : MethodId} {args : Array Value} {below : List Frame} {meth : Method} {c : Code} {G : je_G} {dyn : Nat → Option je_E} {sz : Nat} {F : Nat} {κ : kp_K} {r9 : Int32} (C : Cx p s m args meth c G "MinistryDesksModel" cX6_burns 4 (some .boolean)) : ∀ (n : Nat) (v1 : Int32) (v2 : Int32) (v3 : Int32), bX6_burns_2 F n κ v1 v2 v3 = some r9 → Js p l e ({ frames := 0, cells := 0, slots := 0, locals := 0 } : Room) s m args below meth c G 4 (MQ below (je_Q G (some (.int r9)) (en2 G κ dyn) sz) args s 0 0 (je_A G)) (en2 G κ dyn) sz 0 0 2 [(0, .ref (G.2.1 + 66)), (1, .int v1), (2, .int v2), (3, .int v3)] [] := by
  intro n
  induction n with
  | zero =>
    intro v1 v2 v3 h
    cases h
  | succ n ih =>
    intro v1 v2 v3 h
    rw [bX6_burns_2] at h
    refine je_iload_n C dX6_burns_2 3 rfl 3 rfl ?_
    refine je_aload_n C dX6_burns_3 4 rfl 0 rfl ?_
    refine gX6_13 C dX6_burns_4 7 rfl ?_
    refine je_iconst C (4) dX6_burns_7 8 rfl ic_4 ?_
    refine jk_iald C kd68 dX6_burns_8 9 rfl h (fun h => ?_)
    refine je_icmp_ge C 48 dX6_burns_9 12 rfl rfl h (fun h => ?_) (fun h => ?_)
    · refine je_iconst C (0) dX6_burns_48 49 rfl ic_0 ?_
      cases h
      exact je_zret C dX6_burns_49 (Or.inl rfl)
    refine je_aload_n C dX6_burns_12 13 rfl 0 rfl ?_
    refine gX6_346 C dX6_burns_13 16 rfl ?_
    refine je_iconst C (1) dX6_burns_16 17 rfl ic_1 ?_
    refine je_icmp_eq C 48 dX6_burns_17 20 rfl rfl h (fun h => ?_) (fun h => ?_)
    · refine je_iconst C (0) dX6_burns_48 49 rfl ic_0 ?_
      cases h
      exact je_zret C dX6_burns_49 (Or.inl rfl)
    refine je_aload_n C dX6_burns_20 21 rfl 0 rfl ?_
    refine gX6_55 C dX6_burns_21 24 rfl ?_
    refine je_iload_n C dX6_burns_24 25 rfl 3 rfl ?_
    refine jk_iald C kd82 dX6_burns_25 26 rfl h (fun h => ?_)
    refine je_iload_n C dX6_burns_26 27 rfl 2 rfl ?_
    refine je_icmp_ne C 42 dX6_burns_27 30 rfl rfl h (fun h => ?_) (fun h => ?_)
    · refine je_iinc C (1) dX6_burns_42 45 rfl 3 rfl ic_1 (Nat.le_of_ble_eq_true rfl) [(3, .int (v3 + (1 : Int32))), (0, .ref (G.2.1 + 66)), (1, .int v1), (2, .int v2)] rfl ?_
      refine je_goto C 2 dX6_burns_45 rfl ?_
      refine je_sub [1, 2, 3, 0] [(0, .ref (G.2.1 + 66)), (1, .int v1), (2, .int v2), (3, .int (v3 + (1 : Int32)))] rfl ?_
      exact ih v1 v2 (v3 + (1 : Int32)) h
    refine je_aload_n C dX6_burns_30 31 rfl 0 rfl ?_
    refine gX6_58 C dX6_burns_31 34 rfl ?_
    refine je_iload_n C dX6_burns_34 35 rfl 3 rfl ?_
    refine jk_iald C kd83 dX6_burns_35 36 rfl h (fun h => ?_)
    refine je_iload_n C dX6_burns_36 37 rfl 1 rfl ?_
    refine je_icmp_ne C 42 dX6_burns_37 40 rfl rfl h (fun h => ?_) (fun h => ?_)
    · refine je_iinc C (1) dX6_burns_42 45 rfl 3 rfl ic_1 (Nat.le_of_ble_eq_true rfl) [(3, .int (v3 + (1 : Int32))), (0, .ref (G.2.1 + 66)), (1, .int v1), (2, .int v2)] rfl ?_
      refine je_goto C 2 dX6_burns_45 rfl ?_
      refine je_sub [1, 2, 3, 0] [(0, .ref (G.2.1 + 66)), (1, .int v1), (2, .int v2), (3, .int (v3 + (1 : Int32)))] rfl ?_
      exact ih v1 v2 (v3 + (1 : Int32)) h
    refine je_iconst C (1) dX6_burns_40 41 rfl ic_1 ?_
    cases h
    exact je_zret C dX6_burns_41 (Or.inr rfl)
set_option maxHeartbeats 4000000 in
theorem metX6_burns {l : Launch} {G : je_G} {dyn : Nat → Option je_E} {sz : Nat} {F : Nat} {κ : kp_K} {v1 : Int32} {v2 : Int32} {r9 : Int32} (h : pX6_burns F κ v1 v2 = some r9) : MetS l G yX6_burns cX6_burns 4 (some .boolean) 0 0 0 0 [.ref (G.2.1 + 66), .int v1, .int v2] (en2 G κ dyn) sz (some (.int r9)) (en2 G κ dyn) sz := by
  refine je_met "MinistryDesksModel" rfl (by decide +kernel) (Nat.le_of_ble_eq_true rfl) [(0, .ref (G.2.1 + 66)), (1, .int v1), (2, .int v2)] rfl (fun p e s m args below meth c C => ?_)
  unfold pX6_burns at h
  refine je_iconst C (0) dX6_burns_0 1 rfl ic_0 ?_
  refine je_istore_n C dX6_burns_1 2 rfl (Nat.le_of_ble_eq_true rfl) [(3, .int (0 : Int32)), (0, .ref (G.2.1 + 66)), (1, .int v1), (2, .int v2)] rfl ?_
  refine je_sub [1, 2, 3, 0] [(0, .ref (G.2.1 + 66)), (1, .int v1), (2, .int v2), (3, .int (0 : Int32))] rfl ?_
  exact wX6_burns_2 C F v1 v2 (0 : Int32) h
theorem hdX6_isComing : je_hd yX6_isComing 1 := ⟨by decide +kernel, by decide +kernel, by decide +kernel⟩
theorem cwX6_436 : GoodIn lw_all (wsV "MinistryDesksModel" 436 "MinistryDesksModel" yX6_isComing (ws_ yX6_isComing cX6_isComing 2 (some .boolean))) := lw_V q2111 q2113 qs116 q169 q2114
set_option maxHeartbeats 4000000 in
theorem wX6_hasCome_2 {p : Program} {l : Launch} {e : Env} {s : State} {m : MethodId} {args : Array Value} {below : List Frame} {meth : Method} {c : Code} {G : je_G} {dyn : Nat → Option je_E} {sz : Nat} {F : Nat} {κ : kp_K} {r9 : Int32} (C : Cx p s m args meth c G "MinistryDesksModel" cX6_hasCome 4 (some .boolean)) : ∀ (n : Nat) (v1 : Int32) (v2 : Int32) (v3 : Int32), bX6_hasCome_2 F n κ v1 v2 v3 = some r9 → Js p l e ({ frames := 1, cells := 0, slots := 0, locals := 21 } : Room) s m args below meth c G 4 (MQ below (je_Q G (some (.int r9)) (en2 G κ dyn) sz) args s 0 0 (je_A G)) (en2 G κ dyn) sz 0 0 2 [(0, .ref (G.2.1 + 66)), (1, .int v1), (2, .int v2), (3, .int v3)] [] := by
  intro n
  induction n with
  | zero =>
    intro v1 v2 v3 h
    cases h
  | succ n ih =>
    intro v1 v2 v3 h
    rw [bX6_hasCome_2] at h
    refine je_iload_n C dX6_hasCome_2 3 rfl 3 rfl ?_
    refine je_aload_n C dX6_hasCome_3 4 rfl 0 rfl ?_
    refine gX6_13 C dX6_hasCome_4 7 rfl ?_
    refine je_iconst C (2) dX6_hasCome_7 8 rfl ic_2 ?_
    refine jk_iald C kd68 dX6_hasCome_8 9 rfl h (fun h => ?_)
    refine je_icmp_ge C 58 dX6_hasCome_9 12 rfl rfl h (fun h => ?_) (fun h => ?_)
    · refine je_iconst C (0) dX6_hasCome_58 59 rfl ic_0 ?_
      cases h
      exact je_zret C dX6_hasCome_59 (Or.inl rfl)
    refine je_aload_n C dX6_hasCome_12 13 rfl 0 rfl ?_
    refine je_iload_n C dX6_hasCome_13 14 rfl 3 rfl ?_
    obtain ⟨t14, hg, h⟩ := p_cl_inv h
    refine je_callVi (As := [.int v3]) (rest := []) C (metX6_isComing hg) (en2_at kd66) rfl hdX6_isComing rfl cwX6_436 rfl ⟨Nat.le_of_ble_eq_true rfl, Nat.le_of_ble_eq_true rfl⟩ (Nat.le_of_ble_eq_true rfl) dX6_hasCome_14 17 rfl ⟨Nat.le_refl _, Nat.le_refl _⟩ ?_
    refine je_if_eq C 52 dX6_hasCome_17 20 rfl rfl h (fun h => ?_) (fun h => ?_)
    · refine je_iinc C (1) dX6_hasCome_52 55 rfl 3 rfl ic_1 (Nat.le_of_ble_eq_true rfl) [(3, .int (v3 + (1 : Int32))), (0, .ref (G.2.1 + 66)), (1, .int v1), (2, .int v2)] rfl ?_
      refine je_goto C 2 dX6_hasCome_55 rfl ?_
      refine je_sub [1, 2, 3, 0] [(0, .ref (G.2.1 + 66)), (1, .int v1), (2, .int v2), (3, .int (v3 + (1 : Int32)))] rfl ?_
      exact ih v1 v2 (v3 + (1 : Int32)) h
    refine je_aload_n C dX6_hasCome_20 21 rfl 0 rfl ?_
    refine gX6_37 C dX6_hasCome_21 24 rfl ?_
    refine je_iload_n C dX6_hasCome_24 25 rfl 3 rfl ?_
    refine jk_iald C kd76 dX6_hasCome_25 26 rfl h (fun h => ?_)
    refine je_iload_n C dX6_hasCome_26 27 rfl 1 rfl ?_
    refine je_icmp_ne C 52 dX6_hasCome_27 30 rfl rfl h (fun h => ?_) (fun h => ?_)
    · refine je_iinc C (1) dX6_hasCome_52 55 rfl 3 rfl ic_1 (Nat.le_of_ble_eq_true rfl) [(3, .int (v3 + (1 : Int32))), (0, .ref (G.2.1 + 66)), (1, .int v1), (2, .int v2)] rfl ?_
      refine je_goto C 2 dX6_hasCome_55 rfl ?_
      refine je_sub [1, 2, 3, 0] [(0, .ref (G.2.1 + 66)), (1, .int v1), (2, .int v2), (3, .int (v3 + (1 : Int32)))] rfl ?_
      exact ih v1 v2 (v3 + (1 : Int32)) h
    refine je_aload_n C dX6_hasCome_30 31 rfl 0 rfl ?_
    refine gX6_31 C dX6_hasCome_31 34 rfl ?_
    refine je_iload_n C dX6_hasCome_34 35 rfl 3 rfl ?_
    refine jk_iald C kd74 dX6_hasCome_35 36 rfl h (fun h => ?_)
    refine je_iload_n C dX6_hasCome_36 37 rfl 2 rfl ?_
    refine je_icmp_gt C 52 dX6_hasCome_37 40 rfl rfl h (fun h => ?_) (fun h => ?_)
    · refine je_iinc C (1) dX6_hasCome_52 55 rfl 3 rfl ic_1 (Nat.le_of_ble_eq_true rfl) [(3, .int (v3 + (1 : Int32))), (0, .ref (G.2.1 + 66)), (1, .int v1), (2, .int v2)] rfl ?_
      refine je_goto C 2 dX6_hasCome_55 rfl ?_
      refine je_sub [1, 2, 3, 0] [(0, .ref (G.2.1 + 66)), (1, .int v1), (2, .int v2), (3, .int (v3 + (1 : Int32)))] rfl ?_
      exact ih v1 v2 (v3 + (1 : Int32)) h
    refine je_aload_n C dX6_hasCome_40 41 rfl 0 rfl ?_
    refine gX6_40 C dX6_hasCome_41 44 rfl ?_
    refine je_iload_n C dX6_hasCome_44 45 rfl 3 rfl ?_
    refine jk_iald C kd77 dX6_hasCome_45 46 rfl h (fun h => ?_)
    refine je_iload_n C dX6_hasCome_46 47 rfl 2 rfl ?_
    refine je_icmp_lt C 52 dX6_hasCome_47 50 rfl rfl h (fun h => ?_) (fun h => ?_)
    · refine je_iinc C (1) dX6_hasCome_52 55 rfl 3 rfl ic_1 (Nat.le_of_ble_eq_true rfl) [(3, .int (v3 + (1 : Int32))), (0, .ref (G.2.1 + 66)), (1, .int v1), (2, .int v2)] rfl ?_
      refine je_goto C 2 dX6_hasCome_55 rfl ?_
      refine je_sub [1, 2, 3, 0] [(0, .ref (G.2.1 + 66)), (1, .int v1), (2, .int v2), (3, .int (v3 + (1 : Int32)))] rfl ?_
      exact ih v1 v2 (v3 + (1 : Int32)) h
    refine je_iconst C (1) dX6_hasCome_50 51 rfl ic_1 ?_
    cases h
    exact je_zret C dX6_hasCome_51 (Or.inr rfl)
set_option maxHeartbeats 4000000 in
theorem metX6_hasCome {l : Launch} {G : je_G} {dyn : Nat → Option je_E} {sz : Nat} {F : Nat} {κ : kp_K} {v1 : Int32} {v2 : Int32} {r9 : Int32} (h : pX6_hasCome F κ v1 v2 = some r9) : MetS l G yX6_hasCome cX6_hasCome 4 (some .boolean) 1 21 0 0 [.ref (G.2.1 + 66), .int v1, .int v2] (en2 G κ dyn) sz (some (.int r9)) (en2 G κ dyn) sz := by
  refine je_met "MinistryDesksModel" rfl (by decide +kernel) (Nat.le_of_ble_eq_true rfl) [(0, .ref (G.2.1 + 66)), (1, .int v1), (2, .int v2)] rfl (fun p e s m args below meth c C => ?_)
  unfold pX6_hasCome at h
  refine je_iconst C (0) dX6_hasCome_0 1 rfl ic_0 ?_
  refine je_istore_n C dX6_hasCome_1 2 rfl (Nat.le_of_ble_eq_true rfl) [(3, .int (0 : Int32)), (0, .ref (G.2.1 + 66)), (1, .int v1), (2, .int v2)] rfl ?_
  refine je_sub [1, 2, 3, 0] [(0, .ref (G.2.1 + 66)), (1, .int v1), (2, .int v2), (3, .int (0 : Int32))] rfl ?_
  exact wX6_hasCome_2 C F v1 v2 (0 : Int32) h
theorem hdX6_hasCome : je_hd yX6_hasCome 2 := ⟨by decide +kernel, by decide +kernel, by decide +kernel⟩
theorem cwX6_449 : GoodIn lw_all (wsV "MinistryDesksModel" 449 "MinistryDesksModel" yX6_hasCome (ws_ yX6_hasCome cX6_hasCome 4 (some .boolean))) := lw_V q2189 q2191 qs134 q169 q2192
set_option maxHeartbeats 4000000 in
theorem wX6_asks_85 {p : Program} {l : Launch} {e : Env} {s : State} {m : MethodId} {args : Array Value} {below : List Frame} {meth : Method} {c : Code} {G : je_G} {dyn : Nat → Option je_E} {sz : Nat} {F : Nat} {r9 : kp_K} (C : Cx p s m args meth c G "MinistryDesksModel" cX6_asks 5 none) (κ : kp_K) (v1 : Int32) (v2 : Int32) (v4 : Int32) (s0 : Int32) (s1 : Int32) (h : bX6_asks_85 F κ v1 v2 v4 s0 s1 = some r9) : Js p l e ({ frames := 2, cells := 0, slots := 0, locals := 46 } : Room) s m args below meth c G 5 (MQ below (je_Q G none (en2 G r9 dyn) sz) args s 0 0 (je_A G)) (en2 G κ dyn) sz 0 0 85 [(0, .ref (G.2.1 + 66)), (1, .int v1), (2, .int v2), (4, .int v4)] [.int s0, .int s1, .ref (G.2.1 + 99)] := by
  unfold bX6_asks_85 at h
  refine jk_iast C kd99 dX6_asks_85 86 rfl h (fun h => ?_)
  refine jk_lt h (fun k85 h => ?_)
  refine je_iload C dX6_asks_86 88 rfl 3 rfl ?_
  refine je_if_eq C 120 dX6_asks_88 91 rfl rfl h (fun h => ?_) (fun h => ?_)
  · cases h
    exact je_vret C dX6_asks_120
  refine je_aload_n C dX6_asks_91 92 rfl 0 rfl ?_
  refine gX6_102 C dX6_asks_92 95 rfl ?_
  refine je_iconst C (4) dX6_asks_95 96 rfl ic_4 ?_
  refine je_iload_n C dX6_asks_96 97 rfl 1 rfl ?_
  refine je_imul C dX6_asks_97 98 rfl ?_
  refine je_aload_n C dX6_asks_98 99 rfl 0 rfl ?_
  refine gX6_46 C dX6_asks_99 102 rfl ?_
  refine je_iload_n C dX6_asks_102 103 rfl 2 rfl ?_
  refine jk_iald C kd79 dX6_asks_103 104 rfl h (fun h => ?_)
  refine je_iadd C dX6_asks_104 105 rfl ?_
  refine je_lti h (fun t105 h => ?_)
  refine je_dup2 C dX6_asks_105 106 rfl rfl rfl ?_
  refine jk_iald C kd96 dX6_asks_106 107 rfl h (fun h => ?_)
  refine je_aload_n C dX6_asks_107 108 rfl 0 rfl ?_
  refine gX6_28 C dX6_asks_108 111 rfl ?_
  refine je_aload_n C dX6_asks_111 112 rfl 0 rfl ?_
  refine gX6_49 C dX6_asks_112 115 rfl ?_
  refine je_iload_n C dX6_asks_115 116 rfl 2 rfl ?_
  refine jk_iald C kd80 dX6_asks_116 117 rfl h (fun h => ?_)
  refine je_lti h (fun i117 h => ?_)
  refine jk_iald C kd73 dX6_asks_117 118 rfl h (fun h => ?_)
  refine je_iadd C dX6_asks_118 119 rfl ?_
  refine jk_iast C kd96 dX6_asks_119 120 rfl h (fun h => ?_)
  refine jk_lt h (fun k119 h => ?_)
  cases h
  exact je_vret C dX6_asks_120
set_option maxHeartbeats 4000000 in
theorem wX6_asks_55 {p : Program} {l : Launch} {e : Env} {s : State} {m : MethodId} {args : Array Value} {below : List Frame} {meth : Method} {c : Code} {G : je_G} {dyn : Nat → Option je_E} {sz : Nat} {F : Nat} {r9 : kp_K} (C : Cx p s m args meth c G "MinistryDesksModel" cX6_asks 5 none) (κ : kp_K) (v1 : Int32) (v2 : Int32) (v3 : Int32) (s0 : Int32) (h : bX6_asks_55 F κ v1 v2 v3 s0 = some r9) : Js p l e ({ frames := 2, cells := 0, slots := 0, locals := 46 } : Room) s m args below meth c G 5 (MQ below (je_Q G none (en2 G r9 dyn) sz) args s 0 0 (je_A G)) (en2 G κ dyn) sz 0 0 55 [(0, .ref (G.2.1 + 66)), (1, .int v1), (2, .int v2), (3, .int v3)] [.int s0] := by
  unfold bX6_asks_55 at h
  refine je_istore C dX6_asks_55 57 rfl (Nat.le_of_ble_eq_true rfl) [(4, .int s0), (0, .ref (G.2.1 + 66)), (1, .int v1), (2, .int v2), (3, .int v3)] rfl ?_
  refine je_aload_n C dX6_asks_57 58 rfl 1 rfl ?_
  refine gX6_112 C dX6_asks_58 61 rfl ?_
  refine je_bipush C (16) dX6_asks_61 63 rfl bp_16 ?_
  refine je_iload_n C dX6_asks_63 64 rfl 2 rfl ?_
  refine je_imul C dX6_asks_64 65 rfl ?_
  refine je_iload_n C dX6_asks_65 66 rfl 3 rfl ?_
  refine je_iadd C dX6_asks_66 67 rfl ?_
  refine je_iload_n C dX6_asks_67 68 rfl 4 rfl ?_
  refine je_if_eq C 75 dX6_asks_68 71 rfl rfl h (fun h => ?_) (fun h => ?_)
  · refine je_iload C dX6_asks_75 77 rfl 0 rfl ?_
    refine je_if_eq C 84 dX6_asks_77 80 rfl rfl h (fun h => ?_) (fun h => ?_)
    · refine je_iconst C (0) dX6_asks_84 85 rfl ic_0 ?_
      refine je_sub [1, 2, 3, 0] [(0, .ref (G.2.1 + 66)), (1, .int v1), (2, .int v2), (4, .int s0)] rfl ?_
      exact wX6_asks_85 C κ v1 v2 s0 (0 : Int32) (((16 : Int32) * v1) + v2) h
    refine je_iconst C (2) dX6_asks_80 81 rfl ic_2 ?_
    refine je_goto C 85 dX6_asks_81 rfl ?_
    refine je_sub [1, 2, 3, 0] [(0, .ref (G.2.1 + 66)), (1, .int v1), (2, .int v2), (4, .int s0)] rfl ?_
    exact wX6_asks_85 C κ v1 v2 s0 (2 : Int32) (((16 : Int32) * v1) + v2) h
  refine je_iconst C (1) dX6_asks_71 72 rfl ic_1 ?_
  refine je_goto C 85 dX6_asks_72 rfl ?_
  refine je_sub [1, 2, 3, 0] [(0, .ref (G.2.1 + 66)), (1, .int v1), (2, .int v2), (4, .int s0)] rfl ?_
  exact wX6_asks_85 C κ v1 v2 s0 (1 : Int32) (((16 : Int32) * v1) + v2) h
set_option maxHeartbeats 4000000 in
theorem wX6_asks_54 {p : Program} {l : Launch} {e : Env} {s : State} {m : MethodId} {args : Array Value} {below : List Frame} {meth : Method} {c : Code} {G : je_G} {dyn : Nat → Option je_E} {sz : Nat} {F : Nat} {r9 : kp_K} (C : Cx p s m args meth c G "MinistryDesksModel" cX6_asks 5 none) (κ : kp_K) (v1 : Int32) (v2 : Int32) (v3 : Int32) (h : bX6_asks_54 F κ v1 v2 v3 = some r9) : Js p l e ({ frames := 2, cells := 0, slots := 0, locals := 46 } : Room) s m args below meth c G 5 (MQ below (je_Q G none (en2 G r9 dyn) sz) args s 0 0 (je_A G)) (en2 G κ dyn) sz 0 0 54 [(0, .ref (G.2.1 + 66)), (1, .int v1), (2, .int v2), (3, .int v3)] [] := by
  unfold bX6_asks_54 at h
  refine je_iconst C (0) dX6_asks_54 55 rfl ic_0 ?_
  exact wX6_asks_55 C κ v1 v2 v3 (0 : Int32) h
set_option maxHeartbeats 4000000 in
theorem wX6_asks_26 {p : Program} {l : Launch} {e : Env} {s : State} {m : MethodId} {args : Array Value} {below : List Frame} {meth : Method} {c : Code} {G : je_G} {dyn : Nat → Option je_E} {sz : Nat} {F : Nat} {r9 : kp_K} (C : Cx p s m args meth c G "MinistryDesksModel" cX6_asks 5 none) (κ : kp_K) (v1 : Int32) (v2 : Int32) (s0 : Int32) (h : bX6_asks_26 F κ v1 v2 s0 = some r9) : Js p l e ({ frames := 2, cells := 0, slots := 0, locals := 46 } : Room) s m args below meth c G 5 (MQ below (je_Q G none (en2 G r9 dyn) sz) args s 0 0 (je_A G)) (en2 G κ dyn) sz 0 0 26 [(0, .ref (G.2.1 + 66)), (1, .int v1), (2, .int v2)] [.int s0] := by
  unfold bX6_asks_26 at h
  refine je_istore_n C dX6_asks_26 27 rfl (Nat.le_of_ble_eq_true rfl) [(3, .int s0), (0, .ref (G.2.1 + 66)), (1, .int v1), (2, .int v2)] rfl ?_
  refine je_iload_n C dX6_asks_27 28 rfl 0 rfl ?_
  refine je_if_ne C 54 dX6_asks_28 31 rfl rfl h (fun h => ?_) (fun h => ?_)
  · refine je_sub [1, 2, 3, 0] [(0, .ref (G.2.1 + 66)), (1, .int v1), (2, .int v2), (3, .int s0)] rfl ?_
    exact wX6_asks_54 C κ v1 v2 s0 h
  refine je_aload_n C dX6_asks_31 32 rfl 1 rfl ?_
  refine je_aload_n C dX6_asks_32 33 rfl 1 rfl ?_
  refine gX6_49 C dX6_asks_33 36 rfl ?_
  refine je_iload_n C dX6_asks_36 37 rfl 3 rfl ?_
  refine jk_iald C kd80 dX6_asks_37 38 rfl h (fun h => ?_)
  refine je_aload_n C dX6_asks_38 39 rfl 1 rfl ?_
  refine gX6_43 C dX6_asks_39 42 rfl ?_
  refine je_iload_n C dX6_asks_42 43 rfl 3 rfl ?_
  refine jk_iald C kd78 dX6_asks_43 44 rfl h (fun h => ?_)
  obtain ⟨t44, hg, h⟩ := p_cl_inv h
  refine je_callVi (As := [.int (κ.1 80 v2.toNatClampNeg), .int (κ.1 78 v2.toNatClampNeg)]) (rest := []) C (metX6_hasCome hg) (en2_at kd66) rfl hdX6_hasCome rfl cwX6_449 rfl ⟨Nat.le_of_ble_eq_true rfl, Nat.le_of_ble_eq_true rfl⟩ (Nat.le_of_ble_eq_true rfl) dX6_asks_44 47 rfl ⟨Nat.le_refl _, Nat.le_refl _⟩ ?_
  refine je_if_eq C 54 dX6_asks_47 50 rfl rfl h (fun h => ?_) (fun h => ?_)
  · refine je_sub [1, 2, 3, 0] [(0, .ref (G.2.1 + 66)), (1, .int v1), (2, .int v2), (3, .int s0)] rfl ?_
    exact wX6_asks_54 C κ v1 v2 s0 h
  refine je_iconst C (1) dX6_asks_50 51 rfl ic_1 ?_
  refine je_goto C 55 dX6_asks_51 rfl ?_
  refine je_sub [1, 2, 3, 0] [(0, .ref (G.2.1 + 66)), (1, .int v1), (2, .int v2), (3, .int s0)] rfl ?_
  exact wX6_asks_55 C κ v1 v2 s0 (1 : Int32) h
set_option maxHeartbeats 4000000 in
theorem metX6_asks {l : Launch} {G : je_G} {dyn : Nat → Option je_E} {sz : Nat} {F : Nat} {κ : kp_K} {v1 : Int32} {v2 : Int32} {r9 : kp_K} (h : pX6_asks F κ v1 v2 = some r9) : MetS l G yX6_asks cX6_asks 5 none 2 46 0 0 [.ref (G.2.1 + 66), .int v1, .int v2] (en2 G κ dyn) sz none (en2 G r9 dyn) sz := by
  refine je_met "MinistryDesksModel" rfl (by decide +kernel) (Nat.le_of_ble_eq_true rfl) [(0, .ref (G.2.1 + 66)), (1, .int v1), (2, .int v2)] rfl (fun p e s m args below meth c C => ?_)
  unfold pX6_asks at h
  refine je_aload_n C dX6_asks_0 1 rfl 0 rfl ?_
  refine je_iload_n C dX6_asks_1 2 rfl 1 rfl ?_
  refine je_aload_n C dX6_asks_2 3 rfl 0 rfl ?_
  refine gX6_46 C dX6_asks_3 6 rfl ?_
  refine je_iload_n C dX6_asks_6 7 rfl 2 rfl ?_
  refine jk_iald C kd79 dX6_asks_7 8 rfl h (fun h => ?_)
  refine je_aload_n C dX6_asks_8 9 rfl 0 rfl ?_
  refine gX6_49 C dX6_asks_9 12 rfl ?_
  refine je_iload_n C dX6_asks_12 13 rfl 2 rfl ?_
  refine jk_iald C kd80 dX6_asks_13 14 rfl h (fun h => ?_)
  obtain ⟨t14, hg, h⟩ := p_cl_inv h
  refine je_callVi (As := [.int v1, .int (κ.1 79 v2.toNatClampNeg), .int (κ.1 80 v2.toNatClampNeg)]) (rest := []) C (metX6_lineOf hg) (en2_at kd66) rfl hdX6_lineOf rfl cwX6_401 rfl ⟨Nat.le_of_ble_eq_true rfl, Nat.le_of_ble_eq_true rfl⟩ (Nat.le_of_ble_eq_true rfl) dX6_asks_14 17 rfl ⟨Nat.le_refl _, Nat.le_refl _⟩ ?_
  refine je_iconst C (-1) dX6_asks_17 18 rfl ic_m1 ?_
  refine je_icmp_eq C 25 dX6_asks_18 21 rfl rfl h (fun h => ?_) (fun h => ?_)
  · refine je_iconst C (0) dX6_asks_25 26 rfl ic_0 ?_
    exact wX6_asks_26 C κ v1 v2 (0 : Int32) h
  refine je_iconst C (1) dX6_asks_21 22 rfl ic_1 ?_
  refine je_goto C 26 dX6_asks_22 rfl ?_
  exact wX6_asks_26 C κ v1 v2 (1 : Int32) h
theorem hdX6_asks : je_hd yX6_asks 2 := ⟨by decide +kernel, by decide +kernel, by decide +kernel⟩
theorem hdX6_burns : je_hd yX6_burns 2 := ⟨by decide +kernel, by decide +kernel, by decide +kernel⟩
theorem hdX6_noon : je_hd yX6_noon 1 := ⟨by decide +kernel, by decide +kernel, by decide +kernel⟩
theorem cwX6_439 : GoodIn lw_all (wsV "MinistryDesksModel" 439 "MinistryDesksModel" yX6_noon (ws_ yX6_noon cX6_noon 3 none)) := lw_V q2169 q2171 qs129 q169 q2172
theorem cwX6_442 : GoodIn lw_all (wsV "MinistryDesksModel" 442 "MinistryDesksModel" yX6_burns (ws_ yX6_burns cX6_burns 4 (some .boolean))) := lw_V q2181 q2183 qs132 q169 q2184
theorem cwX6_446 : GoodIn lw_all (wsV "MinistryDesksModel" 446 "MinistryDesksModel" yX6_asks (ws_ yX6_asks cX6_asks 5 none)) := lw_V q2185 q2187 qs133 q169 q2188
set_option maxHeartbeats 4000000 in
theorem wX6_passes_290 {p : Program} {l : Launch} {e : Env} {s : State} {m : MethodId} {args : Array Value} {below : List Frame} {meth : Method} {c : Code} {G : je_G} {dyn : Nat → Option je_E} {sz : Nat} {F : Nat} {r9 : kp_K} (C : Cx p s m args meth c G "MinistryDesksModel" cX6_passes 5 none) : ∀ (n : Nat) (κ : kp_K) (v1 : Int32) (v2 : Int32) (v3 : Int32), bX6_passes_290 F n κ v1 v2 v3 = some r9 → Js p l e ({ frames := 8, cells := 0, slots := 0, locals := 205 } : Room) s m args below meth c G 5 (MQ below (je_Q G none (en2 G r9 dyn) sz) args s 0 0 (je_A G)) (en2 G κ dyn) sz 0 0 290 [(0, .ref (G.2.1 + 66)), (1, .int v1), (2, .int v2), (3, .int v3)] [] := by
  intro n
  induction n with
  | zero =>
    intro κ v1 v2 v3 h
    cases h
  | succ n ih =>
    intro κ v1 v2 v3 h
    rw [bX6_passes_290] at h
    refine je_iload_n C dX6_passes_290 291 rfl 3 rfl ?_
    refine je_aload_n C dX6_passes_291 292 rfl 0 rfl ?_
    refine gX6_13 C dX6_passes_292 295 rfl ?_
    refine je_iconst C (0) dX6_passes_295 296 rfl ic_0 ?_
    refine jk_iald C kd68 dX6_passes_296 297 rfl h (fun h => ?_)
    refine je_icmp_ge C 359 dX6_passes_297 300 rfl rfl h (fun h => ?_) (fun h => ?_)
    · refine je_aload_n C dX6_passes_359 360 rfl 0 rfl ?_
      refine gX6_87 C dX6_passes_360 363 rfl ?_
      refine je_iload_n C dX6_passes_363 364 rfl 1 rfl ?_
      refine je_dup2 C dX6_passes_364 365 rfl rfl rfl ?_
      refine jk_iald C kd91 dX6_passes_365 366 rfl h (fun h => ?_)
      refine je_iconst C (1) dX6_passes_366 367 rfl ic_1 ?_
      refine je_iadd C dX6_passes_367 368 rfl ?_
      refine jk_iast C kd91 dX6_passes_368 369 rfl h (fun h => ?_)
      refine jk_lt h (fun k368 h => ?_)
      cases h
      exact je_vret C dX6_passes_369
    refine je_iconst C (4) dX6_passes_300 301 rfl ic_4 ?_
    refine je_iload_n C dX6_passes_301 302 rfl 1 rfl ?_
    refine je_imul C dX6_passes_302 303 rfl ?_
    refine je_iload_n C dX6_passes_303 304 rfl 3 rfl ?_
    refine je_iadd C dX6_passes_304 305 rfl ?_
    refine je_lti h (fun t305 h => ?_)
    refine je_istore C dX6_passes_305 307 rfl (Nat.le_of_ble_eq_true rfl) [(4, .int t305), (0, .ref (G.2.1 + 66)), (1, .int v1), (2, .int v2), (3, .int v3)] rfl ?_
    refine je_aload_n C dX6_passes_307 308 rfl 1 rfl ?_
    refine gX6_105 C dX6_passes_308 311 rfl ?_
    refine je_iload C dX6_passes_311 313 rfl 0 rfl ?_
    refine jk_iald C kd97 dX6_passes_313 314 rfl h (fun h => ?_)
    refine je_iconst C (-1) dX6_passes_314 315 rfl ic_m1 ?_
    refine je_icmp_ne C 353 dX6_passes_315 318 rfl rfl h (fun h => ?_) (fun h => ?_)
    · refine je_iinc C (1) dX6_passes_353 356 rfl 4 rfl ic_1 (Nat.le_of_ble_eq_true rfl) [(3, .int (v3 + (1 : Int32))), (4, .int t305), (0, .ref (G.2.1 + 66)), (1, .int v1), (2, .int v2)] rfl ?_
      refine je_goto C 290 dX6_passes_356 rfl ?_
      refine je_sub [2, 3, 4, 0] [(0, .ref (G.2.1 + 66)), (1, .int v1), (2, .int v2), (3, .int (v3 + (1 : Int32)))] rfl ?_
      exact ih κ v1 v2 (v3 + (1 : Int32)) h
    refine je_aload_n C dX6_passes_318 319 rfl 1 rfl ?_
    refine gX6_102 C dX6_passes_319 322 rfl ?_
    refine je_iload C dX6_passes_322 324 rfl 0 rfl ?_
    refine jk_iald C kd96 dX6_passes_324 325 rfl h (fun h => ?_)
    refine je_if_le C 353 dX6_passes_325 328 rfl rfl h (fun h => ?_) (fun h => ?_)
    · refine je_iinc C (1) dX6_passes_353 356 rfl 4 rfl ic_1 (Nat.le_of_ble_eq_true rfl) [(3, .int (v3 + (1 : Int32))), (4, .int t305), (0, .ref (G.2.1 + 66)), (1, .int v1), (2, .int v2)] rfl ?_
      refine je_goto C 290 dX6_passes_356 rfl ?_
      refine je_sub [2, 3, 4, 0] [(0, .ref (G.2.1 + 66)), (1, .int v1), (2, .int v2), (3, .int (v3 + (1 : Int32)))] rfl ?_
      exact ih κ v1 v2 (v3 + (1 : Int32)) h
    refine je_aload_n C dX6_passes_328 329 rfl 1 rfl ?_
    refine gX6_102 C dX6_passes_329 332 rfl ?_
    refine je_iload C dX6_passes_332 334 rfl 0 rfl ?_
    refine jk_iald C kd96 dX6_passes_334 335 rfl h (fun h => ?_)
    refine je_aload_n C dX6_passes_335 336 rfl 1 rfl ?_
    refine gX6_13 C dX6_passes_336 339 rfl ?_
    refine je_bipush C (6) dX6_passes_339 341 rfl bp_6 ?_
    refine jk_iald C kd68 dX6_passes_341 342 rfl h (fun h => ?_)
    refine je_icmp_lt C 353 dX6_passes_342 345 rfl rfl h (fun h => ?_) (fun h => ?_)
    · refine je_iinc C (1) dX6_passes_353 356 rfl 4 rfl ic_1 (Nat.le_of_ble_eq_true rfl) [(3, .int (v3 + (1 : Int32))), (4, .int t305), (0, .ref (G.2.1 + 66)), (1, .int v1), (2, .int v2)] rfl ?_
      refine je_goto C 290 dX6_passes_356 rfl ?_
      refine je_sub [2, 3, 4, 0] [(0, .ref (G.2.1 + 66)), (1, .int v1), (2, .int v2), (3, .int (v3 + (1 : Int32)))] rfl ?_
      exact ih κ v1 v2 (v3 + (1 : Int32)) h
    refine je_aload_n C dX6_passes_345 346 rfl 1 rfl ?_
    refine gX6_105 C dX6_passes_346 349 rfl ?_
    refine je_iload C dX6_passes_349 351 rfl 0 rfl ?_
    refine je_iload_n C dX6_passes_351 352 rfl 3 rfl ?_
    refine jk_iast C kd97 dX6_passes_352 353 rfl h (fun h => ?_)
    refine jk_lt h (fun k352 h => ?_)
    refine je_iinc C (1) dX6_passes_353 356 rfl 4 rfl ic_1 (Nat.le_of_ble_eq_true rfl) [(3, .int (v3 + (1 : Int32))), (4, .int t305), (0, .ref (G.2.1 + 66)), (1, .int v1), (2, .int v2)] rfl ?_
    refine je_goto C 290 dX6_passes_356 rfl ?_
    refine je_sub [2, 3, 4, 0] [(0, .ref (G.2.1 + 66)), (1, .int v1), (2, .int v2), (3, .int (v3 + (1 : Int32)))] rfl ?_
    exact ih k352 v1 v2 (v3 + (1 : Int32)) h
set_option maxHeartbeats 4000000 in
theorem wX6_passes_256 {p : Program} {l : Launch} {e : Env} {s : State} {m : MethodId} {args : Array Value} {below : List Frame} {meth : Method} {c : Code} {G : je_G} {dyn : Nat → Option je_E} {sz : Nat} {F : Nat} {r9 : kp_K} (C : Cx p s m args meth c G "MinistryDesksModel" cX6_passes 5 none) : ∀ (n : Nat) (κ : kp_K) (v1 : Int32) (v2 : Int32) (v3 : Int32), bX6_passes_256 F n κ v1 v2 v3 = some r9 → Js p l e ({ frames := 8, cells := 0, slots := 0, locals := 205 } : Room) s m args below meth c G 5 (MQ below (je_Q G none (en2 G r9 dyn) sz) args s 0 0 (je_A G)) (en2 G κ dyn) sz 0 0 256 [(0, .ref (G.2.1 + 66)), (1, .int v1), (2, .int v2), (3, .int v3)] [] := by
  intro n
  induction n with
  | zero =>
    intro κ v1 v2 v3 h
    cases h
  | succ n ih =>
    intro κ v1 v2 v3 h
    rw [bX6_passes_256] at h
    refine je_iload_n C dX6_passes_256 257 rfl 3 rfl ?_
    refine je_aload_n C dX6_passes_257 258 rfl 0 rfl ?_
    refine gX6_13 C dX6_passes_258 261 rfl ?_
    refine je_iconst C (3) dX6_passes_261 262 rfl ic_3 ?_
    refine jk_iald C kd68 dX6_passes_262 263 rfl h (fun h => ?_)
    refine je_icmp_ge C 288 dX6_passes_263 266 rfl rfl h (fun h => ?_) (fun h => ?_)
    · refine je_iconst C (0) dX6_passes_288 289 rfl ic_0 ?_
      refine je_istore_n C dX6_passes_289 290 rfl (Nat.le_of_ble_eq_true rfl) [(3, .int (0 : Int32)), (0, .ref (G.2.1 + 66)), (1, .int v1), (2, .int v2)] rfl ?_
      refine je_sub [1, 2, 3, 0] [(0, .ref (G.2.1 + 66)), (1, .int v1), (2, .int v2), (3, .int (0 : Int32))] rfl ?_
      exact wX6_passes_290 C F κ v1 v2 (0 : Int32) h
    refine je_aload_n C dX6_passes_266 267 rfl 0 rfl ?_
    refine gX6_43 C dX6_passes_267 270 rfl ?_
    refine je_iload_n C dX6_passes_270 271 rfl 3 rfl ?_
    refine jk_iald C kd78 dX6_passes_271 272 rfl h (fun h => ?_)
    refine je_iload_n C dX6_passes_272 273 rfl 2 rfl ?_
    refine je_icmp_ne C 282 dX6_passes_273 276 rfl rfl h (fun h => ?_) (fun h => ?_)
    · refine je_iinc C (1) dX6_passes_282 285 rfl 3 rfl ic_1 (Nat.le_of_ble_eq_true rfl) [(3, .int (v3 + (1 : Int32))), (0, .ref (G.2.1 + 66)), (1, .int v1), (2, .int v2)] rfl ?_
      refine je_goto C 256 dX6_passes_285 rfl ?_
      refine je_sub [1, 2, 3, 0] [(0, .ref (G.2.1 + 66)), (1, .int v1), (2, .int v2), (3, .int (v3 + (1 : Int32)))] rfl ?_
      exact ih κ v1 v2 (v3 + (1 : Int32)) h
    refine je_aload_n C dX6_passes_276 277 rfl 0 rfl ?_
    refine je_iload_n C dX6_passes_277 278 rfl 1 rfl ?_
    refine je_iload_n C dX6_passes_278 279 rfl 3 rfl ?_
    obtain ⟨k279, hg, h⟩ := p_cl_inv h
    refine je_callVv (As := [.int v1, .int v3]) (rest := []) C (metX6_asks hg) (en2_at kd66) rfl hdX6_asks rfl cwX6_446 rfl ⟨Nat.le_of_ble_eq_true rfl, Nat.le_of_ble_eq_true rfl⟩ (Nat.le_of_ble_eq_true rfl) dX6_passes_279 282 rfl ⟨Nat.le_refl _, Nat.le_refl _⟩ ?_
    refine je_iinc C (1) dX6_passes_282 285 rfl 3 rfl ic_1 (Nat.le_of_ble_eq_true rfl) [(3, .int (v3 + (1 : Int32))), (0, .ref (G.2.1 + 66)), (1, .int v1), (2, .int v2)] rfl ?_
    refine je_goto C 256 dX6_passes_285 rfl ?_
    refine je_sub [1, 2, 3, 0] [(0, .ref (G.2.1 + 66)), (1, .int v1), (2, .int v2), (3, .int (v3 + (1 : Int32)))] rfl ?_
    exact ih k279 v1 v2 (v3 + (1 : Int32)) h
set_option maxHeartbeats 4000000 in
theorem wX6_passes_197 {p : Program} {l : Launch} {e : Env} {s : State} {m : MethodId} {args : Array Value} {below : List Frame} {meth : Method} {c : Code} {G : je_G} {dyn : Nat → Option je_E} {sz : Nat} {F : Nat} {r9 : kp_K} {k172 : kp_K → Int32 → Int32 → Int32 → Option (kp_K)} (C : Cx p s m args meth c G "MinistryDesksModel" cX6_passes 5 none) (hk172 : ∀ (kq : kp_K) (q1 : Int32) (q2 : Int32) (q3 : Int32), k172 kq q1 q2 q3 = some r9 → Js p l e ({ frames := 8, cells := 0, slots := 0, locals := 205 } : Room) s m args below meth c G 5 (MQ below (je_Q G none (en2 G r9 dyn) sz) args s 0 0 (je_A G)) (en2 G kq dyn) sz 0 0 172 [(0, .ref (G.2.1 + 66)), (1, .int q1), (2, .int q2), (3, .int q3)] []) : ∀ (n : Nat) (κ : kp_K) (v1 : Int32) (v2 : Int32) (v3 : Int32) (v4 : Int32), bX6_passes_197 F k172 n κ v1 v2 v3 v4 = some r9 → Js p l e ({ frames := 8, cells := 0, slots := 0, locals := 205 } : Room) s m args below meth c G 5 (MQ below (je_Q G none (en2 G r9 dyn) sz) args s 0 0 (je_A G)) (en2 G κ dyn) sz 0 0 197 [(0, .ref (G.2.1 + 66)), (1, .int v1), (2, .int v2), (3, .int v3), (4, .int v4)] [] := by
  intro n
  induction n with
  | zero =>
    intro κ v1 v2 v3 v4 h
    cases h
  | succ n ih =>
    intro κ v1 v2 v3 v4 h
    rw [bX6_passes_197] at h
    refine je_iload C dX6_passes_197 199 rfl 4 rfl ?_
    refine je_aload_n C dX6_passes_199 200 rfl 0 rfl ?_
    refine gX6_90 C dX6_passes_200 203 rfl ?_
    refine je_iconst C (4) dX6_passes_203 204 rfl ic_4 ?_
    refine je_iload_n C dX6_passes_204 205 rfl 1 rfl ?_
    refine je_imul C dX6_passes_205 206 rfl ?_
    refine je_iload_n C dX6_passes_206 207 rfl 3 rfl ?_
    refine je_iadd C dX6_passes_207 208 rfl ?_
    refine je_lti h (fun i208 h => ?_)
    refine jk_iald C kd92 dX6_passes_208 209 rfl h (fun h => ?_)
    refine je_icmp_ge C 237 dX6_passes_209 212 rfl rfl h (fun h => ?_) (fun h => ?_)
    · refine je_aload_n C dX6_passes_237 238 rfl 0 rfl ?_
      refine gX6_90 C dX6_passes_238 241 rfl ?_
      refine je_iconst C (4) dX6_passes_241 242 rfl ic_4 ?_
      refine je_iload_n C dX6_passes_242 243 rfl 1 rfl ?_
      refine je_imul C dX6_passes_243 244 rfl ?_
      refine je_iload_n C dX6_passes_244 245 rfl 3 rfl ?_
      refine je_iadd C dX6_passes_245 246 rfl ?_
      refine je_iconst C (0) dX6_passes_246 247 rfl ic_0 ?_
      refine jk_iast C kd92 dX6_passes_247 248 rfl h (fun h => ?_)
      refine jk_lt h (fun k247 h => ?_)
      refine je_iinc C (1) dX6_passes_248 251 rfl 3 rfl ic_1 (Nat.le_of_ble_eq_true rfl) [(3, .int (v3 + (1 : Int32))), (0, .ref (G.2.1 + 66)), (1, .int v1), (2, .int v2), (4, .int v4)] rfl ?_
      refine je_goto C 172 dX6_passes_251 rfl ?_
      refine je_sub [1, 2, 3, 0] [(0, .ref (G.2.1 + 66)), (1, .int v1), (2, .int v2), (3, .int (v3 + (1 : Int32)))] rfl ?_
      exact hk172 k247 v1 v2 (v3 + (1 : Int32)) h
    refine je_aload_n C dX6_passes_212 213 rfl 0 rfl ?_
    refine je_iload_n C dX6_passes_213 214 rfl 1 rfl ?_
    refine je_iload_n C dX6_passes_214 215 rfl 3 rfl ?_
    refine je_aload_n C dX6_passes_215 216 rfl 0 rfl ?_
    refine gX6_93 C dX6_passes_216 219 rfl ?_
    refine je_iload_n C dX6_passes_219 220 rfl 1 rfl ?_
    refine je_iload_n C dX6_passes_220 221 rfl 3 rfl ?_
    refine je_iload C dX6_passes_221 223 rfl 4 rfl ?_
    obtain ⟨t223, hg, h⟩ := p_cl_inv h
    refine je_callSi (As := [.int v1, .int v3, .int v4]) (rest := [.ref (G.2.1 + 93), .int v3, .int v1, .ref (G.2.1 + 66)]) C (metX6_slot hg) hdX6_slot cwX6_375 rfl ⟨Nat.le_of_ble_eq_true rfl, Nat.le_of_ble_eq_true rfl⟩ (Nat.le_of_ble_eq_true rfl) dX6_passes_223 226 rfl ⟨Nat.le_refl _, Nat.le_refl _⟩ ?_
    refine jk_iald C kd93 dX6_passes_226 227 rfl h (fun h => ?_)
    refine je_iconst C (3) dX6_passes_227 228 rfl ic_3 ?_
    obtain ⟨k228, hg, h⟩ := p_cl_inv h
    refine je_callVv (As := [.int v1, .int v3, .int (κ.1 93 t223.toNatClampNeg), .int (3 : Int32)]) (rest := []) C (metX6_notes hg) (en2_at kd66) rfl hdX6_notes rfl cwX6_415 rfl ⟨Nat.le_of_ble_eq_true rfl, Nat.le_of_ble_eq_true rfl⟩ (Nat.le_of_ble_eq_true rfl) dX6_passes_228 231 rfl ⟨Nat.le_refl _, Nat.le_refl _⟩ ?_
    refine je_iinc C (1) dX6_passes_231 234 rfl 4 rfl ic_1 (Nat.le_of_ble_eq_true rfl) [(4, .int (v4 + (1 : Int32))), (0, .ref (G.2.1 + 66)), (1, .int v1), (2, .int v2), (3, .int v3)] rfl ?_
    refine je_goto C 197 dX6_passes_234 rfl ?_
    refine je_sub [1, 2, 3, 4, 0] [(0, .ref (G.2.1 + 66)), (1, .int v1), (2, .int v2), (3, .int v3), (4, .int (v4 + (1 : Int32)))] rfl ?_
    exact ih k228 v1 v2 v3 (v4 + (1 : Int32)) h
set_option maxHeartbeats 4000000 in
theorem wX6_passes_172 {p : Program} {l : Launch} {e : Env} {s : State} {m : MethodId} {args : Array Value} {below : List Frame} {meth : Method} {c : Code} {G : je_G} {dyn : Nat → Option je_E} {sz : Nat} {F : Nat} {r9 : kp_K} (C : Cx p s m args meth c G "MinistryDesksModel" cX6_passes 5 none) : ∀ (n : Nat) (κ : kp_K) (v1 : Int32) (v2 : Int32) (v3 : Int32), bX6_passes_172 F n κ v1 v2 v3 = some r9 → Js p l e ({ frames := 8, cells := 0, slots := 0, locals := 205 } : Room) s m args below meth c G 5 (MQ below (je_Q G none (en2 G r9 dyn) sz) args s 0 0 (je_A G)) (en2 G κ dyn) sz 0 0 172 [(0, .ref (G.2.1 + 66)), (1, .int v1), (2, .int v2), (3, .int v3)] [] := by
  intro n
  induction n with
  | zero =>
    intro κ v1 v2 v3 h
    cases h
  | succ n ih =>
    intro κ v1 v2 v3 h
    rw [bX6_passes_172] at h
    refine je_iload_n C dX6_passes_172 173 rfl 3 rfl ?_
    refine je_aload_n C dX6_passes_173 174 rfl 0 rfl ?_
    refine gX6_13 C dX6_passes_174 177 rfl ?_
    refine je_iconst C (0) dX6_passes_177 178 rfl ic_0 ?_
    refine jk_iald C kd68 dX6_passes_178 179 rfl h (fun h => ?_)
    refine je_icmp_ge C 254 dX6_passes_179 182 rfl rfl h (fun h => ?_) (fun h => ?_)
    · refine je_iconst C (0) dX6_passes_254 255 rfl ic_0 ?_
      refine je_istore_n C dX6_passes_255 256 rfl (Nat.le_of_ble_eq_true rfl) [(3, .int (0 : Int32)), (0, .ref (G.2.1 + 66)), (1, .int v1), (2, .int v2)] rfl ?_
      refine je_sub [1, 2, 3, 0] [(0, .ref (G.2.1 + 66)), (1, .int v1), (2, .int v2), (3, .int (0 : Int32))] rfl ?_
      exact wX6_passes_256 C F κ v1 v2 (0 : Int32) h
    refine je_aload_n C dX6_passes_182 183 rfl 0 rfl ?_
    refine je_iload_n C dX6_passes_183 184 rfl 3 rfl ?_
    refine je_iload_n C dX6_passes_184 185 rfl 2 rfl ?_
    obtain ⟨t185, hg, h⟩ := p_cl_inv h
    refine je_callVi (As := [.int v3, .int v2]) (rest := []) C (metX6_burns hg) (en2_at kd66) rfl hdX6_burns rfl cwX6_442 rfl ⟨Nat.le_of_ble_eq_true rfl, Nat.le_of_ble_eq_true rfl⟩ (Nat.le_of_ble_eq_true rfl) dX6_passes_185 188 rfl ⟨Nat.le_refl _, Nat.le_refl _⟩ ?_
    refine je_if_ne C 194 dX6_passes_188 191 rfl rfl h (fun h => ?_) (fun h => ?_)
    · refine je_iconst C (0) dX6_passes_194 195 rfl ic_0 ?_
      refine je_istore C dX6_passes_195 197 rfl (Nat.le_of_ble_eq_true rfl) [(4, .int (0 : Int32)), (0, .ref (G.2.1 + 66)), (1, .int v1), (2, .int v2), (3, .int v3)] rfl ?_
      refine je_sub [1, 2, 3, 4, 0] [(0, .ref (G.2.1 + 66)), (1, .int v1), (2, .int v2), (3, .int v3), (4, .int (0 : Int32))] rfl ?_
      exact wX6_passes_197 C ih F κ v1 v2 v3 (0 : Int32) h
    refine je_goto C 248 dX6_passes_191 rfl ?_
    refine je_iinc C (1) dX6_passes_248 251 rfl 3 rfl ic_1 (Nat.le_of_ble_eq_true rfl) [(3, .int (v3 + (1 : Int32))), (0, .ref (G.2.1 + 66)), (1, .int v1), (2, .int v2)] rfl ?_
    refine je_goto C 172 dX6_passes_251 rfl ?_
    refine je_sub [1, 2, 3, 0] [(0, .ref (G.2.1 + 66)), (1, .int v1), (2, .int v2), (3, .int (v3 + (1 : Int32)))] rfl ?_
    exact ih κ v1 v2 (v3 + (1 : Int32)) h
set_option maxHeartbeats 4000000 in
theorem wX6_passes_108 {p : Program} {l : Launch} {e : Env} {s : State} {m : MethodId} {args : Array Value} {below : List Frame} {meth : Method} {c : Code} {G : je_G} {dyn : Nat → Option je_E} {sz : Nat} {F : Nat} {r9 : kp_K} (C : Cx p s m args meth c G "MinistryDesksModel" cX6_passes 5 none) : ∀ (n : Nat) (κ : kp_K) (v1 : Int32) (v2 : Int32) (v3 : Int32), bX6_passes_108 F n κ v1 v2 v3 = some r9 → Js p l e ({ frames := 8, cells := 0, slots := 0, locals := 205 } : Room) s m args below meth c G 5 (MQ below (je_Q G none (en2 G r9 dyn) sz) args s 0 0 (je_A G)) (en2 G κ dyn) sz 0 0 108 [(0, .ref (G.2.1 + 66)), (1, .int v1), (2, .int v2), (3, .int v3)] [] := by
  intro n
  induction n with
  | zero =>
    intro κ v1 v2 v3 h
    cases h
  | succ n ih =>
    intro κ v1 v2 v3 h
    rw [bX6_passes_108] at h
    refine je_iload_n C dX6_passes_108 109 rfl 3 rfl ?_
    refine je_aload_n C dX6_passes_109 110 rfl 0 rfl ?_
    refine gX6_13 C dX6_passes_110 113 rfl ?_
    refine je_iconst C (2) dX6_passes_113 114 rfl ic_2 ?_
    refine jk_iald C kd68 dX6_passes_114 115 rfl h (fun h => ?_)
    refine je_icmp_ge C 165 dX6_passes_115 118 rfl rfl h (fun h => ?_) (fun h => ?_)
    · refine je_aload_n C dX6_passes_165 166 rfl 0 rfl ?_
      refine je_iload_n C dX6_passes_166 167 rfl 1 rfl ?_
      obtain ⟨k167, hg, h⟩ := p_cl_inv h
      refine je_callVv (As := [.int v1]) (rest := []) C (metX6_noon hg) (en2_at kd66) rfl hdX6_noon rfl cwX6_439 rfl ⟨Nat.le_of_ble_eq_true rfl, Nat.le_of_ble_eq_true rfl⟩ (Nat.le_of_ble_eq_true rfl) dX6_passes_167 170 rfl ⟨Nat.le_refl _, Nat.le_refl _⟩ ?_
      refine je_iconst C (0) dX6_passes_170 171 rfl ic_0 ?_
      refine je_istore_n C dX6_passes_171 172 rfl (Nat.le_of_ble_eq_true rfl) [(3, .int (0 : Int32)), (0, .ref (G.2.1 + 66)), (1, .int v1), (2, .int v2)] rfl ?_
      refine je_sub [1, 2, 3, 0] [(0, .ref (G.2.1 + 66)), (1, .int v1), (2, .int v2), (3, .int (0 : Int32))] rfl ?_
      exact wX6_passes_172 C F k167 v1 v2 (0 : Int32) h
    refine je_aload_n C dX6_passes_118 119 rfl 0 rfl ?_
    refine gX6_31 C dX6_passes_119 122 rfl ?_
    refine je_iload_n C dX6_passes_122 123 rfl 3 rfl ?_
    refine jk_iald C kd74 dX6_passes_123 124 rfl h (fun h => ?_)
    refine je_iload_n C dX6_passes_124 125 rfl 2 rfl ?_
    refine je_icmp_ne C 159 dX6_passes_125 128 rfl rfl h (fun h => ?_) (fun h => ?_)
    · refine je_iinc C (1) dX6_passes_159 162 rfl 3 rfl ic_1 (Nat.le_of_ble_eq_true rfl) [(3, .int (v3 + (1 : Int32))), (0, .ref (G.2.1 + 66)), (1, .int v1), (2, .int v2)] rfl ?_
      refine je_goto C 108 dX6_passes_162 rfl ?_
      refine je_sub [1, 2, 3, 0] [(0, .ref (G.2.1 + 66)), (1, .int v1), (2, .int v2), (3, .int (v3 + (1 : Int32)))] rfl ?_
      exact ih κ v1 v2 (v3 + (1 : Int32)) h
    refine je_aload_n C dX6_passes_128 129 rfl 0 rfl ?_
    refine je_iload_n C dX6_passes_129 130 rfl 3 rfl ?_
    obtain ⟨t130, hg, h⟩ := p_cl_inv h
    refine je_callVi (As := [.int v3]) (rest := []) C (metX6_isComing hg) (en2_at kd66) rfl hdX6_isComing rfl cwX6_436 rfl ⟨Nat.le_of_ble_eq_true rfl, Nat.le_of_ble_eq_true rfl⟩ (Nat.le_of_ble_eq_true rfl) dX6_passes_130 133 rfl ⟨Nat.le_refl _, Nat.le_refl _⟩ ?_
    refine je_if_eq C 159 dX6_passes_133 136 rfl rfl h (fun h => ?_) (fun h => ?_)
    · refine je_iinc C (1) dX6_passes_159 162 rfl 3 rfl ic_1 (Nat.le_of_ble_eq_true rfl) [(3, .int (v3 + (1 : Int32))), (0, .ref (G.2.1 + 66)), (1, .int v1), (2, .int v2)] rfl ?_
      refine je_goto C 108 dX6_passes_162 rfl ?_
      refine je_sub [1, 2, 3, 0] [(0, .ref (G.2.1 + 66)), (1, .int v1), (2, .int v2), (3, .int (v3 + (1 : Int32)))] rfl ?_
      exact ih κ v1 v2 (v3 + (1 : Int32)) h
    refine je_aload_n C dX6_passes_136 137 rfl 0 rfl ?_
    refine je_iload_n C dX6_passes_137 138 rfl 1 rfl ?_
    refine je_aload_n C dX6_passes_138 139 rfl 0 rfl ?_
    refine gX6_34 C dX6_passes_139 142 rfl ?_
    refine je_iload_n C dX6_passes_142 143 rfl 3 rfl ?_
    refine jk_iald C kd75 dX6_passes_143 144 rfl h (fun h => ?_)
    refine je_aload_n C dX6_passes_144 145 rfl 0 rfl ?_
    refine gX6_37 C dX6_passes_145 148 rfl ?_
    refine je_iload_n C dX6_passes_148 149 rfl 3 rfl ?_
    refine jk_iald C kd76 dX6_passes_149 150 rfl h (fun h => ?_)
    refine je_aload_n C dX6_passes_150 151 rfl 0 rfl ?_
    refine gX6_40 C dX6_passes_151 154 rfl ?_
    refine je_iload_n C dX6_passes_154 155 rfl 3 rfl ?_
    refine jk_iald C kd77 dX6_passes_155 156 rfl h (fun h => ?_)
    obtain ⟨k156, hg, h⟩ := p_cl_inv h
    refine je_callVv (As := [.int v1, .int (κ.1 75 v3.toNatClampNeg), .int (κ.1 76 v3.toNatClampNeg), .int (κ.1 77 v3.toNatClampNeg)]) (rest := []) C (metX6_arrives hg) (en2_at kd66) rfl hdX6_arrives rfl cwX6_433 rfl ⟨Nat.le_of_ble_eq_true rfl, Nat.le_of_ble_eq_true rfl⟩ (Nat.le_of_ble_eq_true rfl) dX6_passes_156 159 rfl ⟨Nat.le_refl _, Nat.le_refl _⟩ ?_
    refine je_iinc C (1) dX6_passes_159 162 rfl 3 rfl ic_1 (Nat.le_of_ble_eq_true rfl) [(3, .int (v3 + (1 : Int32))), (0, .ref (G.2.1 + 66)), (1, .int v1), (2, .int v2)] rfl ?_
    refine je_goto C 108 dX6_passes_162 rfl ?_
    refine je_sub [1, 2, 3, 0] [(0, .ref (G.2.1 + 66)), (1, .int v1), (2, .int v2), (3, .int (v3 + (1 : Int32)))] rfl ?_
    exact ih k156 v1 v2 (v3 + (1 : Int32)) h
set_option maxHeartbeats 4000000 in
theorem wX6_passes_33 {p : Program} {l : Launch} {e : Env} {s : State} {m : MethodId} {args : Array Value} {below : List Frame} {meth : Method} {c : Code} {G : je_G} {dyn : Nat → Option je_E} {sz : Nat} {F : Nat} {r9 : kp_K} {k9 : kp_K → Int32 → Int32 → Int32 → Option (kp_K)} (C : Cx p s m args meth c G "MinistryDesksModel" cX6_passes 5 none) (hk9 : ∀ (kq : kp_K) (q1 : Int32) (q2 : Int32) (q3 : Int32), k9 kq q1 q2 q3 = some r9 → Js p l e ({ frames := 8, cells := 0, slots := 0, locals := 205 } : Room) s m args below meth c G 5 (MQ below (je_Q G none (en2 G r9 dyn) sz) args s 0 0 (je_A G)) (en2 G kq dyn) sz 0 0 9 [(0, .ref (G.2.1 + 66)), (1, .int q1), (2, .int q2), (3, .int q3)] []) : ∀ (n : Nat) (κ : kp_K) (v1 : Int32) (v2 : Int32) (v3 : Int32) (v4 : Int32), bX6_passes_33 F k9 n κ v1 v2 v3 v4 = some r9 → Js p l e ({ frames := 8, cells := 0, slots := 0, locals := 205 } : Room) s m args below meth c G 5 (MQ below (je_Q G none (en2 G r9 dyn) sz) args s 0 0 (je_A G)) (en2 G κ dyn) sz 0 0 33 [(0, .ref (G.2.1 + 66)), (1, .int v1), (2, .int v2), (3, .int v3), (4, .int v4)] [] := by
  intro n
  induction n with
  | zero =>
    intro κ v1 v2 v3 v4 h
    cases h
  | succ n ih =>
    intro κ v1 v2 v3 v4 h
    rw [bX6_passes_33] at h
    refine je_iload C dX6_passes_33 35 rfl 4 rfl ?_
    refine je_aload_n C dX6_passes_35 36 rfl 0 rfl ?_
    refine gX6_90 C dX6_passes_36 39 rfl ?_
    refine je_iconst C (4) dX6_passes_39 40 rfl ic_4 ?_
    refine je_iload_n C dX6_passes_40 41 rfl 1 rfl ?_
    refine je_imul C dX6_passes_41 42 rfl ?_
    refine je_iload_n C dX6_passes_42 43 rfl 3 rfl ?_
    refine je_iadd C dX6_passes_43 44 rfl ?_
    refine je_lti h (fun i44 h => ?_)
    refine jk_iald C kd92 dX6_passes_44 45 rfl h (fun h => ?_)
    refine je_icmp_ge C 100 dX6_passes_45 48 rfl rfl h (fun h => ?_) (fun h => ?_)
    · refine je_iinc C (1) dX6_passes_100 103 rfl 3 rfl ic_1 (Nat.le_of_ble_eq_true rfl) [(3, .int (v3 + (1 : Int32))), (0, .ref (G.2.1 + 66)), (1, .int v1), (2, .int v2), (4, .int v4)] rfl ?_
      refine je_goto C 9 dX6_passes_103 rfl ?_
      refine je_sub [1, 2, 3, 0] [(0, .ref (G.2.1 + 66)), (1, .int v1), (2, .int v2), (3, .int (v3 + (1 : Int32)))] rfl ?_
      exact hk9 κ v1 v2 (v3 + (1 : Int32)) h
    refine je_aload_n C dX6_passes_48 49 rfl 0 rfl ?_
    refine gX6_96 C dX6_passes_49 52 rfl ?_
    refine je_iload_n C dX6_passes_52 53 rfl 1 rfl ?_
    refine je_iload_n C dX6_passes_53 54 rfl 3 rfl ?_
    refine je_iload C dX6_passes_54 56 rfl 4 rfl ?_
    obtain ⟨t56, hg, h⟩ := p_cl_inv h
    refine je_callSi (As := [.int v1, .int v3, .int v4]) (rest := [.ref (G.2.1 + 94)]) C (metX6_slot hg) hdX6_slot cwX6_375 rfl ⟨Nat.le_of_ble_eq_true rfl, Nat.le_of_ble_eq_true rfl⟩ (Nat.le_of_ble_eq_true rfl) dX6_passes_56 59 rfl ⟨Nat.le_refl _, Nat.le_refl _⟩ ?_
    refine jk_iald C kd94 dX6_passes_59 60 rfl h (fun h => ?_)
    refine je_iload_n C dX6_passes_60 61 rfl 2 rfl ?_
    refine je_icmp_lt C 70 dX6_passes_61 64 rfl rfl h (fun h => ?_) (fun h => ?_)
    · refine je_aload_n C dX6_passes_70 71 rfl 0 rfl ?_
      refine je_iload_n C dX6_passes_71 72 rfl 1 rfl ?_
      refine je_iload_n C dX6_passes_72 73 rfl 3 rfl ?_
      refine je_aload_n C dX6_passes_73 74 rfl 0 rfl ?_
      refine gX6_93 C dX6_passes_74 77 rfl ?_
      refine je_iload_n C dX6_passes_77 78 rfl 1 rfl ?_
      refine je_iload_n C dX6_passes_78 79 rfl 3 rfl ?_
      refine je_iload C dX6_passes_79 81 rfl 4 rfl ?_
      obtain ⟨t81, hg, h⟩ := p_cl_inv h
      refine je_callSi (As := [.int v1, .int v3, .int v4]) (rest := [.ref (G.2.1 + 93), .int v3, .int v1, .ref (G.2.1 + 66)]) C (metX6_slot hg) hdX6_slot cwX6_375 rfl ⟨Nat.le_of_ble_eq_true rfl, Nat.le_of_ble_eq_true rfl⟩ (Nat.le_of_ble_eq_true rfl) dX6_passes_81 84 rfl ⟨Nat.le_refl _, Nat.le_refl _⟩ ?_
      refine jk_iald C kd93 dX6_passes_84 85 rfl h (fun h => ?_)
      refine je_iconst C (0) dX6_passes_85 86 rfl ic_0 ?_
      obtain ⟨k86, hg, h⟩ := p_cl_inv h
      refine je_callVv (As := [.int v1, .int v3, .int (κ.1 93 t81.toNatClampNeg), .int (0 : Int32)]) (rest := []) C (metX6_notes hg) (en2_at kd66) rfl hdX6_notes rfl cwX6_415 rfl ⟨Nat.le_of_ble_eq_true rfl, Nat.le_of_ble_eq_true rfl⟩ (Nat.le_of_ble_eq_true rfl) dX6_passes_86 89 rfl ⟨Nat.le_refl _, Nat.le_refl _⟩ ?_
      refine je_aload_n C dX6_passes_89 90 rfl 0 rfl ?_
      refine je_iload_n C dX6_passes_90 91 rfl 1 rfl ?_
      refine je_iload_n C dX6_passes_91 92 rfl 3 rfl ?_
      refine je_iload C dX6_passes_92 94 rfl 4 rfl ?_
      obtain ⟨k94, hg, h⟩ := p_cl_inv h
      refine je_callVv (As := [.int v1, .int v3, .int v4]) (rest := []) C (metX6_drops hg) (en2_at kd66) rfl hdX6_drops rfl cwX6_419 rfl ⟨Nat.le_of_ble_eq_true rfl, Nat.le_of_ble_eq_true rfl⟩ (Nat.le_of_ble_eq_true rfl) dX6_passes_94 97 rfl ⟨Nat.le_refl _, Nat.le_refl _⟩ ?_
      refine je_goto C 33 dX6_passes_97 rfl ?_
      exact ih k94 v1 v2 v3 v4 h
    refine je_iinc C (1) dX6_passes_64 67 rfl 4 rfl ic_1 (Nat.le_of_ble_eq_true rfl) [(4, .int (v4 + (1 : Int32))), (0, .ref (G.2.1 + 66)), (1, .int v1), (2, .int v2), (3, .int v3)] rfl ?_
    refine je_goto C 33 dX6_passes_67 rfl ?_
    refine je_sub [1, 2, 3, 4, 0] [(0, .ref (G.2.1 + 66)), (1, .int v1), (2, .int v2), (3, .int v3), (4, .int (v4 + (1 : Int32)))] rfl ?_
    exact ih κ v1 v2 v3 (v4 + (1 : Int32)) h
set_option maxHeartbeats 4000000 in
theorem wX6_passes_9 {p : Program} {l : Launch} {e : Env} {s : State} {m : MethodId} {args : Array Value} {below : List Frame} {meth : Method} {c : Code} {G : je_G} {dyn : Nat → Option je_E} {sz : Nat} {F : Nat} {r9 : kp_K} (C : Cx p s m args meth c G "MinistryDesksModel" cX6_passes 5 none) : ∀ (n : Nat) (κ : kp_K) (v1 : Int32) (v2 : Int32) (v3 : Int32), bX6_passes_9 F n κ v1 v2 v3 = some r9 → Js p l e ({ frames := 8, cells := 0, slots := 0, locals := 205 } : Room) s m args below meth c G 5 (MQ below (je_Q G none (en2 G r9 dyn) sz) args s 0 0 (je_A G)) (en2 G κ dyn) sz 0 0 9 [(0, .ref (G.2.1 + 66)), (1, .int v1), (2, .int v2), (3, .int v3)] [] := by
  intro n
  induction n with
  | zero =>
    intro κ v1 v2 v3 h
    cases h
  | succ n ih =>
    intro κ v1 v2 v3 h
    rw [bX6_passes_9] at h
    refine je_iload_n C dX6_passes_9 10 rfl 3 rfl ?_
    refine je_aload_n C dX6_passes_10 11 rfl 0 rfl ?_
    refine gX6_13 C dX6_passes_11 14 rfl ?_
    refine je_iconst C (0) dX6_passes_14 15 rfl ic_0 ?_
    refine jk_iald C kd68 dX6_passes_15 16 rfl h (fun h => ?_)
    refine je_icmp_ge C 106 dX6_passes_16 19 rfl rfl h (fun h => ?_) (fun h => ?_)
    · refine je_iconst C (0) dX6_passes_106 107 rfl ic_0 ?_
      refine je_istore_n C dX6_passes_107 108 rfl (Nat.le_of_ble_eq_true rfl) [(3, .int (0 : Int32)), (0, .ref (G.2.1 + 66)), (1, .int v1), (2, .int v2)] rfl ?_
      refine je_sub [1, 2, 3, 0] [(0, .ref (G.2.1 + 66)), (1, .int v1), (2, .int v2), (3, .int (0 : Int32))] rfl ?_
      exact wX6_passes_108 C F κ v1 v2 (0 : Int32) h
    refine je_aload_n C dX6_passes_19 20 rfl 0 rfl ?_
    refine gX6_108 C dX6_passes_20 23 rfl ?_
    refine je_iconst C (4) dX6_passes_23 24 rfl ic_4 ?_
    refine je_iload_n C dX6_passes_24 25 rfl 1 rfl ?_
    refine je_imul C dX6_passes_25 26 rfl ?_
    refine je_iload_n C dX6_passes_26 27 rfl 3 rfl ?_
    refine je_iadd C dX6_passes_27 28 rfl ?_
    refine je_iconst C (0) dX6_passes_28 29 rfl ic_0 ?_
    refine jk_zast C kd98 dX6_passes_29 30 rfl (Or.inl rfl) h (fun h => ?_)
    refine jk_lt h (fun k29 h => ?_)
    refine je_iconst C (0) dX6_passes_30 31 rfl ic_0 ?_
    refine je_istore C dX6_passes_31 33 rfl (Nat.le_of_ble_eq_true rfl) [(4, .int (0 : Int32)), (0, .ref (G.2.1 + 66)), (1, .int v1), (2, .int v2), (3, .int v3)] rfl ?_
    refine je_sub [1, 2, 3, 4, 0] [(0, .ref (G.2.1 + 66)), (1, .int v1), (2, .int v2), (3, .int v3), (4, .int (0 : Int32))] rfl ?_
    exact wX6_passes_33 C ih F k29 v1 v2 v3 (0 : Int32) h
set_option maxHeartbeats 4000000 in
theorem metX6_passes {l : Launch} {G : je_G} {dyn : Nat → Option je_E} {sz : Nat} {F : Nat} {κ : kp_K} {v1 : Int32} {r9 : kp_K} (h : pX6_passes F κ v1 = some r9) : MetS l G yX6_passes cX6_passes 5 none 8 205 0 0 [.ref (G.2.1 + 66), .int v1] (en2 G κ dyn) sz none (en2 G r9 dyn) sz := by
  refine je_met "MinistryDesksModel" rfl (by decide +kernel) (Nat.le_of_ble_eq_true rfl) [(0, .ref (G.2.1 + 66)), (1, .int v1)] rfl (fun p e s m args below meth c C => ?_)
  unfold pX6_passes at h
  refine je_aload_n C dX6_passes_0 1 rfl 0 rfl ?_
  refine gX6_87 C dX6_passes_1 4 rfl ?_
  refine je_iload_n C dX6_passes_4 5 rfl 1 rfl ?_
  refine jk_iald C kd91 dX6_passes_5 6 rfl h (fun h => ?_)
  refine je_lti h (fun t6 h => ?_)
  refine je_istore_n C dX6_passes_6 7 rfl (Nat.le_of_ble_eq_true rfl) [(2, .int t6), (0, .ref (G.2.1 + 66)), (1, .int v1)] rfl ?_
  refine je_iconst C (0) dX6_passes_7 8 rfl ic_0 ?_
  refine je_istore_n C dX6_passes_8 9 rfl (Nat.le_of_ble_eq_true rfl) [(3, .int (0 : Int32)), (2, .int t6), (0, .ref (G.2.1 + 66)), (1, .int v1)] rfl ?_
  refine je_sub [2, 3, 1, 0] [(0, .ref (G.2.1 + 66)), (1, .int v1), (2, .int t6), (3, .int (0 : Int32))] rfl ?_
  exact wX6_passes_9 C F κ v1 t6 (0 : Int32) h
theorem hdX6_passes : je_hd yX6_passes 1 := ⟨by decide +kernel, by decide +kernel, by decide +kernel⟩
theorem cwX6_455 : GoodIn lw_all (wsV "MinistryDesksModel" 455 "MinistryDesksModel" yX6_passes (ws_ yX6_passes cX6_passes 5 none)) := lw_V q2099 q2101 qs113 q169 q2102
set_option maxHeartbeats 4000000 in
theorem wX6_days_36 {p : Program} {l : Launch} {e : Env} {s : State} {m : MethodId} {args : Array Value} {below : List Frame} {meth : Method} {c : Code} {G : je_G} {dyn : Nat → Option je_E} {sz : Nat} {F : Nat} {r9 : Int32 × kp_K} (C : Cx p s m args meth c G "MinistryDesksModel" cX6_days 3 (some .int)) : ∀ (n : Nat) (κ : kp_K) (v1 : Int32) (v2 : Int32), bX6_days_36 F n κ v1 v2 = some r9 → Js p l e ({ frames := 9, cells := 0, slots := 0, locals := 229 } : Room) s m args below meth c G 3 (MQ below (je_Q G (some (.int r9.1)) (en2 G r9.2 dyn) sz) args s 0 0 (je_A G)) (en2 G κ dyn) sz 0 0 36 [(0, .ref (G.2.1 + 66)), (1, .int v1), (2, .int v2)] [] := by
  intro n
  induction n with
  | zero =>
    intro κ v1 v2 h
    cases h
  | succ n ih =>
    intro κ v1 v2 h
    rw [bX6_days_36] at h
    refine je_iload_n C dX6_days_36 37 rfl 2 rfl ?_
    refine je_iload_n C dX6_days_37 38 rfl 1 rfl ?_
    refine je_icmp_ge C 52 dX6_days_38 41 rfl rfl h (fun h => ?_) (fun h => ?_)
    · refine je_aload_n C dX6_days_52 53 rfl 0 rfl ?_
      refine gX6_87 C dX6_days_53 56 rfl ?_
      refine je_iconst C (0) dX6_days_56 57 rfl ic_0 ?_
      refine jk_iald C kd91 dX6_days_57 58 rfl h (fun h => ?_)
      cases h
      exact je_iret C dX6_days_58
    refine je_aload_n C dX6_days_41 42 rfl 0 rfl ?_
    refine je_iconst C (0) dX6_days_42 43 rfl ic_0 ?_
    obtain ⟨k43, hg, h⟩ := p_cl_inv h
    refine je_callVv (As := [.int (0 : Int32)]) (rest := []) C (metX6_passes hg) (en2_at kd66) rfl hdX6_passes rfl cwX6_455 rfl ⟨Nat.le_of_ble_eq_true rfl, Nat.le_of_ble_eq_true rfl⟩ (Nat.le_of_ble_eq_true rfl) dX6_days_43 46 rfl ⟨Nat.le_refl _, Nat.le_refl _⟩ ?_
    refine je_iinc C (1) dX6_days_46 49 rfl 2 rfl ic_1 (Nat.le_of_ble_eq_true rfl) [(2, .int (v2 + (1 : Int32))), (0, .ref (G.2.1 + 66)), (1, .int v1)] rfl ?_
    refine je_goto C 36 dX6_days_49 rfl ?_
    refine je_sub [1, 2, 0] [(0, .ref (G.2.1 + 66)), (1, .int v1), (2, .int (v2 + (1 : Int32)))] rfl ?_
    exact ih k43 v1 (v2 + (1 : Int32)) h
set_option maxHeartbeats 4000000 in
theorem metX6_days {l : Launch} {G : je_G} {dyn : Nat → Option je_E} {sz : Nat} {F : Nat} {κ : kp_K} {v1 : Int32} {r9 : Int32 × kp_K} (h : pX6_days F κ v1 = some r9) : MetS l G yX6_days cX6_days 3 (some .int) 9 229 0 0 [.ref (G.2.1 + 66), .int v1] (en2 G κ dyn) sz (some (.int r9.1)) (en2 G r9.2 dyn) sz := by
  refine je_met "MinistryDesksModel" rfl (by decide +kernel) (Nat.le_of_ble_eq_true rfl) [(0, .ref (G.2.1 + 66)), (1, .int v1)] rfl (fun p e s m args below meth c C => ?_)
  unfold pX6_days at h
  refine je_aload_n C dX6_days_0 1 rfl 0 rfl ?_
  refine je_iconst C (0) dX6_days_1 2 rfl ic_0 ?_
  refine sX6_166 C dX6_days_2 5 rfl ?_
  refine jk_lt h (fun k2 h => ?_)
  refine je_iload_n C dX6_days_5 6 rfl 1 rfl ?_
  refine je_if_lt C 28 dX6_days_6 9 rfl rfl h (fun h => ?_) (fun h => ?_)
  · refine je_iconst C (-1) dX6_days_28 29 rfl ic_m1 ?_
    cases h
    exact je_iret C dX6_days_29
  refine je_iload_n C dX6_days_9 10 rfl 1 rfl ?_
  refine je_bipush C (61) dX6_days_10 12 rfl bp_61 ?_
  refine je_icmp_gt C 28 dX6_days_12 15 rfl rfl h (fun h => ?_) (fun h => ?_)
  · refine je_iconst C (-1) dX6_days_28 29 rfl ic_m1 ?_
    cases h
    exact je_iret C dX6_days_29
  refine je_aload_n C dX6_days_15 16 rfl 0 rfl ?_
  refine gX6_87 C dX6_days_16 19 rfl ?_
  refine je_iconst C (0) dX6_days_19 20 rfl ic_0 ?_
  refine jk_iald C kd91 dX6_days_20 21 rfl h (fun h => ?_)
  refine je_iload_n C dX6_days_21 22 rfl 1 rfl ?_
  refine je_iadd C dX6_days_22 23 rfl ?_
  refine je_bipush C (61) dX6_days_23 25 rfl bp_61 ?_
  refine je_icmp_le C 30 dX6_days_25 28 rfl rfl h (fun h => ?_) (fun h => ?_)
  · refine je_aload_n C dX6_days_30 31 rfl 0 rfl ?_
    obtain ⟨k31, hg, h⟩ := p_cl_inv h
    refine je_callVv (As := []) (rest := []) C (metX6_plain hg) (en2_at kd66) rfl hdX6_plain rfl cwX6_340 rfl ⟨Nat.le_of_ble_eq_true rfl, Nat.le_of_ble_eq_true rfl⟩ (Nat.le_of_ble_eq_true rfl) dX6_days_31 34 rfl ⟨Nat.le_refl _, Nat.le_refl _⟩ ?_
    refine je_iconst C (0) dX6_days_34 35 rfl ic_0 ?_
    refine je_istore_n C dX6_days_35 36 rfl (Nat.le_of_ble_eq_true rfl) [(2, .int (0 : Int32)), (0, .ref (G.2.1 + 66)), (1, .int v1)] rfl ?_
    refine je_sub [1, 2, 0] [(0, .ref (G.2.1 + 66)), (1, .int v1), (2, .int (0 : Int32))] rfl ?_
    exact wX6_days_36 C F k31 v1 (0 : Int32) h
  refine je_iconst C (-1) dX6_days_28 29 rfl ic_m1 ?_
  cases h
  exact je_iret C dX6_days_29
set_option maxHeartbeats 4000000 in
theorem metX6_went {l : Launch} {G : je_G} {dyn : Nat → Option je_E} {sz : Nat} {κ : kp_K} {v1 : Int32} {v2 : Int32} {r9 : Int32 × kp_K} (h : pX6_went κ v1 v2 = some r9) : MetS l G yX6_went cX6_went 3 (some .int) 0 0 0 0 [.ref (G.2.1 + 66), .int v1, .int v2] (en2 G κ dyn) sz (some (.int r9.1)) (en2 G r9.2 dyn) sz := by
  refine je_met "MinistryDesksModel" rfl (by decide +kernel) (Nat.le_of_ble_eq_true rfl) [(0, .ref (G.2.1 + 66)), (1, .int v1), (2, .int v2)] rfl (fun p e s m args below meth c C => ?_)
  unfold pX6_went at h
  refine je_aload_n C dX6_went_0 1 rfl 0 rfl ?_
  refine je_iconst C (0) dX6_went_1 2 rfl ic_0 ?_
  refine sX6_166 C dX6_went_2 5 rfl ?_
  refine jk_lt h (fun k2 h => ?_)
  refine je_iload_n C dX6_went_5 6 rfl 1 rfl ?_
  refine je_iconst C (-1) dX6_went_6 7 rfl ic_m1 ?_
  refine je_icmp_ne C 25 dX6_went_7 10 rfl rfl h (fun h => ?_) (fun h => ?_)
  · refine je_iload_n C dX6_went_25 26 rfl 1 rfl ?_
    refine je_if_lt C 38 dX6_went_26 29 rfl rfl h (fun h => ?_) (fun h => ?_)
    · refine je_iconst C (-1) dX6_went_38 39 rfl ic_m1 ?_
      cases h
      exact je_iret C dX6_went_39
    refine je_iload_n C dX6_went_29 30 rfl 2 rfl ?_
    refine je_if_lt C 38 dX6_went_30 33 rfl rfl h (fun h => ?_) (fun h => ?_)
    · refine je_iconst C (-1) dX6_went_38 39 rfl ic_m1 ?_
      cases h
      exact je_iret C dX6_went_39
    refine je_iload_n C dX6_went_33 34 rfl 2 rfl ?_
    refine je_iconst C (3) dX6_went_34 35 rfl ic_3 ?_
    refine je_icmp_le C 40 dX6_went_35 38 rfl rfl h (fun h => ?_) (fun h => ?_)
    · refine je_iload_n C dX6_went_40 41 rfl 1 rfl ?_
      refine je_aload_n C dX6_went_41 42 rfl 0 rfl ?_
      refine gX6_115 C dX6_went_42 45 rfl ?_
      refine je_iconst C (0) dX6_went_45 46 rfl ic_0 ?_
      refine jk_iald C kd100 dX6_went_46 47 rfl h (fun h => ?_)
      refine je_icmp_lt C 53 dX6_went_47 50 rfl rfl h (fun h => ?_) (fun h => ?_)
      · refine je_iload_n C dX6_went_53 54 rfl 2 rfl ?_
        refine je_if_ne C 66 dX6_went_54 57 rfl rfl h (fun h => ?_) (fun h => ?_)
        · refine je_iload_n C dX6_went_66 67 rfl 2 rfl ?_
          refine je_iconst C (1) dX6_went_67 68 rfl ic_1 ?_
          refine je_icmp_ne C 80 dX6_went_68 71 rfl rfl h (fun h => ?_) (fun h => ?_)
          · refine je_iload_n C dX6_went_80 81 rfl 2 rfl ?_
            refine je_iconst C (2) dX6_went_81 82 rfl ic_2 ?_
            refine je_icmp_ne C 94 dX6_went_82 85 rfl rfl h (fun h => ?_) (fun h => ?_)
            · refine je_aload_n C dX6_went_94 95 rfl 0 rfl ?_
              refine gX6_127 C dX6_went_95 98 rfl ?_
              refine je_iload_n C dX6_went_98 99 rfl 1 rfl ?_
              refine jk_iald C kd104 dX6_went_99 100 rfl h (fun h => ?_)
              cases h
              exact je_iret C dX6_went_100
            refine je_aload_n C dX6_went_85 86 rfl 0 rfl ?_
            refine gX6_124 C dX6_went_86 89 rfl ?_
            refine je_iload_n C dX6_went_89 90 rfl 1 rfl ?_
            refine jk_iald C kd103 dX6_went_90 91 rfl h (fun h => ?_)
            refine je_goto C 100 dX6_went_91 rfl ?_
            cases h
            exact je_iret C dX6_went_100
          refine je_aload_n C dX6_went_71 72 rfl 0 rfl ?_
          refine gX6_121 C dX6_went_72 75 rfl ?_
          refine je_iload_n C dX6_went_75 76 rfl 1 rfl ?_
          refine jk_iald C kd102 dX6_went_76 77 rfl h (fun h => ?_)
          refine je_goto C 100 dX6_went_77 rfl ?_
          cases h
          exact je_iret C dX6_went_100
        refine je_aload_n C dX6_went_57 58 rfl 0 rfl ?_
        refine gX6_118 C dX6_went_58 61 rfl ?_
        refine je_iload_n C dX6_went_61 62 rfl 1 rfl ?_
        refine jk_iald C kd101 dX6_went_62 63 rfl h (fun h => ?_)
        refine je_goto C 100 dX6_went_63 rfl ?_
        cases h
        exact je_iret C dX6_went_100
      refine je_bipush C (-2) dX6_went_50 52 rfl bp_m2 ?_
      cases h
      exact je_iret C dX6_went_52
    refine je_iconst C (-1) dX6_went_38 39 rfl ic_m1 ?_
    cases h
    exact je_iret C dX6_went_39
  refine je_iload_n C dX6_went_10 11 rfl 2 rfl ?_
  refine je_if_ne C 23 dX6_went_11 14 rfl rfl h (fun h => ?_) (fun h => ?_)
  · refine je_iconst C (-1) dX6_went_23 24 rfl ic_m1 ?_
    cases h
    exact je_iret C dX6_went_24
  refine je_aload_n C dX6_went_14 15 rfl 0 rfl ?_
  refine gX6_115 C dX6_went_15 18 rfl ?_
  refine je_iconst C (0) dX6_went_18 19 rfl ic_0 ?_
  refine jk_iald C kd100 dX6_went_19 20 rfl h (fun h => ?_)
  refine je_goto C 24 dX6_went_20 rfl ?_
  cases h
  exact je_iret C dX6_went_24
set_option maxHeartbeats 4000000 in
theorem metX6_isQuestion {l : Launch} {G : je_G} {dyn : Nat → Option je_E} {sz : Nat} {κ : kp_K} {v1 : Int32} {r9 : Int32} (h : pX6_isQuestion κ v1 = some r9) : MetS l G yX6_isQuestion cX6_isQuestion 2 (some .boolean) 0 0 0 0 [.ref (G.2.1 + 66), .int v1] (en2 G κ dyn) sz (some (.int r9)) (en2 G κ dyn) sz := by
  refine je_met "MinistryDesksModel" rfl (by decide +kernel) (Nat.le_of_ble_eq_true rfl) [(0, .ref (G.2.1 + 66)), (1, .int v1)] rfl (fun p e s m args below meth c C => ?_)
  unfold pX6_isQuestion at h
  refine je_iload_n C dX6_isQuestion_0 1 rfl 1 rfl ?_
  refine je_if_lt C 18 dX6_isQuestion_1 4 rfl rfl h (fun h => ?_) (fun h => ?_)
  · refine je_iconst C (0) dX6_isQuestion_18 19 rfl ic_0 ?_
    cases h
    exact je_zret C dX6_isQuestion_19 (Or.inl rfl)
  refine je_iload_n C dX6_isQuestion_4 5 rfl 1 rfl ?_
  refine je_aload_n C dX6_isQuestion_5 6 rfl 0 rfl ?_
  refine gX6_13 C dX6_isQuestion_6 9 rfl ?_
  refine je_iconst C (3) dX6_isQuestion_9 10 rfl ic_3 ?_
  refine jk_iald C kd68 dX6_isQuestion_10 11 rfl h (fun h => ?_)
  refine je_icmp_ge C 18 dX6_isQuestion_11 14 rfl rfl h (fun h => ?_) (fun h => ?_)
  · refine je_iconst C (0) dX6_isQuestion_18 19 rfl ic_0 ?_
    cases h
    exact je_zret C dX6_isQuestion_19 (Or.inl rfl)
  refine je_iconst C (1) dX6_isQuestion_14 15 rfl ic_1 ?_
  refine je_goto C 19 dX6_isQuestion_15 rfl ?_
  cases h
  exact je_zret C dX6_isQuestion_19 (Or.inr rfl)
theorem hdX6_isQuestion : je_hd yX6_isQuestion 1 := ⟨by decide +kernel, by decide +kernel, by decide +kernel⟩
theorem cwX6_458 : GoodIn lw_all (wsV "MinistryDesksModel" 458 "MinistryDesksModel" yX6_isQuestion (ws_ yX6_isQuestion cX6_isQuestion 2 (some .boolean))) := lw_V q2201 q2203 qs135 q169 q2204
set_option maxHeartbeats 4000000 in
theorem metX6_answer {l : Launch} {G : je_G} {dyn : Nat → Option je_E} {sz : Nat} {κ : kp_K} {v1 : Int32} {r9 : Int32 × kp_K} (h : pX6_answer κ v1 = some r9) : MetS l G yX6_answer cX6_answer 2 (some .int) 1 21 0 0 [.ref (G.2.1 + 66), .int v1] (en2 G κ dyn) sz (some (.int r9.1)) (en2 G r9.2 dyn) sz := by
  refine je_met "MinistryDesksModel" rfl (by decide +kernel) (Nat.le_of_ble_eq_true rfl) [(0, .ref (G.2.1 + 66)), (1, .int v1)] rfl (fun p e s m args below meth c C => ?_)
  unfold pX6_answer at h
  refine je_aload_n C dX6_answer_0 1 rfl 0 rfl ?_
  refine je_iconst C (0) dX6_answer_1 2 rfl ic_0 ?_
  refine sX6_166 C dX6_answer_2 5 rfl ?_
  refine jk_lt h (fun k2 h => ?_)
  refine je_aload_n C dX6_answer_5 6 rfl 0 rfl ?_
  refine je_iload_n C dX6_answer_6 7 rfl 1 rfl ?_
  obtain ⟨t7, hg, h⟩ := p_cl_inv h
  refine je_callVi (As := [.int v1]) (rest := []) C (metX6_isQuestion hg) (en2_at kd66) rfl hdX6_isQuestion rfl cwX6_458 rfl ⟨Nat.le_of_ble_eq_true rfl, Nat.le_of_ble_eq_true rfl⟩ (Nat.le_of_ble_eq_true rfl) dX6_answer_7 10 rfl ⟨Nat.le_refl _, Nat.le_refl _⟩ ?_
  refine je_if_eq C 22 dX6_answer_10 13 rfl rfl h (fun h => ?_) (fun h => ?_)
  · refine je_iconst C (-1) dX6_answer_22 23 rfl ic_m1 ?_
    cases h
    exact je_iret C dX6_answer_23
  refine je_aload_n C dX6_answer_13 14 rfl 0 rfl ?_
  refine gX6_112 C dX6_answer_14 17 rfl ?_
  refine je_iload_n C dX6_answer_17 18 rfl 1 rfl ?_
  refine jk_iald C kd99 dX6_answer_18 19 rfl h (fun h => ?_)
  refine je_goto C 23 dX6_answer_19 rfl ?_
  cases h
  exact je_iret C dX6_answer_23
theorem gX6_145 {p : Program} {l : Launch} {e : Env} {R : Room} {s : State} {m : MethodId} {args : Array Value} {below : List Frame} {meth : Method} {c : Code} {Q : State → Prop} {G : je_G} {cc : ByteArray} {nL : Nat} {rt : Option FieldType} {sz cells slots pc : Nat} {L : List (Nat × Value)} {st : List Value} {κ : kp_K} {dyn : Nat → Option je_E} (C : Cx p s m args meth c G "MinistryDesksModel" cc nL rt) (d : decode cc pc = .ok (.getfield 145, 3)) (n : Nat) (hn : pc + 3 = n) (kk : Js p l e R s m args below meth c G nL Q (en2 G κ dyn) sz cells slots n L (.ref (G.2.1 + 110) :: st)) : Js p l e R s m args below meth c G nL Q (en2 G κ dyn) sz cells slots pc L (.ref (G.2.1 + 66) :: st) := jk_getR (k := 65) (z := 0) C kd66 rfl in_X6 110 rfl (by decide) q1745 rfl d n hn kk
set_option maxHeartbeats 4000000 in
theorem wX6_byOdds_2 {p : Program} {l : Launch} {e : Env} {s : State} {m : MethodId} {args : Array Value} {below : List Frame} {meth : Method} {c : Code} {G : je_G} {dyn : Nat → Option je_E} {sz : Nat} {F : Nat} {r9 : kp_K} (C : Cx p s m args meth c G "MinistryDesksModel" cX6_byOdds 2 none) : ∀ (n : Nat) (κ : kp_K) (v1 : Int32), bX6_byOdds_2 F n κ v1 = some r9 → Js p l e ({ frames := 0, cells := 0, slots := 0, locals := 0 } : Room) s m args below meth c G 2 (MQ below (je_Q G none (en2 G r9 dyn) sz) args s 0 0 (je_A G)) (en2 G κ dyn) sz 0 0 2 [(0, .ref (G.2.1 + 66)), (1, .int v1)] [] := by
  intro n
  induction n with
  | zero =>
    intro κ v1 h
    cases h
  | succ n ih =>
    intro κ v1 h
    rw [bX6_byOdds_2] at h
    refine je_iload_n C dX6_byOdds_2 3 rfl 1 rfl ?_
    refine je_aload_n C dX6_byOdds_3 4 rfl 0 rfl ?_
    refine gX6_13 C dX6_byOdds_4 7 rfl ?_
    refine je_iconst C (3) dX6_byOdds_7 8 rfl ic_3 ?_
    refine jk_iald C kd68 dX6_byOdds_8 9 rfl h (fun h => ?_)
    refine je_icmp_ge C 42 dX6_byOdds_9 12 rfl rfl h (fun h => ?_) (fun h => ?_)
    · cases h
      exact je_vret C dX6_byOdds_42
    refine je_aload_n C dX6_byOdds_12 13 rfl 0 rfl ?_
    refine gX6_145 C dX6_byOdds_13 16 rfl ?_
    refine je_iload_n C dX6_byOdds_16 17 rfl 1 rfl ?_
    refine je_aload_n C dX6_byOdds_17 18 rfl 0 rfl ?_
    refine gX6_28 C dX6_byOdds_18 21 rfl ?_
    refine je_aload_n C dX6_byOdds_21 22 rfl 0 rfl ?_
    refine gX6_49 C dX6_byOdds_22 25 rfl ?_
    refine je_iload_n C dX6_byOdds_25 26 rfl 1 rfl ?_
    refine jk_iald C kd80 dX6_byOdds_26 27 rfl h (fun h => ?_)
    refine je_lti h (fun i27 h => ?_)
    refine jk_iald C kd73 dX6_byOdds_27 28 rfl h (fun h => ?_)
    refine je_aload_n C dX6_byOdds_28 29 rfl 0 rfl ?_
    refine gX6_52 C dX6_byOdds_29 32 rfl ?_
    refine je_iload_n C dX6_byOdds_32 33 rfl 1 rfl ?_
    refine jk_iald C kd81 dX6_byOdds_33 34 rfl h (fun h => ?_)
    refine je_imul C dX6_byOdds_34 35 rfl ?_
    refine jk_iast C kd110 dX6_byOdds_35 36 rfl h (fun h => ?_)
    refine jk_lt h (fun k35 h => ?_)
    refine je_iinc C (1) dX6_byOdds_36 39 rfl 1 rfl ic_1 (Nat.le_of_ble_eq_true rfl) [(1, .int (v1 + (1 : Int32))), (0, .ref (G.2.1 + 66))] rfl ?_
    refine je_goto C 2 dX6_byOdds_39 rfl ?_
    refine je_sub [1, 0] [(0, .ref (G.2.1 + 66)), (1, .int (v1 + (1 : Int32)))] rfl ?_
    exact ih k35 (v1 + (1 : Int32)) h
set_option maxHeartbeats 4000000 in
theorem metX6_byOdds {l : Launch} {G : je_G} {dyn : Nat → Option je_E} {sz : Nat} {F : Nat} {κ : kp_K}  {r9 : kp_K} (h : pX6_byOdds F κ = some r9) : MetS l G yX6_byOdds cX6_byOdds 2 none 0 0 0 0 [.ref (G.2.1 + 66)] (en2 G κ dyn) sz none (en2 G r9 dyn) sz := by
  refine je_met "MinistryDesksModel" rfl (by decide +kernel) (Nat.le_of_ble_eq_true rfl) [(0, .ref (G.2.1 + 66))] rfl (fun p e s m args below meth c C => ?_)
  unfold pX6_byOdds at h
  refine je_iconst C (0) dX6_byOdds_0 1 rfl ic_0 ?_
  refine je_istore_n C dX6_byOdds_1 2 rfl (Nat.le_of_ble_eq_true rfl) [(1, .int (0 : Int32)), (0, .ref (G.2.1 + 66))] rfl ?_
  refine je_sub [1, 0] [(0, .ref (G.2.1 + 66)), (1, .int (0 : Int32))] rfl ?_
  exact wX6_byOdds_2 C F κ (0 : Int32) h
theorem gX6_142 {p : Program} {l : Launch} {e : Env} {R : Room} {s : State} {m : MethodId} {args : Array Value} {below : List Frame} {meth : Method} {c : Code} {Q : State → Prop} {G : je_G} {cc : ByteArray} {nL : Nat} {rt : Option FieldType} {sz cells slots pc : Nat} {L : List (Nat × Value)} {st : List Value} {κ : kp_K} {dyn : Nat → Option je_E} (C : Cx p s m args meth c G "MinistryDesksModel" cc nL rt) (d : decode cc pc = .ok (.getfield 142, 3)) (n : Nat) (hn : pc + 3 = n) (kk : Js p l e R s m args below meth c G nL Q (en2 G κ dyn) sz cells slots n L (.ref (G.2.1 + 109) :: st)) : Js p l e R s m args below meth c G nL Q (en2 G κ dyn) sz cells slots pc L (.ref (G.2.1 + 66) :: st) := jk_getR (k := 63) (z := 0) C kd66 rfl in_X6 109 rfl (by decide) q1743 rfl d n hn kk
theorem gX6_461 {p : Program} {l : Launch} {e : Env} {R : Room} {s : State} {m : MethodId} {args : Array Value} {below : List Frame} {meth : Method} {c : Code} {Q : State → Prop} {G : je_G} {cc : ByteArray} {nL : Nat} {rt : Option FieldType} {sz cells slots pc : Nat} {L : List (Nat × Value)} {st : List Value} {κ : kp_K} {dyn : Nat → Option je_E} (C : Cx p s m args meth c G "MinistryDesksModel" cc nL rt) (d : decode cc pc = .ok (.getfield 461, 3)) (n : Nat) (hn : pc + 3 = n) (kk : Js p l e R s m args below meth c G nL Q (en2 G κ dyn) sz cells slots n L (.int (κ.1 66 64) :: st)) : Js p l e R s m args below meth c G nL Q (en2 G κ dyn) sz cells slots pc L (.ref (G.2.1 + 66) :: st) := jk_getI (k := 64) C kd66 rfl in_X6 rfl (by decide) q1744 rfl d n hn kk
theorem sX6_461 {p : Program} {l : Launch} {e : Env} {R : Room} {s : State} {m : MethodId} {args : Array Value} {below : List Frame} {meth : Method} {c : Code} {Q : State → Prop} {G : je_G} {cc : ByteArray} {nL : Nat} {rt : Option FieldType} {sz cells slots pc : Nat} {L : List (Nat × Value)} {st : List Value} {κ : kp_K} {dyn : Nat → Option je_E} (C : Cx p s m args meth c G "MinistryDesksModel" cc nL rt) {v : Int32} (d : decode cc pc = .ok (.putfield 461, 3)) (n : Nat) (hn : pc + 3 = n) (kk : Js p l e R s m args below meth c G nL Q (en2 G (s_i κ 66 64 v) dyn) sz cells slots n L st) : Js p l e R s m args below meth c G nL Q (en2 G κ dyn) sz cells slots pc L (.int v :: .ref (G.2.1 + 66) :: st) := jk_putI (k := 64) C kd66 rfl in_X6 tyX6 tyX6_ok nmX6 rfl (by decide) q1744 rfl rfl rfl d n hn kk
set_option maxHeartbeats 4000000 in
theorem wX6_orders_15 {p : Program} {l : Launch} {e : Env} {s : State} {m : MethodId} {args : Array Value} {below : List Frame} {meth : Method} {c : Code} {G : je_G} {dyn : Nat → Option je_E} {sz : Nat} {F : Nat} {r9 : kp_K} {k7 : kp_K → Int32 → Int32 → Option (kp_K)} (C : Cx p s m args meth c G "MinistryDesksModel" cX6_orders 4 none) (hk7 : ∀ (kq : kp_K) (q1 : Int32) (q2 : Int32), k7 kq q1 q2 = some r9 → Js p l e ({ frames := 0, cells := 0, slots := 0, locals := 0 } : Room) s m args below meth c G 4 (MQ below (je_Q G none (en2 G r9 dyn) sz) args s 0 0 (je_A G)) (en2 G kq dyn) sz 0 0 7 [(0, .ref (G.2.1 + 66)), (1, .int q1), (2, .int q2)] []) : ∀ (n : Nat) (κ : kp_K) (v1 : Int32) (v2 : Int32) (v3 : Int32), bX6_orders_15 F k7 n κ v1 v2 v3 = some r9 → Js p l e ({ frames := 0, cells := 0, slots := 0, locals := 0 } : Room) s m args below meth c G 4 (MQ below (je_Q G none (en2 G r9 dyn) sz) args s 0 0 (je_A G)) (en2 G κ dyn) sz 0 0 15 [(0, .ref (G.2.1 + 66)), (1, .int v1), (2, .int v2), (3, .int v3)] [] := by
  intro n
  induction n with
  | zero =>
    intro κ v1 v2 v3 h
    cases h
  | succ n ih =>
    intro κ v1 v2 v3 h
    rw [bX6_orders_15] at h
    refine je_iload_n C dX6_orders_15 16 rfl 3 rfl ?_
    refine je_aload_n C dX6_orders_16 17 rfl 0 rfl ?_
    refine gX6_13 C dX6_orders_17 20 rfl ?_
    refine je_iconst C (2) dX6_orders_20 21 rfl ic_2 ?_
    refine jk_iald C kd68 dX6_orders_21 22 rfl h (fun h => ?_)
    refine je_icmp_ge C 74 dX6_orders_22 25 rfl rfl h (fun h => ?_) (fun h => ?_)
    · refine je_iinc C (1) dX6_orders_74 77 rfl 2 rfl ic_1 (Nat.le_of_ble_eq_true rfl) [(2, .int (v2 + (1 : Int32))), (0, .ref (G.2.1 + 66)), (1, .int v1), (3, .int v3)] rfl ?_
      refine je_goto C 7 dX6_orders_77 rfl ?_
      refine je_sub [1, 2, 0] [(0, .ref (G.2.1 + 66)), (1, .int v1), (2, .int (v2 + (1 : Int32)))] rfl ?_
      exact hk7 κ v1 (v2 + (1 : Int32)) h
    refine je_aload_n C dX6_orders_25 26 rfl 0 rfl ?_
    refine gX6_34 C dX6_orders_26 29 rfl ?_
    refine je_iload_n C dX6_orders_29 30 rfl 3 rfl ?_
    refine jk_iald C kd75 dX6_orders_30 31 rfl h (fun h => ?_)
    refine je_iload_n C dX6_orders_31 32 rfl 1 rfl ?_
    refine je_icmp_ne C 68 dX6_orders_32 35 rfl rfl h (fun h => ?_) (fun h => ?_)
    · refine je_iinc C (1) dX6_orders_68 71 rfl 3 rfl ic_1 (Nat.le_of_ble_eq_true rfl) [(3, .int (v3 + (1 : Int32))), (0, .ref (G.2.1 + 66)), (1, .int v1), (2, .int v2)] rfl ?_
      refine je_goto C 15 dX6_orders_71 rfl ?_
      refine je_sub [1, 2, 3, 0] [(0, .ref (G.2.1 + 66)), (1, .int v1), (2, .int v2), (3, .int (v3 + (1 : Int32)))] rfl ?_
      exact ih κ v1 v2 (v3 + (1 : Int32)) h
    refine je_aload_n C dX6_orders_35 36 rfl 0 rfl ?_
    refine gX6_31 C dX6_orders_36 39 rfl ?_
    refine je_iload_n C dX6_orders_39 40 rfl 3 rfl ?_
    refine jk_iald C kd74 dX6_orders_40 41 rfl h (fun h => ?_)
    refine je_iload_n C dX6_orders_41 42 rfl 2 rfl ?_
    refine je_icmp_eq C 48 dX6_orders_42 45 rfl rfl h (fun h => ?_) (fun h => ?_)
    · refine je_aload_n C dX6_orders_48 49 rfl 0 rfl ?_
      refine gX6_142 C dX6_orders_49 52 rfl ?_
      refine je_aload_n C dX6_orders_52 53 rfl 0 rfl ?_
      refine gX6_461 C dX6_orders_53 56 rfl ?_
      refine je_iload_n C dX6_orders_56 57 rfl 3 rfl ?_
      refine jk_iast C kd109 dX6_orders_57 58 rfl h (fun h => ?_)
      refine jk_lt h (fun k57 h => ?_)
      refine je_aload_n C dX6_orders_58 59 rfl 0 rfl ?_
      refine je_dup C dX6_orders_59 60 rfl rfl ?_
      refine gX6_461 C dX6_orders_60 63 rfl ?_
      refine je_iconst C (1) dX6_orders_63 64 rfl ic_1 ?_
      refine je_iadd C dX6_orders_64 65 rfl ?_
      refine sX6_461 C dX6_orders_65 68 rfl ?_
      refine jk_lt h (fun k65 h => ?_)
      refine je_iinc C (1) dX6_orders_68 71 rfl 3 rfl ic_1 (Nat.le_of_ble_eq_true rfl) [(3, .int (v3 + (1 : Int32))), (0, .ref (G.2.1 + 66)), (1, .int v1), (2, .int v2)] rfl ?_
      refine je_goto C 15 dX6_orders_71 rfl ?_
      refine je_sub [1, 2, 3, 0] [(0, .ref (G.2.1 + 66)), (1, .int v1), (2, .int v2), (3, .int (v3 + (1 : Int32)))] rfl ?_
      exact ih k65 v1 v2 (v3 + (1 : Int32)) h
    refine je_goto C 68 dX6_orders_45 rfl ?_
    refine je_iinc C (1) dX6_orders_68 71 rfl 3 rfl ic_1 (Nat.le_of_ble_eq_true rfl) [(3, .int (v3 + (1 : Int32))), (0, .ref (G.2.1 + 66)), (1, .int v1), (2, .int v2)] rfl ?_
    refine je_goto C 15 dX6_orders_71 rfl ?_
    refine je_sub [1, 2, 3, 0] [(0, .ref (G.2.1 + 66)), (1, .int v1), (2, .int v2), (3, .int (v3 + (1 : Int32)))] rfl ?_
    exact ih κ v1 v2 (v3 + (1 : Int32)) h
set_option maxHeartbeats 4000000 in
theorem wX6_orders_7 {p : Program} {l : Launch} {e : Env} {s : State} {m : MethodId} {args : Array Value} {below : List Frame} {meth : Method} {c : Code} {G : je_G} {dyn : Nat → Option je_E} {sz : Nat} {F : Nat} {r9 : kp_K} (C : Cx p s m args meth c G "MinistryDesksModel" cX6_orders 4 none) : ∀ (n : Nat) (κ : kp_K) (v1 : Int32) (v2 : Int32), bX6_orders_7 F n κ v1 v2 = some r9 → Js p l e ({ frames := 0, cells := 0, slots := 0, locals := 0 } : Room) s m args below meth c G 4 (MQ below (je_Q G none (en2 G r9 dyn) sz) args s 0 0 (je_A G)) (en2 G κ dyn) sz 0 0 7 [(0, .ref (G.2.1 + 66)), (1, .int v1), (2, .int v2)] [] := by
  intro n
  induction n with
  | zero =>
    intro κ v1 v2 h
    cases h
  | succ n ih =>
    intro κ v1 v2 h
    rw [bX6_orders_7] at h
    refine je_iload_n C dX6_orders_7 8 rfl 2 rfl ?_
    refine je_bipush C (61) dX6_orders_8 10 rfl bp_61 ?_
    refine je_icmp_ge C 80 dX6_orders_10 13 rfl rfl h (fun h => ?_) (fun h => ?_)
    · cases h
      exact je_vret C dX6_orders_80
    refine je_iconst C (0) dX6_orders_13 14 rfl ic_0 ?_
    refine je_istore_n C dX6_orders_14 15 rfl (Nat.le_of_ble_eq_true rfl) [(3, .int (0 : Int32)), (0, .ref (G.2.1 + 66)), (1, .int v1), (2, .int v2)] rfl ?_
    refine je_sub [1, 2, 3, 0] [(0, .ref (G.2.1 + 66)), (1, .int v1), (2, .int v2), (3, .int (0 : Int32))] rfl ?_
    exact wX6_orders_15 C ih F κ v1 v2 (0 : Int32) h
set_option maxHeartbeats 4000000 in
theorem metX6_orders {l : Launch} {G : je_G} {dyn : Nat → Option je_E} {sz : Nat} {F : Nat} {κ : kp_K} {v1 : Int32} {r9 : kp_K} (h : pX6_orders F κ v1 = some r9) : MetS l G yX6_orders cX6_orders 4 none 0 0 0 0 [.ref (G.2.1 + 66), .int v1] (en2 G κ dyn) sz none (en2 G r9 dyn) sz := by
  refine je_met "MinistryDesksModel" rfl (by decide +kernel) (Nat.le_of_ble_eq_true rfl) [(0, .ref (G.2.1 + 66)), (1, .int v1)] rfl (fun p e s m args below meth c C => ?_)
  unfold pX6_orders at h
  refine je_aload_n C dX6_orders_0 1 rfl 0 rfl ?_
  refine je_iconst C (0) dX6_orders_1 2 rfl ic_0 ?_
  refine sX6_461 C dX6_orders_2 5 rfl ?_
  refine jk_lt h (fun k2 h => ?_)
  refine je_iconst C (0) dX6_orders_5 6 rfl ic_0 ?_
  refine je_istore_n C dX6_orders_6 7 rfl (Nat.le_of_ble_eq_true rfl) [(2, .int (0 : Int32)), (0, .ref (G.2.1 + 66)), (1, .int v1)] rfl ?_
  refine je_sub [1, 2, 0] [(0, .ref (G.2.1 + 66)), (1, .int v1), (2, .int (0 : Int32))] rfl ?_
  exact wX6_orders_7 C F k2 v1 (0 : Int32) h
theorem bp_31 : (Int8.ofInt (31)).toInt32 = (31 : Int32) := by decide +kernel
set_option maxHeartbeats 4000000 in
theorem wX6_bitsOf_4 {p : Program} {l : Launch} {e : Env} {s : State} {m : MethodId} {args : Array Value} {below : List Frame} {meth : Method} {c : Code} {G : je_G} {σ : Nat → Option je_E} {sz : Nat} {F : Nat} {r9 : Int32} (C : Cx p s m args meth c G "MinistryDesksModel" cX6_bitsOf 3 (some .int)) : ∀ (n : Nat) (v0 : Int32) (v1 : Int32) (v2 : Int32), bX6_bitsOf_4 F n v0 v1 v2 = some r9 → Js p l e ({ frames := 0, cells := 0, slots := 0, locals := 0 } : Room) s m args below meth c G 3 (MQ below (je_Q G (some (.int r9)) σ sz) args s 0 0 (je_A G)) σ sz 0 0 4 [(0, .int v0), (1, .int v1), (2, .int v2)] [] := by
  intro n
  induction n with
  | zero =>
    intro v0 v1 v2 h
    cases h
  | succ n ih =>
    intro v0 v1 v2 h
    rw [bX6_bitsOf_4] at h
    refine je_iload_n C dX6_bitsOf_4 5 rfl 2 rfl ?_
    refine je_bipush C (31) dX6_bitsOf_5 7 rfl bp_31 ?_
    refine je_icmp_ge C 24 dX6_bitsOf_7 10 rfl rfl h (fun h => ?_) (fun h => ?_)
    · refine je_iload_n C dX6_bitsOf_24 25 rfl 1 rfl ?_
      cases h
      exact je_iret C dX6_bitsOf_25
    refine je_iload_n C dX6_bitsOf_10 11 rfl 1 rfl ?_
    refine je_iload_n C dX6_bitsOf_11 12 rfl 0 rfl ?_
    refine je_iload_n C dX6_bitsOf_12 13 rfl 2 rfl ?_
    refine je_ishr C dX6_bitsOf_13 14 rfl ?_
    refine je_iconst C (1) dX6_bitsOf_14 15 rfl ic_1 ?_
    refine je_iand C dX6_bitsOf_15 16 rfl ?_
    refine je_iadd C dX6_bitsOf_16 17 rfl ?_
    refine je_lti h (fun t17 h => ?_)
    refine je_istore_n C dX6_bitsOf_17 18 rfl (Nat.le_of_ble_eq_true rfl) [(1, .int t17), (0, .int v0), (2, .int v2)] rfl ?_
    refine je_iinc C (1) dX6_bitsOf_18 21 rfl 2 rfl ic_1 (Nat.le_of_ble_eq_true rfl) [(2, .int (v2 + (1 : Int32))), (1, .int t17), (0, .int v0)] rfl ?_
    refine je_goto C 4 dX6_bitsOf_21 rfl ?_
    refine je_sub [2, 1, 0] [(0, .int v0), (1, .int t17), (2, .int (v2 + (1 : Int32)))] rfl ?_
    exact ih v0 t17 (v2 + (1 : Int32)) h
set_option maxHeartbeats 4000000 in
theorem metX6_bitsOf {l : Launch} {G : je_G} {σ : Nat → Option je_E} {sz : Nat} {F : Nat} {v0 : Int32} {r9 : Int32} (h : pX6_bitsOf F v0 = some r9) : MetS l G yX6_bitsOf cX6_bitsOf 3 (some .int) 0 0 0 0 [.int v0] σ sz (some (.int r9)) σ sz := by
  refine je_met "MinistryDesksModel" rfl (by decide +kernel) (Nat.le_of_ble_eq_true rfl) [(0, .int v0)] rfl (fun p e s m args below meth c C => ?_)
  unfold pX6_bitsOf at h
  refine je_iconst C (0) dX6_bitsOf_0 1 rfl ic_0 ?_
  refine je_istore_n C dX6_bitsOf_1 2 rfl (Nat.le_of_ble_eq_true rfl) [(1, .int (0 : Int32)), (0, .int v0)] rfl ?_
  refine je_iconst C (0) dX6_bitsOf_2 3 rfl ic_0 ?_
  refine je_istore_n C dX6_bitsOf_3 4 rfl (Nat.le_of_ble_eq_true rfl) [(2, .int (0 : Int32)), (1, .int (0 : Int32)), (0, .int v0)] rfl ?_
  refine je_sub [2, 1, 0] [(0, .int v0), (1, .int (0 : Int32)), (2, .int (0 : Int32))] rfl ?_
  exact wX6_bitsOf_4 C F v0 (0 : Int32) (0 : Int32) h
set_option maxHeartbeats 4000000 in
theorem metX6_dayOf {l : Launch} {G : je_G} {dyn : Nat → Option je_E} {sz : Nat} {κ : kp_K} {v1 : Int32} {r9 : Int32} (h : pX6_dayOf κ v1 = some r9) : MetS l G yX6_dayOf cX6_dayOf 2 (some .int) 0 0 0 0 [.ref (G.2.1 + 66), .int v1] (en2 G κ dyn) sz (some (.int r9)) (en2 G κ dyn) sz := by
  refine je_met "MinistryDesksModel" rfl (by decide +kernel) (Nat.le_of_ble_eq_true rfl) [(0, .ref (G.2.1 + 66)), (1, .int v1)] rfl (fun p e s m args below meth c C => ?_)
  unfold pX6_dayOf at h
  refine je_iload_n C dX6_dayOf_0 1 rfl 1 rfl ?_
  refine je_aload_n C dX6_dayOf_1 2 rfl 0 rfl ?_
  refine gX6_461 C dX6_dayOf_2 5 rfl ?_
  refine je_icmp_ge C 22 dX6_dayOf_5 8 rfl rfl h (fun h => ?_) (fun h => ?_)
  · refine je_bipush C (61) dX6_dayOf_22 24 rfl bp_61 ?_
    cases h
    exact je_iret C dX6_dayOf_24
  refine je_aload_n C dX6_dayOf_8 9 rfl 0 rfl ?_
  refine gX6_31 C dX6_dayOf_9 12 rfl ?_
  refine je_aload_n C dX6_dayOf_12 13 rfl 0 rfl ?_
  refine gX6_142 C dX6_dayOf_13 16 rfl ?_
  refine je_iload_n C dX6_dayOf_16 17 rfl 1 rfl ?_
  refine jk_iald C kd109 dX6_dayOf_17 18 rfl h (fun h => ?_)
  refine je_lti h (fun i18 h => ?_)
  refine jk_iald C kd74 dX6_dayOf_18 19 rfl h (fun h => ?_)
  refine je_goto C 24 dX6_dayOf_19 rfl ?_
  cases h
  exact je_iret C dX6_dayOf_24
theorem sp_128 : (Int16.ofInt (128)).toInt32 = (128 : Int32) := by decide +kernel
set_option maxHeartbeats 4000000 in
theorem metX6_atYet {l : Launch} {G : je_G} {σ : Nat → Option je_E} {sz : Nat} {v0 : Int32} {v1 : Int32} {v2 : Int32} {r9 : Int32} (h : pX6_atYet v0 v1 v2 = some r9) : MetS l G yX6_atYet cX6_atYet 3 (some .int) 0 0 0 0 [.int v0, .int v1, .int v2] σ sz (some (.int r9)) σ sz := by
  refine je_met "MinistryDesksModel" rfl (by decide +kernel) (Nat.le_of_ble_eq_true rfl) [(0, .int v0), (1, .int v1), (2, .int v2)] rfl (fun p e s m args below meth c C => ?_)
  unfold pX6_atYet at h
  refine je_iload_n C dX6_atYet_0 1 rfl 0 rfl ?_
  refine je_sipush C (128) dX6_atYet_1 4 rfl sp_128 ?_
  refine je_imul C dX6_atYet_4 5 rfl ?_
  refine je_iload_n C dX6_atYet_5 6 rfl 1 rfl ?_
  refine je_iadd C dX6_atYet_6 7 rfl ?_
  refine je_iconst C (2) dX6_atYet_7 8 rfl ic_2 ?_
  refine je_imul C dX6_atYet_8 9 rfl ?_
  refine je_iload_n C dX6_atYet_9 10 rfl 2 rfl ?_
  refine je_iadd C dX6_atYet_10 11 rfl ?_
  cases h
  exact je_iret C dX6_atYet_11
set_option maxHeartbeats 4000000 in
theorem wX6_tillAt_5 {p : Program} {l : Launch} {e : Env} {s : State} {m : MethodId} {args : Array Value} {below : List Frame} {meth : Method} {c : Code} {G : je_G} {dyn : Nat → Option je_E} {sz : Nat} {F : Nat} {κ : kp_K} {r9 : Int32} (C : Cx p s m args meth c G "MinistryDesksModel" cX6_tillAt 5 (some .int)) : ∀ (n : Nat) (v1 : Int32) (v2 : Int32) (v3 : Int32) (v4 : Int32), bX6_tillAt_5 F n κ v1 v2 v3 v4 = some r9 → Js p l e ({ frames := 0, cells := 0, slots := 0, locals := 0 } : Room) s m args below meth c G 5 (MQ below (je_Q G (some (.int r9)) (en2 G κ dyn) sz) args s 0 0 (je_A G)) (en2 G κ dyn) sz 0 0 5 [(0, .ref (G.2.1 + 66)), (1, .int v1), (2, .int v2), (3, .int v3), (4, .int v4)] [] := by
  intro n
  induction n with
  | zero =>
    intro v1 v2 v3 v4 h
    cases h
  | succ n ih =>
    intro v1 v2 v3 v4 h
    rw [bX6_tillAt_5] at h
    refine je_iload C dX6_tillAt_5 7 rfl 4 rfl ?_
    refine je_iload_n C dX6_tillAt_7 8 rfl 1 rfl ?_
    refine je_icmp_ge C 46 dX6_tillAt_8 11 rfl rfl h (fun h => ?_) (fun h => ?_)
    · refine je_iload_n C dX6_tillAt_46 47 rfl 3 rfl ?_
      cases h
      exact je_iret C dX6_tillAt_47
    refine je_aload_n C dX6_tillAt_11 12 rfl 0 rfl ?_
    refine gX6_37 C dX6_tillAt_12 15 rfl ?_
    refine je_aload_n C dX6_tillAt_15 16 rfl 0 rfl ?_
    refine gX6_142 C dX6_tillAt_16 19 rfl ?_
    refine je_iload C dX6_tillAt_19 21 rfl 4 rfl ?_
    refine jk_iald C kd109 dX6_tillAt_21 22 rfl h (fun h => ?_)
    refine je_lti h (fun i22 h => ?_)
    refine jk_iald C kd76 dX6_tillAt_22 23 rfl h (fun h => ?_)
    refine je_iload_n C dX6_tillAt_23 24 rfl 2 rfl ?_
    refine je_icmp_ne C 40 dX6_tillAt_24 27 rfl rfl h (fun h => ?_) (fun h => ?_)
    · refine je_iinc C (1) dX6_tillAt_40 43 rfl 4 rfl ic_1 (Nat.le_of_ble_eq_true rfl) [(4, .int (v4 + (1 : Int32))), (0, .ref (G.2.1 + 66)), (1, .int v1), (2, .int v2), (3, .int v3)] rfl ?_
      refine je_goto C 5 dX6_tillAt_43 rfl ?_
      refine je_sub [1, 2, 3, 4, 0] [(0, .ref (G.2.1 + 66)), (1, .int v1), (2, .int v2), (3, .int v3), (4, .int (v4 + (1 : Int32)))] rfl ?_
      exact ih v1 v2 v3 (v4 + (1 : Int32)) h
    refine je_aload_n C dX6_tillAt_27 28 rfl 0 rfl ?_
    refine gX6_40 C dX6_tillAt_28 31 rfl ?_
    refine je_aload_n C dX6_tillAt_31 32 rfl 0 rfl ?_
    refine gX6_142 C dX6_tillAt_32 35 rfl ?_
    refine je_iload C dX6_tillAt_35 37 rfl 4 rfl ?_
    refine jk_iald C kd109 dX6_tillAt_37 38 rfl h (fun h => ?_)
    refine je_lti h (fun i38 h => ?_)
    refine jk_iald C kd77 dX6_tillAt_38 39 rfl h (fun h => ?_)
    refine je_lti h (fun t39 h => ?_)
    refine je_istore_n C dX6_tillAt_39 40 rfl (Nat.le_of_ble_eq_true rfl) [(3, .int t39), (0, .ref (G.2.1 + 66)), (1, .int v1), (2, .int v2), (4, .int v4)] rfl ?_
    refine je_iinc C (1) dX6_tillAt_40 43 rfl 4 rfl ic_1 (Nat.le_of_ble_eq_true rfl) [(4, .int (v4 + (1 : Int32))), (3, .int t39), (0, .ref (G.2.1 + 66)), (1, .int v1), (2, .int v2)] rfl ?_
    refine je_goto C 5 dX6_tillAt_43 rfl ?_
    refine je_sub [2, 3, 4, 1, 0] [(0, .ref (G.2.1 + 66)), (1, .int v1), (2, .int v2), (3, .int t39), (4, .int (v4 + (1 : Int32)))] rfl ?_
    exact ih v1 v2 t39 (v4 + (1 : Int32)) h
set_option maxHeartbeats 4000000 in
theorem metX6_tillAt {l : Launch} {G : je_G} {dyn : Nat → Option je_E} {sz : Nat} {F : Nat} {κ : kp_K} {v1 : Int32} {v2 : Int32} {r9 : Int32} (h : pX6_tillAt F κ v1 v2 = some r9) : MetS l G yX6_tillAt cX6_tillAt 5 (some .int) 0 0 0 0 [.ref (G.2.1 + 66), .int v1, .int v2] (en2 G κ dyn) sz (some (.int r9)) (en2 G κ dyn) sz := by
  refine je_met "MinistryDesksModel" rfl (by decide +kernel) (Nat.le_of_ble_eq_true rfl) [(0, .ref (G.2.1 + 66)), (1, .int v1), (2, .int v2)] rfl (fun p e s m args below meth c C => ?_)
  unfold pX6_tillAt at h
  refine je_iconst C (-1) dX6_tillAt_0 1 rfl ic_m1 ?_
  refine je_istore_n C dX6_tillAt_1 2 rfl (Nat.le_of_ble_eq_true rfl) [(3, .int (-1 : Int32)), (0, .ref (G.2.1 + 66)), (1, .int v1), (2, .int v2)] rfl ?_
  refine je_iconst C (0) dX6_tillAt_2 3 rfl ic_0 ?_
  refine je_istore C dX6_tillAt_3 5 rfl (Nat.le_of_ble_eq_true rfl) [(4, .int (0 : Int32)), (3, .int (-1 : Int32)), (0, .ref (G.2.1 + 66)), (1, .int v1), (2, .int v2)] rfl ?_
  refine je_sub [2, 3, 4, 1, 0] [(0, .ref (G.2.1 + 66)), (1, .int v1), (2, .int v2), (3, .int (-1 : Int32)), (4, .int (0 : Int32))] rfl ?_
  exact wX6_tillAt_5 C F v1 v2 (-1 : Int32) (0 : Int32) h
theorem hdX6_tillAt : je_hd yX6_tillAt 2 := ⟨by decide +kernel, by decide +kernel, by decide +kernel⟩
theorem cwX6_464 : GoodIn lw_all (wsV "MinistryDesksModel" 464 "MinistryDesksModel" yX6_tillAt (ws_ yX6_tillAt cX6_tillAt 5 (some .int))) := lw_V q2247 q2249 qs144 q169 q2250
set_option maxHeartbeats 4000000 in
theorem wX6_living_6 {p : Program} {l : Launch} {e : Env} {s : State} {m : MethodId} {args : Array Value} {below : List Frame} {meth : Method} {c : Code} {G : je_G} {dyn : Nat → Option je_E} {sz : Nat} {F : Nat} {κ : kp_K} {r9 : Int32} (C : Cx p s m args meth c G "MinistryDesksModel" cX6_living 6 (some .int)) : ∀ (n : Nat) (v1 : Int32) (v2 : Int32) (v3 : Int32) (v4 : Int32) (v5 : Int32), bX6_living_6 F n κ v1 v2 v3 v4 v5 = some r9 → Js p l e ({ frames := 1, cells := 0, slots := 0, locals := 24 } : Room) s m args below meth c G 6 (MQ below (je_Q G (some (.int r9)) (en2 G κ dyn) sz) args s 0 0 (je_A G)) (en2 G κ dyn) sz 0 0 6 [(0, .ref (G.2.1 + 66)), (1, .int v1), (2, .int v2), (3, .int v3), (4, .int v4), (5, .int v5)] [] := by
  intro n
  induction n with
  | zero =>
    intro v1 v2 v3 v4 v5 h
    cases h
  | succ n ih =>
    intro v1 v2 v3 v4 v5 h
    rw [bX6_living_6] at h
    refine je_iload C dX6_living_6 8 rfl 5 rfl ?_
    refine je_bipush C (7) dX6_living_8 10 rfl bp_7 ?_
    refine je_icmp_ge C 51 dX6_living_10 13 rfl rfl h (fun h => ?_) (fun h => ?_)
    · refine je_iload C dX6_living_51 53 rfl 4 rfl ?_
      cases h
      exact je_iret C dX6_living_53
    refine je_iload_n C dX6_living_13 14 rfl 1 rfl ?_
    refine je_iload C dX6_living_14 16 rfl 5 rfl ?_
    refine je_ishr C dX6_living_16 17 rfl ?_
    refine je_iconst C (1) dX6_living_17 18 rfl ic_1 ?_
    refine je_iand C dX6_living_18 19 rfl ?_
    refine je_iconst C (1) dX6_living_19 20 rfl ic_1 ?_
    refine je_icmp_ne C 45 dX6_living_20 23 rfl rfl h (fun h => ?_) (fun h => ?_)
    · refine je_iinc C (1) dX6_living_45 48 rfl 5 rfl ic_1 (Nat.le_of_ble_eq_true rfl) [(5, .int (v5 + (1 : Int32))), (0, .ref (G.2.1 + 66)), (1, .int v1), (2, .int v2), (3, .int v3), (4, .int v4)] rfl ?_
      refine je_goto C 6 dX6_living_48 rfl ?_
      refine je_sub [1, 2, 3, 4, 5, 0] [(0, .ref (G.2.1 + 66)), (1, .int v1), (2, .int v2), (3, .int v3), (4, .int v4), (5, .int (v5 + (1 : Int32)))] rfl ?_
      exact ih v1 v2 v3 v4 (v5 + (1 : Int32)) h
    refine je_aload_n C dX6_living_23 24 rfl 0 rfl ?_
    refine je_iload_n C dX6_living_24 25 rfl 2 rfl ?_
    refine je_iload C dX6_living_25 27 rfl 5 rfl ?_
    obtain ⟨t27, hg, h⟩ := p_cl_inv h
    refine je_callVi (As := [.int v2, .int v5]) (rest := []) C (metX6_tillAt hg) (en2_at kd66) rfl hdX6_tillAt rfl cwX6_464 rfl ⟨Nat.le_of_ble_eq_true rfl, Nat.le_of_ble_eq_true rfl⟩ (Nat.le_of_ble_eq_true rfl) dX6_living_27 30 rfl ⟨Nat.le_refl _, Nat.le_refl _⟩ ?_
    refine je_iload_n C dX6_living_30 31 rfl 3 rfl ?_
    refine je_icmp_ge C 45 dX6_living_31 34 rfl rfl h (fun h => ?_) (fun h => ?_)
    · refine je_iinc C (1) dX6_living_45 48 rfl 5 rfl ic_1 (Nat.le_of_ble_eq_true rfl) [(5, .int (v5 + (1 : Int32))), (0, .ref (G.2.1 + 66)), (1, .int v1), (2, .int v2), (3, .int v3), (4, .int v4)] rfl ?_
      refine je_goto C 6 dX6_living_48 rfl ?_
      refine je_sub [1, 2, 3, 4, 5, 0] [(0, .ref (G.2.1 + 66)), (1, .int v1), (2, .int v2), (3, .int v3), (4, .int v4), (5, .int (v5 + (1 : Int32)))] rfl ?_
      exact ih v1 v2 v3 v4 (v5 + (1 : Int32)) h
    refine je_iload C dX6_living_34 36 rfl 4 rfl ?_
    refine je_iconst C (1) dX6_living_36 37 rfl ic_1 ?_
    refine je_iload C dX6_living_37 39 rfl 5 rfl ?_
    refine je_ishl C dX6_living_39 40 rfl ?_
    refine je_iconst C (-1) dX6_living_40 41 rfl ic_m1 ?_
    refine je_ixor C dX6_living_41 42 rfl ?_
    refine je_iand C dX6_living_42 43 rfl ?_
    refine je_lti h (fun t43 h => ?_)
    refine je_istore C dX6_living_43 45 rfl (Nat.le_of_ble_eq_true rfl) [(4, .int t43), (0, .ref (G.2.1 + 66)), (1, .int v1), (2, .int v2), (3, .int v3), (5, .int v5)] rfl ?_
    refine je_iinc C (1) dX6_living_45 48 rfl 5 rfl ic_1 (Nat.le_of_ble_eq_true rfl) [(5, .int (v5 + (1 : Int32))), (4, .int t43), (0, .ref (G.2.1 + 66)), (1, .int v1), (2, .int v2), (3, .int v3)] rfl ?_
    refine je_goto C 6 dX6_living_48 rfl ?_
    refine je_sub [2, 3, 4, 5, 1, 0] [(0, .ref (G.2.1 + 66)), (1, .int v1), (2, .int v2), (3, .int v3), (4, .int t43), (5, .int (v5 + (1 : Int32)))] rfl ?_
    exact ih v1 v2 v3 t43 (v5 + (1 : Int32)) h
set_option maxHeartbeats 4000000 in
theorem metX6_living {l : Launch} {G : je_G} {dyn : Nat → Option je_E} {sz : Nat} {F : Nat} {κ : kp_K} {v1 : Int32} {v2 : Int32} {v3 : Int32} {r9 : Int32} (h : pX6_living F κ v1 v2 v3 = some r9) : MetS l G yX6_living cX6_living 6 (some .int) 1 24 0 0 [.ref (G.2.1 + 66), .int v1, .int v2, .int v3] (en2 G κ dyn) sz (some (.int r9)) (en2 G κ dyn) sz := by
  refine je_met "MinistryDesksModel" rfl (by decide +kernel) (Nat.le_of_ble_eq_true rfl) [(0, .ref (G.2.1 + 66)), (1, .int v1), (2, .int v2), (3, .int v3)] rfl (fun p e s m args below meth c C => ?_)
  unfold pX6_living at h
  refine je_iload_n C dX6_living_0 1 rfl 1 rfl ?_
  refine je_istore C dX6_living_1 3 rfl (Nat.le_of_ble_eq_true rfl) [(4, .int v1), (0, .ref (G.2.1 + 66)), (1, .int v1), (2, .int v2), (3, .int v3)] rfl ?_
  refine je_iconst C (0) dX6_living_3 4 rfl ic_0 ?_
  refine je_istore C dX6_living_4 6 rfl (Nat.le_of_ble_eq_true rfl) [(5, .int (0 : Int32)), (4, .int v1), (0, .ref (G.2.1 + 66)), (1, .int v1), (2, .int v2), (3, .int v3)] rfl ?_
  refine je_sub [2, 3, 4, 5, 1, 0] [(0, .ref (G.2.1 + 66)), (1, .int v1), (2, .int v2), (3, .int v3), (4, .int v1), (5, .int (0 : Int32))] rfl ?_
  exact wX6_living_6 C F v1 v2 v3 v1 (0 : Int32) h
theorem hdX6_living : je_hd yX6_living 3 := ⟨by decide +kernel, by decide +kernel, by decide +kernel⟩
theorem cwX6_467 : GoodIn lw_all (wsV "MinistryDesksModel" 467 "MinistryDesksModel" yX6_living (ws_ yX6_living cX6_living 6 (some .int))) := lw_V q2243 q2245 qs143 q169 q2246
set_option maxHeartbeats 4000000 in
theorem wX6_brings_6 {p : Program} {l : Launch} {e : Env} {s : State} {m : MethodId} {args : Array Value} {below : List Frame} {meth : Method} {c : Code} {G : je_G} {dyn : Nat → Option je_E} {sz : Nat} {F : Nat} {κ : kp_K} {r9 : Int64} (C : Cx p s m args meth c G "MinistryDesksModel" cX6_brings 9 (some .long)) : ∀ (n : Nat) (v1 : Int32) (v2 : Int32) (v3 : Int32) (v4 : Int32) (v5 : Int32) (v6 : Int64) (v8 : Int32), bX6_brings_6 F n κ v1 v2 v3 v4 v5 v6 v8 = some r9 → Js p l e ({ frames := 2, cells := 0, slots := 0, locals := 49 } : Room) s m args below meth c G 9 (MQ below (je_Q G (some (.long r9)) (en2 G κ dyn) sz) args s 0 0 (je_A G)) (en2 G κ dyn) sz 0 0 6 [(0, .ref (G.2.1 + 66)), (1, .int v1), (2, .int v2), (3, .int v3), (4, .int v4), (5, .int v5), (6, .long v6), (8, .int v8)] [] := by
  intro n
  induction n with
  | zero =>
    intro v1 v2 v3 v4 v5 v6 v8 h
    cases h
  | succ n ih =>
    intro v1 v2 v3 v4 v5 v6 v8 h
    rw [bX6_brings_6] at h
    refine je_iload C dX6_brings_6 8 rfl 7 rfl ?_
    refine je_aload_n C dX6_brings_8 9 rfl 0 rfl ?_
    refine gX6_13 C dX6_brings_9 12 rfl ?_
    refine je_iconst C (3) dX6_brings_12 13 rfl ic_3 ?_
    refine jk_iald C kd68 dX6_brings_13 14 rfl h (fun h => ?_)
    refine je_icmp_ge C 101 dX6_brings_14 17 rfl rfl h (fun h => ?_) (fun h => ?_)
    · refine je_lload C dX6_brings_101 103 rfl 6 rfl ?_
      cases h
      exact je_lret C dX6_brings_103
    refine je_aload_n C dX6_brings_17 18 rfl 0 rfl ?_
    refine gX6_46 C dX6_brings_18 21 rfl ?_
    refine je_iload C dX6_brings_21 23 rfl 7 rfl ?_
    refine jk_iald C kd79 dX6_brings_23 24 rfl h (fun h => ?_)
    refine je_iload_n C dX6_brings_24 25 rfl 1 rfl ?_
    refine je_icmp_ne C 95 dX6_brings_25 28 rfl rfl h (fun h => ?_) (fun h => ?_)
    · refine je_iinc C (1) dX6_brings_95 98 rfl 7 rfl ic_1 (Nat.le_of_ble_eq_true rfl) [(8, .int (v8 + (1 : Int32))), (0, .ref (G.2.1 + 66)), (1, .int v1), (2, .int v2), (3, .int v3), (4, .int v4), (5, .int v5), (6, .long v6)] rfl ?_
      refine je_goto C 6 dX6_brings_98 rfl ?_
      refine je_sub [1, 2, 3, 4, 5, 6, 7, 0] [(0, .ref (G.2.1 + 66)), (1, .int v1), (2, .int v2), (3, .int v3), (4, .int v4), (5, .int v5), (6, .long v6), (8, .int (v8 + (1 : Int32)))] rfl ?_
      exact ih v1 v2 v3 v4 v5 v6 (v8 + (1 : Int32)) h
    refine je_aload_n C dX6_brings_28 29 rfl 0 rfl ?_
    refine gX6_43 C dX6_brings_29 32 rfl ?_
    refine je_iload C dX6_brings_32 34 rfl 7 rfl ?_
    refine jk_iald C kd78 dX6_brings_34 35 rfl h (fun h => ?_)
    refine je_iload C dX6_brings_35 37 rfl 4 rfl ?_
    refine je_icmp_lt C 95 dX6_brings_37 40 rfl rfl h (fun h => ?_) (fun h => ?_)
    · refine je_iinc C (1) dX6_brings_95 98 rfl 7 rfl ic_1 (Nat.le_of_ble_eq_true rfl) [(8, .int (v8 + (1 : Int32))), (0, .ref (G.2.1 + 66)), (1, .int v1), (2, .int v2), (3, .int v3), (4, .int v4), (5, .int v5), (6, .long v6)] rfl ?_
      refine je_goto C 6 dX6_brings_98 rfl ?_
      refine je_sub [1, 2, 3, 4, 5, 6, 7, 0] [(0, .ref (G.2.1 + 66)), (1, .int v1), (2, .int v2), (3, .int v3), (4, .int v4), (5, .int v5), (6, .long v6), (8, .int (v8 + (1 : Int32)))] rfl ?_
      exact ih v1 v2 v3 v4 v5 v6 (v8 + (1 : Int32)) h
    refine je_aload_n C dX6_brings_40 41 rfl 0 rfl ?_
    refine gX6_43 C dX6_brings_41 44 rfl ?_
    refine je_iload C dX6_brings_44 46 rfl 7 rfl ?_
    refine jk_iald C kd78 dX6_brings_46 47 rfl h (fun h => ?_)
    refine je_iload C dX6_brings_47 49 rfl 5 rfl ?_
    refine je_icmp_lt C 55 dX6_brings_49 52 rfl rfl h (fun h => ?_) (fun h => ?_)
    · refine je_aload_n C dX6_brings_55 56 rfl 0 rfl ?_
      refine je_iload_n C dX6_brings_56 57 rfl 2 rfl ?_
      refine je_iload_n C dX6_brings_57 58 rfl 3 rfl ?_
      refine je_aload_n C dX6_brings_58 59 rfl 0 rfl ?_
      refine gX6_43 C dX6_brings_59 62 rfl ?_
      refine je_iload C dX6_brings_62 64 rfl 7 rfl ?_
      refine jk_iald C kd78 dX6_brings_64 65 rfl h (fun h => ?_)
      obtain ⟨t65, hg, h⟩ := p_cl_inv h
      refine je_callVi (As := [.int v2, .int v3, .int (κ.1 78 v8.toNatClampNeg)]) (rest := []) C (metX6_living hg) (en2_at kd66) rfl hdX6_living rfl cwX6_467 rfl ⟨Nat.le_of_ble_eq_true rfl, Nat.le_of_ble_eq_true rfl⟩ (Nat.le_of_ble_eq_true rfl) dX6_brings_65 68 rfl ⟨Nat.le_refl _, Nat.le_refl _⟩ ?_
      refine je_aload_n C dX6_brings_68 69 rfl 0 rfl ?_
      refine gX6_49 C dX6_brings_69 72 rfl ?_
      refine je_iload C dX6_brings_72 74 rfl 7 rfl ?_
      refine jk_iald C kd80 dX6_brings_74 75 rfl h (fun h => ?_)
      refine je_ishr C dX6_brings_75 76 rfl ?_
      refine je_iconst C (1) dX6_brings_76 77 rfl ic_1 ?_
      refine je_iand C dX6_brings_77 78 rfl ?_
      refine je_iconst C (1) dX6_brings_78 79 rfl ic_1 ?_
      refine je_icmp_ne C 95 dX6_brings_79 82 rfl rfl h (fun h => ?_) (fun h => ?_)
      · refine je_iinc C (1) dX6_brings_95 98 rfl 7 rfl ic_1 (Nat.le_of_ble_eq_true rfl) [(8, .int (v8 + (1 : Int32))), (0, .ref (G.2.1 + 66)), (1, .int v1), (2, .int v2), (3, .int v3), (4, .int v4), (5, .int v5), (6, .long v6)] rfl ?_
        refine je_goto C 6 dX6_brings_98 rfl ?_
        refine je_sub [1, 2, 3, 4, 5, 6, 7, 0] [(0, .ref (G.2.1 + 66)), (1, .int v1), (2, .int v2), (3, .int v3), (4, .int v4), (5, .int v5), (6, .long v6), (8, .int (v8 + (1 : Int32)))] rfl ?_
        exact ih v1 v2 v3 v4 v5 v6 (v8 + (1 : Int32)) h
      refine je_lload C dX6_brings_82 84 rfl 6 rfl ?_
      refine je_aload_n C dX6_brings_84 85 rfl 0 rfl ?_
      refine gX6_145 C dX6_brings_85 88 rfl ?_
      refine je_iload C dX6_brings_88 90 rfl 7 rfl ?_
      refine jk_iald C kd110 dX6_brings_90 91 rfl h (fun h => ?_)
      refine je_i2l C dX6_brings_91 92 rfl ?_
      refine je_ladd C dX6_brings_92 93 rfl ?_
      refine je_ltl h (fun t93 h => ?_)
      refine je_lstore C dX6_brings_93 95 rfl (Nat.le_of_ble_eq_true rfl) [(6, .long t93), (0, .ref (G.2.1 + 66)), (1, .int v1), (2, .int v2), (3, .int v3), (4, .int v4), (5, .int v5), (8, .int v8)] rfl ?_
      refine je_iinc C (1) dX6_brings_95 98 rfl 7 rfl ic_1 (Nat.le_of_ble_eq_true rfl) [(8, .int (v8 + (1 : Int32))), (6, .long t93), (0, .ref (G.2.1 + 66)), (1, .int v1), (2, .int v2), (3, .int v3), (4, .int v4), (5, .int v5)] rfl ?_
      refine je_goto C 6 dX6_brings_98 rfl ?_
      refine je_sub [2, 3, 4, 5, 6, 7, 1, 0] [(0, .ref (G.2.1 + 66)), (1, .int v1), (2, .int v2), (3, .int v3), (4, .int v4), (5, .int v5), (6, .long t93), (8, .int (v8 + (1 : Int32)))] rfl ?_
      exact ih v1 v2 v3 v4 v5 t93 (v8 + (1 : Int32)) h
    refine je_goto C 95 dX6_brings_52 rfl ?_
    refine je_iinc C (1) dX6_brings_95 98 rfl 7 rfl ic_1 (Nat.le_of_ble_eq_true rfl) [(8, .int (v8 + (1 : Int32))), (0, .ref (G.2.1 + 66)), (1, .int v1), (2, .int v2), (3, .int v3), (4, .int v4), (5, .int v5), (6, .long v6)] rfl ?_
    refine je_goto C 6 dX6_brings_98 rfl ?_
    refine je_sub [1, 2, 3, 4, 5, 6, 7, 0] [(0, .ref (G.2.1 + 66)), (1, .int v1), (2, .int v2), (3, .int v3), (4, .int v4), (5, .int v5), (6, .long v6), (8, .int (v8 + (1 : Int32)))] rfl ?_
    exact ih v1 v2 v3 v4 v5 v6 (v8 + (1 : Int32)) h
set_option maxHeartbeats 4000000 in
theorem metX6_brings {l : Launch} {G : je_G} {dyn : Nat → Option je_E} {sz : Nat} {F : Nat} {κ : kp_K} {v1 : Int32} {v2 : Int32} {v3 : Int32} {v4 : Int32} {v5 : Int32} {r9 : Int64} (h : pX6_brings F κ v1 v2 v3 v4 v5 = some r9) : MetS l G yX6_brings cX6_brings 9 (some .long) 2 49 0 0 [.ref (G.2.1 + 66), .int v1, .int v2, .int v3, .int v4, .int v5] (en2 G κ dyn) sz (some (.long r9)) (en2 G κ dyn) sz := by
  refine je_met "MinistryDesksModel" rfl (by decide +kernel) (Nat.le_of_ble_eq_true rfl) [(0, .ref (G.2.1 + 66)), (1, .int v1), (2, .int v2), (3, .int v3), (4, .int v4), (5, .int v5)] rfl (fun p e s m args below meth c C => ?_)
  unfold pX6_brings at h
  refine je_lconst C (0) dX6_brings_0 1 rfl rfl ?_
  refine je_lstore C dX6_brings_1 3 rfl (Nat.le_of_ble_eq_true rfl) [(6, .long (0 : Int64)), (0, .ref (G.2.1 + 66)), (1, .int v1), (2, .int v2), (3, .int v3), (4, .int v4), (5, .int v5)] rfl ?_
  refine je_iconst C (0) dX6_brings_3 4 rfl ic_0 ?_
  refine je_istore C dX6_brings_4 6 rfl (Nat.le_of_ble_eq_true rfl) [(8, .int (0 : Int32)), (6, .long (0 : Int64)), (0, .ref (G.2.1 + 66)), (1, .int v1), (2, .int v2), (3, .int v3), (4, .int v4), (5, .int v5)] rfl ?_
  refine je_sub [2, 3, 4, 5, 6, 7, 1, 0] [(0, .ref (G.2.1 + 66)), (1, .int v1), (2, .int v2), (3, .int v3), (4, .int v4), (5, .int v5), (6, .long (0 : Int64)), (8, .int (0 : Int32))] rfl ?_
  exact wX6_brings_6 C F v1 v2 v3 v4 v5 (0 : Int64) (0 : Int32) h
theorem hdX6_atYet : je_hd yX6_atYet 3 := ⟨by decide +kernel, by decide +kernel, by decide +kernel⟩
theorem hdX6_brings : je_hd yX6_brings 5 := ⟨by decide +kernel, by decide +kernel, by decide +kernel⟩
theorem hdX6_dayOf : je_hd yX6_dayOf 1 := ⟨by decide +kernel, by decide +kernel, by decide +kernel⟩
theorem cwX6_470 : GoodIn lw_all (wsV "MinistryDesksModel" 470 "MinistryDesksModel" yX6_dayOf (ws_ yX6_dayOf cX6_dayOf 2 (some .int))) := lw_V q2232 q2234 qs141 q169 q2235
theorem cwX6_473 : GoodIn lw_all (va_wsS "MinistryDesksModel" 473 yX6_atYet (ws_ yX6_atYet cX6_atYet 3 (some .int))) := lw_S q2236 q2237 q169 q2238
theorem cwX6_476 : GoodIn lw_all (wsV "MinistryDesksModel" 476 "MinistryDesksModel" yX6_brings (ws_ yX6_brings cX6_brings 9 (some .long))) := lw_V q2239 q2241 qs142 q169 q2242
theorem gX6_139 {p : Program} {l : Launch} {e : Env} {R : Room} {s : State} {m : MethodId} {args : Array Value} {below : List Frame} {meth : Method} {c : Code} {Q : State → Prop} {G : je_G} {cc : ByteArray} {nL : Nat} {rt : Option FieldType} {sz cells slots pc : Nat} {L : List (Nat × Value)} {st : List Value} {κ : kp_K} {dyn : Nat → Option je_E} (C : Cx p s m args meth c G "MinistryDesksModel" cc nL rt) (d : decode cc pc = .ok (.getfield 139, 3)) (n : Nat) (hn : pc + 3 = n) (kk : Js p l e R s m args below meth c G nL Q (en2 G κ dyn) sz cells slots n L (.ref (G.2.1 + 108) :: st)) : Js p l e R s m args below meth c G nL Q (en2 G κ dyn) sz cells slots pc L (.ref (G.2.1 + 66) :: st) := jk_getR (k := 62) (z := 0) C kd66 rfl in_X6 108 rfl (by decide) q1742 rfl d n hn kk
set_option maxHeartbeats 4000000 in
theorem wX6_behind_56 {p : Program} {l : Launch} {e : Env} {s : State} {m : MethodId} {args : Array Value} {below : List Frame} {meth : Method} {c : Code} {G : je_G} {dyn : Nat → Option je_E} {sz : Nat} {F : Nat} {κ : kp_K} {r9 : Int64} (C : Cx p s m args meth c G "MinistryDesksModel" cX6_behind 9 (some .long)) (v1 : Int32) (v2 : Int32) (v3 : Int32) (v5 : Int32) (v6 : Int32) (h : bX6_behind_56 F κ v1 v2 v3 v5 v6 = some r9) : Js p l e ({ frames := 3, cells := 0, slots := 0, locals := 77 } : Room) s m args below meth c G 9 (MQ below (je_Q G (some (.long r9)) (en2 G κ dyn) sz) args s 0 0 (je_A G)) (en2 G κ dyn) sz 0 0 56 [(0, .ref (G.2.1 + 66)), (1, .int v1), (2, .int v2), (3, .int v3), (5, .int v5), (6, .int v6)] [] := by
  unfold bX6_behind_56 at h
  refine je_aload_n C dX6_behind_56 57 rfl 0 rfl ?_
  refine je_iload_n C dX6_behind_57 58 rfl 1 rfl ?_
  refine je_iload_n C dX6_behind_58 59 rfl 3 rfl ?_
  refine je_iload_n C dX6_behind_59 60 rfl 2 rfl ?_
  refine je_iload C dX6_behind_60 62 rfl 4 rfl ?_
  refine je_iload C dX6_behind_62 64 rfl 5 rfl ?_
  obtain ⟨t64, hg, h⟩ := p_cl_inv h
  refine je_callVl (As := [.int v1, .int v3, .int v2, .int v5, .int v6]) (rest := []) C (metX6_brings hg) (en2_at kd66) rfl hdX6_brings rfl cwX6_476 rfl ⟨Nat.le_of_ble_eq_true rfl, Nat.le_of_ble_eq_true rfl⟩ (Nat.le_of_ble_eq_true rfl) dX6_behind_64 67 rfl ⟨Nat.le_refl _, Nat.le_refl _⟩ ?_
  refine je_lstore C dX6_behind_67 69 rfl (Nat.le_of_ble_eq_true rfl) [(7, .long t64), (0, .ref (G.2.1 + 66)), (1, .int v1), (2, .int v2), (3, .int v3), (5, .int v5), (6, .int v6)] rfl ?_
  refine je_iload_n C dX6_behind_69 70 rfl 3 rfl ?_
  refine je_aload_n C dX6_behind_70 71 rfl 1 rfl ?_
  refine gX6_461 C dX6_behind_71 74 rfl ?_
  refine je_icmp_ne C 82 dX6_behind_74 77 rfl rfl h (fun h => ?_) (fun h => ?_)
  · refine je_lload C dX6_behind_82 84 rfl 0 rfl ?_
    refine je_aload_n C dX6_behind_84 85 rfl 1 rfl ?_
    refine gX6_139 C dX6_behind_85 88 rfl ?_
    refine je_iload_n C dX6_behind_88 89 rfl 3 rfl ?_
    refine je_aload_n C dX6_behind_89 90 rfl 1 rfl ?_
    refine je_iload_n C dX6_behind_90 91 rfl 4 rfl ?_
    refine je_iload_n C dX6_behind_91 92 rfl 3 rfl ?_
    refine je_iload C dX6_behind_92 94 rfl 6 rfl ?_
    obtain ⟨t94, hg, h⟩ := p_cl_inv h
    refine je_callVi (As := [.int v3, .int v2, .int v6]) (rest := [.int v2, .ref (G.2.1 + 108), .long t64]) C (metX6_living hg) (en2_at kd66) rfl hdX6_living rfl cwX6_467 rfl ⟨Nat.le_of_ble_eq_true rfl, Nat.le_of_ble_eq_true rfl⟩ (Nat.le_of_ble_eq_true rfl) dX6_behind_94 97 rfl ⟨Nat.le_refl _, Nat.le_refl _⟩ ?_
    refine je_iconst C (0) dX6_behind_97 98 rfl ic_0 ?_
    obtain ⟨t98, hg, h⟩ := p_cl_inv h
    refine je_callSi (As := [.int v2, .int t94, .int (0 : Int32)]) (rest := [.ref (G.2.1 + 108), .long t64]) C (metX6_atYet hg) hdX6_atYet cwX6_473 rfl ⟨Nat.le_of_ble_eq_true rfl, Nat.le_of_ble_eq_true rfl⟩ (Nat.le_of_ble_eq_true rfl) dX6_behind_98 101 rfl ⟨Nat.le_refl _, Nat.le_refl _⟩ ?_
    refine jk_lald C kd108 dX6_behind_101 102 rfl h (fun h => ?_)
    refine je_ladd C dX6_behind_102 103 rfl ?_
    cases h
    exact je_lret C dX6_behind_103
  refine je_lload C dX6_behind_77 79 rfl 0 rfl ?_
  refine je_goto C 103 dX6_behind_79 rfl ?_
  cases h
  exact je_lret C dX6_behind_103
set_option maxHeartbeats 4000000 in
theorem wX6_behind_15 {p : Program} {l : Launch} {e : Env} {s : State} {m : MethodId} {args : Array Value} {below : List Frame} {meth : Method} {c : Code} {G : je_G} {dyn : Nat → Option je_E} {sz : Nat} {F : Nat} {κ : kp_K} {r9 : Int64} (C : Cx p s m args meth c G "MinistryDesksModel" cX6_behind 9 (some .long)) (v1 : Int32) (v2 : Int32) (v3 : Int32) (v4 : Int32) (s0 : Int32) (h : bX6_behind_15 F κ v1 v2 v3 v4 s0 = some r9) : Js p l e ({ frames := 3, cells := 0, slots := 0, locals := 77 } : Room) s m args below meth c G 9 (MQ below (je_Q G (some (.long r9)) (en2 G κ dyn) sz) args s 0 0 (je_A G)) (en2 G κ dyn) sz 0 0 15 [(0, .ref (G.2.1 + 66)), (1, .int v1), (2, .int v2), (3, .int v3), (4, .int v4)] [.int s0] := by
  unfold bX6_behind_15 at h
  refine je_istore C dX6_behind_15 17 rfl (Nat.le_of_ble_eq_true rfl) [(5, .int s0), (0, .ref (G.2.1 + 66)), (1, .int v1), (2, .int v2), (3, .int v3), (4, .int v4)] rfl ?_
  refine je_aload_n C dX6_behind_17 18 rfl 1 rfl ?_
  refine je_iload_n C dX6_behind_18 19 rfl 3 rfl ?_
  obtain ⟨t19, hg, h⟩ := p_cl_inv h
  refine je_callVi (As := [.int v2]) (rest := []) C (metX6_dayOf hg) (en2_at kd66) rfl hdX6_dayOf rfl cwX6_470 rfl ⟨Nat.le_of_ble_eq_true rfl, Nat.le_of_ble_eq_true rfl⟩ (Nat.le_of_ble_eq_true rfl) dX6_behind_19 22 rfl ⟨Nat.le_refl _, Nat.le_refl _⟩ ?_
  refine je_istore C dX6_behind_22 24 rfl (Nat.le_of_ble_eq_true rfl) [(6, .int t19), (5, .int s0), (0, .ref (G.2.1 + 66)), (1, .int v1), (2, .int v2), (3, .int v3), (4, .int v4)] rfl ?_
  refine je_iload_n C dX6_behind_24 25 rfl 4 rfl ?_
  refine je_aload_n C dX6_behind_25 26 rfl 2 rfl ?_
  refine gX6_461 C dX6_behind_26 29 rfl ?_
  refine je_icmp_ge C 56 dX6_behind_29 32 rfl rfl h (fun h => ?_) (fun h => ?_)
  · refine je_sub [2, 3, 4, 5, 1, 0] [(0, .ref (G.2.1 + 66)), (1, .int v1), (2, .int v2), (3, .int v3), (5, .int s0), (6, .int t19)] rfl ?_
    exact wX6_behind_56 C v1 v2 v3 s0 t19 h
  refine je_iload C dX6_behind_32 34 rfl 0 rfl ?_
  refine je_iload C dX6_behind_34 36 rfl 1 rfl ?_
  refine je_icmp_ne C 56 dX6_behind_36 39 rfl rfl h (fun h => ?_) (fun h => ?_)
  · refine je_sub [2, 3, 4, 5, 1, 0] [(0, .ref (G.2.1 + 66)), (1, .int v1), (2, .int v2), (3, .int v3), (5, .int s0), (6, .int t19)] rfl ?_
    exact wX6_behind_56 C v1 v2 v3 s0 t19 h
  refine je_iload_n C dX6_behind_39 40 rfl 4 rfl ?_
  refine je_if_le C 56 dX6_behind_40 43 rfl rfl h (fun h => ?_) (fun h => ?_)
  · refine je_sub [2, 3, 4, 5, 1, 0] [(0, .ref (G.2.1 + 66)), (1, .int v1), (2, .int v2), (3, .int v3), (5, .int s0), (6, .int t19)] rfl ?_
    exact wX6_behind_56 C v1 v2 v3 s0 t19 h
  refine je_aload_n C dX6_behind_43 44 rfl 2 rfl ?_
  refine gX6_139 C dX6_behind_44 47 rfl ?_
  refine je_iload_n C dX6_behind_47 48 rfl 4 rfl ?_
  refine je_iload_n C dX6_behind_48 49 rfl 5 rfl ?_
  refine je_iload C dX6_behind_49 51 rfl 6 rfl ?_
  obtain ⟨t51, hg, h⟩ := p_cl_inv h
  refine je_callSi (As := [.int v2, .int v3, .int v4]) (rest := [.ref (G.2.1 + 108)]) C (metX6_atYet hg) hdX6_atYet cwX6_473 rfl ⟨Nat.le_of_ble_eq_true rfl, Nat.le_of_ble_eq_true rfl⟩ (Nat.le_of_ble_eq_true rfl) dX6_behind_51 54 rfl ⟨Nat.le_refl _, Nat.le_refl _⟩ ?_
  refine jk_lald C kd108 dX6_behind_54 55 rfl h (fun h => ?_)
  cases h
  exact je_lret C dX6_behind_55
set_option maxHeartbeats 4000000 in
theorem metX6_behind {l : Launch} {G : je_G} {dyn : Nat → Option je_E} {sz : Nat} {F : Nat} {κ : kp_K} {v1 : Int32} {v2 : Int32} {v3 : Int32} {v4 : Int32} {r9 : Int64} (h : pX6_behind F κ v1 v2 v3 v4 = some r9) : MetS l G yX6_behind cX6_behind 9 (some .long) 3 77 0 0 [.ref (G.2.1 + 66), .int v1, .int v2, .int v3, .int v4] (en2 G κ dyn) sz (some (.long r9)) (en2 G κ dyn) sz := by
  refine je_met "MinistryDesksModel" rfl (by decide +kernel) (Nat.le_of_ble_eq_true rfl) [(0, .ref (G.2.1 + 66)), (1, .int v1), (2, .int v2), (3, .int v3), (4, .int v4)] rfl (fun p e s m args below meth c C => ?_)
  unfold pX6_behind at h
  refine je_iload_n C dX6_behind_0 1 rfl 2 rfl ?_
  refine je_if_ne C 8 dX6_behind_1 4 rfl rfl h (fun h => ?_) (fun h => ?_)
  · refine je_aload_n C dX6_behind_8 9 rfl 0 rfl ?_
    refine je_iload_n C dX6_behind_9 10 rfl 2 rfl ?_
    refine je_iconst C (1) dX6_behind_10 11 rfl ic_1 ?_
    refine je_isub C dX6_behind_11 12 rfl ?_
    obtain ⟨t12, hg, h⟩ := p_cl_inv h
    refine je_callVi (As := [.int (v2 - (1 : Int32))]) (rest := []) C (metX6_dayOf hg) (en2_at kd66) rfl hdX6_dayOf rfl cwX6_470 rfl ⟨Nat.le_of_ble_eq_true rfl, Nat.le_of_ble_eq_true rfl⟩ (Nat.le_of_ble_eq_true rfl) dX6_behind_12 15 rfl ⟨Nat.le_refl _, Nat.le_refl _⟩ ?_
    exact wX6_behind_15 C v1 v2 v3 v4 t12 h
  refine je_iconst C (0) dX6_behind_4 5 rfl ic_0 ?_
  refine je_goto C 15 dX6_behind_5 rfl ?_
  exact wX6_behind_15 C v1 v2 v3 v4 (0 : Int32) h
theorem hdX6_behind : je_hd yX6_behind 4 := ⟨by decide +kernel, by decide +kernel, by decide +kernel⟩
theorem hdX6_bitsOf : je_hd yX6_bitsOf 1 := ⟨by decide +kernel, by decide +kernel, by decide +kernel⟩
theorem hdX6_orders : je_hd yX6_orders 1 := ⟨by decide +kernel, by decide +kernel, by decide +kernel⟩
theorem cwX6_479 : GoodIn lw_all (va_wsS "MinistryDesksModel" 479 yX6_bitsOf (ws_ yX6_bitsOf cX6_bitsOf 3 (some .int))) := lw_S q2225 q2226 q169 q2227
theorem cwX6_482 : GoodIn lw_all (wsV "MinistryDesksModel" 482 "MinistryDesksModel" yX6_orders (ws_ yX6_orders cX6_orders 4 none)) := lw_V q2221 q2223 qs139 q169 q2224
theorem cwX6_485 : GoodIn lw_all (wsV "MinistryDesksModel" 485 "MinistryDesksModel" yX6_behind (ws_ yX6_behind cX6_behind 9 (some .long))) := lw_V q2228 q2230 qs140 q169 q2231
theorem mlX6_489 : Cond.methodLink "MinistryDesksModel" 489 Lib.MathLoose.max_long.x ∈ lw_all ∧ Cond.static Lib.MathLoose.max_long.x ∈ lw_all ∧ Cond.initialized "java/lang/Math" ∈ lw_all ∧ Cond.code Lib.MathLoose.max_long.x Lib.MathLoose.max_long.code 4 (some .long) ∈ lw_all := ⟨q2251, q2252, q173, q2253⟩
set_option maxHeartbeats 4000000 in
theorem wX6_layYet_168 {p : Program} {l : Launch} {e : Env} {s : State} {m : MethodId} {args : Array Value} {below : List Frame} {meth : Method} {c : Code} {G : je_G} {dyn : Nat → Option je_E} {sz : Nat} {F : Nat} {r9 : kp_K} {k12 : kp_K → Int32 → Int32 → Option (kp_K)} {k31 : kp_K → Int32 → Int32 → Int32 → Int32 → Option (kp_K)} {k42 : kp_K → Int32 → Int32 → Int32 → Int32 → Int32 → Option (kp_K)} (C : Cx p s m args meth c G "MinistryDesksModel" cX6_layYet 9 none) (hk12 : ∀ (kq : kp_K) (q1 : Int32) (q2 : Int32), k12 kq q1 q2 = some r9 → Js p l e ({ frames := 4, cells := 0, slots := 0, locals := 105 } : Room) s m args below meth c G 9 (MQ below (je_Q G none (en2 G r9 dyn) sz) args s 0 0 (je_A G)) (en2 G kq dyn) sz 0 0 12 [(0, .ref (G.2.1 + 66)), (1, .int q1), (2, .int q2)] []) (hk31 : ∀ (kq : kp_K) (q1 : Int32) (q2 : Int32) (q3 : Int32) (q4 : Int32), k31 kq q1 q2 q3 q4 = some r9 → Js p l e ({ frames := 4, cells := 0, slots := 0, locals := 105 } : Room) s m args below meth c G 9 (MQ below (je_Q G none (en2 G r9 dyn) sz) args s 0 0 (je_A G)) (en2 G kq dyn) sz 0 0 31 [(0, .ref (G.2.1 + 66)), (1, .int q1), (2, .int q2), (3, .int q3), (4, .int q4)] []) (hk42 : ∀ (kq : kp_K) (q1 : Int32) (q2 : Int32) (q3 : Int32) (q4 : Int32) (q5 : Int32), k42 kq q1 q2 q3 q4 q5 = some r9 → Js p l e ({ frames := 4, cells := 0, slots := 0, locals := 105 } : Room) s m args below meth c G 9 (MQ below (je_Q G none (en2 G r9 dyn) sz) args s 0 0 (je_A G)) (en2 G kq dyn) sz 0 0 42 [(0, .ref (G.2.1 + 66)), (1, .int q1), (2, .int q2), (3, .int q3), (4, .int q4), (5, .int q5)] []) (κ : kp_K) (v1 : Int32) (v2 : Int32) (v3 : Int32) (v4 : Int32) (v5 : Int32) (v6 : Int64) (h : bX6_layYet_168 F k12 k31 k42 κ v1 v2 v3 v4 v5 v6 = some r9) : Js p l e ({ frames := 4, cells := 0, slots := 0, locals := 105 } : Room) s m args below meth c G 9 (MQ below (je_Q G none (en2 G r9 dyn) sz) args s 0 0 (je_A G)) (en2 G κ dyn) sz 0 0 168 [(0, .ref (G.2.1 + 66)), (1, .int v1), (2, .int v2), (3, .int v3), (4, .int v4), (5, .int v5), (6, .long v6)] [] := by
  unfold bX6_layYet_168 at h
  refine je_aload_n C dX6_layYet_168 169 rfl 0 rfl ?_
  refine gX6_139 C dX6_layYet_169 172 rfl ?_
  refine je_iload_n C dX6_layYet_172 173 rfl 2 rfl ?_
  refine je_iload C dX6_layYet_173 175 rfl 4 rfl ?_
  refine je_iload C dX6_layYet_175 177 rfl 5 rfl ?_
  obtain ⟨t177, hg, h⟩ := p_cl_inv h
  refine je_callSi (As := [.int v2, .int v4, .int v5]) (rest := [.ref (G.2.1 + 108)]) C (metX6_atYet hg) hdX6_atYet cwX6_473 rfl ⟨Nat.le_of_ble_eq_true rfl, Nat.le_of_ble_eq_true rfl⟩ (Nat.le_of_ble_eq_true rfl) dX6_layYet_177 180 rfl ⟨Nat.le_refl _, Nat.le_refl _⟩ ?_
  refine je_lload C dX6_layYet_180 182 rfl 6 rfl ?_
  refine jk_last C kd108 dX6_layYet_182 183 rfl h (fun h => ?_)
  refine jk_lt h (fun k182 h => ?_)
  refine je_iinc C (1) dX6_layYet_183 186 rfl 5 rfl ic_1 (Nat.le_of_ble_eq_true rfl) [(5, .int (v5 + (1 : Int32))), (0, .ref (G.2.1 + 66)), (1, .int v1), (2, .int v2), (3, .int v3), (4, .int v4), (6, .long v6)] rfl ?_
  refine je_goto C 42 dX6_layYet_186 rfl ?_
  refine je_sub [1, 2, 3, 4, 5, 0] [(0, .ref (G.2.1 + 66)), (1, .int v1), (2, .int v2), (3, .int v3), (4, .int v4), (5, .int (v5 + (1 : Int32)))] rfl ?_
  exact hk42 k182 v1 v2 v3 v4 (v5 + (1 : Int32)) h
set_option maxHeartbeats 4000000 in
theorem wX6_layYet_72 {p : Program} {l : Launch} {e : Env} {s : State} {m : MethodId} {args : Array Value} {below : List Frame} {meth : Method} {c : Code} {G : je_G} {dyn : Nat → Option je_E} {sz : Nat} {F : Nat} {r9 : kp_K} {k12 : kp_K → Int32 → Int32 → Option (kp_K)} {k31 : kp_K → Int32 → Int32 → Int32 → Int32 → Option (kp_K)} {k42 : kp_K → Int32 → Int32 → Int32 → Int32 → Int32 → Option (kp_K)} (C : Cx p s m args meth c G "MinistryDesksModel" cX6_layYet 9 none) (hk12 : ∀ (kq : kp_K) (q1 : Int32) (q2 : Int32), k12 kq q1 q2 = some r9 → Js p l e ({ frames := 4, cells := 0, slots := 0, locals := 105 } : Room) s m args below meth c G 9 (MQ below (je_Q G none (en2 G r9 dyn) sz) args s 0 0 (je_A G)) (en2 G kq dyn) sz 0 0 12 [(0, .ref (G.2.1 + 66)), (1, .int q1), (2, .int q2)] []) (hk31 : ∀ (kq : kp_K) (q1 : Int32) (q2 : Int32) (q3 : Int32) (q4 : Int32), k31 kq q1 q2 q3 q4 = some r9 → Js p l e ({ frames := 4, cells := 0, slots := 0, locals := 105 } : Room) s m args below meth c G 9 (MQ below (je_Q G none (en2 G r9 dyn) sz) args s 0 0 (je_A G)) (en2 G kq dyn) sz 0 0 31 [(0, .ref (G.2.1 + 66)), (1, .int q1), (2, .int q2), (3, .int q3), (4, .int q4)] []) (hk42 : ∀ (kq : kp_K) (q1 : Int32) (q2 : Int32) (q3 : Int32) (q4 : Int32) (q5 : Int32), k42 kq q1 q2 q3 q4 q5 = some r9 → Js p l e ({ frames := 4, cells := 0, slots := 0, locals := 105 } : Room) s m args below meth c G 9 (MQ below (je_Q G none (en2 G r9 dyn) sz) args s 0 0 (je_A G)) (en2 G kq dyn) sz 0 0 42 [(0, .ref (G.2.1 + 66)), (1, .int q1), (2, .int q2), (3, .int q3), (4, .int q4), (5, .int q5)] []) (κ : kp_K) (v1 : Int32) (v2 : Int32) (v3 : Int32) (v4 : Int32) (v5 : Int32) (h : bX6_layYet_72 F k12 k31 k42 κ v1 v2 v3 v4 v5 = some r9) : Js p l e ({ frames := 4, cells := 0, slots := 0, locals := 105 } : Room) s m args below meth c G 9 (MQ below (je_Q G none (en2 G r9 dyn) sz) args s 0 0 (je_A G)) (en2 G κ dyn) sz 0 0 72 [(0, .ref (G.2.1 + 66)), (1, .int v1), (2, .int v2), (3, .int v3), (4, .int v4), (5, .int v5)] [] := by
  unfold bX6_layYet_72 at h
  refine je_aload_n C dX6_layYet_72 73 rfl 0 rfl ?_
  refine je_iload_n C dX6_layYet_73 74 rfl 1 rfl ?_
  refine je_iload_n C dX6_layYet_74 75 rfl 2 rfl ?_
  refine je_iconst C (1) dX6_layYet_75 76 rfl ic_1 ?_
  refine je_iadd C dX6_layYet_76 77 rfl ?_
  refine je_iload C dX6_layYet_77 79 rfl 4 rfl ?_
  refine je_iconst C (1) dX6_layYet_79 80 rfl ic_1 ?_
  refine je_iload_n C dX6_layYet_80 81 rfl 3 rfl ?_
  refine je_ishl C dX6_layYet_81 82 rfl ?_
  refine je_ior C dX6_layYet_82 83 rfl ?_
  refine je_iload C dX6_layYet_83 85 rfl 5 rfl ?_
  obtain ⟨t85, hg, h⟩ := p_cl_inv h
  refine je_callVl (As := [.int v1, .int (v2 + (1 : Int32)), .int (v4 ||| ((1 : Int32) <<< (v3 &&& 31))), .int v5]) (rest := []) C (metX6_behind hg) (en2_at kd66) rfl hdX6_behind rfl cwX6_485 rfl ⟨Nat.le_of_ble_eq_true rfl, Nat.le_of_ble_eq_true rfl⟩ (Nat.le_of_ble_eq_true rfl) dX6_layYet_85 88 rfl ⟨Nat.le_refl _, Nat.le_refl _⟩ ?_
  refine je_lstore C dX6_layYet_88 90 rfl (Nat.le_of_ble_eq_true rfl) [(6, .long t85), (0, .ref (G.2.1 + 66)), (1, .int v1), (2, .int v2), (3, .int v3), (4, .int v4), (5, .int v5)] rfl ?_
  refine je_goto C 168 dX6_layYet_90 rfl ?_
  refine je_sub [1, 2, 3, 4, 5, 6, 0] [(0, .ref (G.2.1 + 66)), (1, .int v1), (2, .int v2), (3, .int v3), (4, .int v4), (5, .int v5), (6, .long t85)] rfl ?_
  exact wX6_layYet_168 C hk12 hk31 hk42 κ v1 v2 v3 v4 v5 t85 h
set_option maxHeartbeats 4000000 in
theorem wX6_layYet_110 {p : Program} {l : Launch} {e : Env} {s : State} {m : MethodId} {args : Array Value} {below : List Frame} {meth : Method} {c : Code} {G : je_G} {dyn : Nat → Option je_E} {sz : Nat} {F : Nat} {r9 : kp_K} {k12 : kp_K → Int32 → Int32 → Option (kp_K)} {k31 : kp_K → Int32 → Int32 → Int32 → Int32 → Option (kp_K)} {k42 : kp_K → Int32 → Int32 → Int32 → Int32 → Int32 → Option (kp_K)} (C : Cx p s m args meth c G "MinistryDesksModel" cX6_layYet 9 none) (hk12 : ∀ (kq : kp_K) (q1 : Int32) (q2 : Int32), k12 kq q1 q2 = some r9 → Js p l e ({ frames := 4, cells := 0, slots := 0, locals := 105 } : Room) s m args below meth c G 9 (MQ below (je_Q G none (en2 G r9 dyn) sz) args s 0 0 (je_A G)) (en2 G kq dyn) sz 0 0 12 [(0, .ref (G.2.1 + 66)), (1, .int q1), (2, .int q2)] []) (hk31 : ∀ (kq : kp_K) (q1 : Int32) (q2 : Int32) (q3 : Int32) (q4 : Int32), k31 kq q1 q2 q3 q4 = some r9 → Js p l e ({ frames := 4, cells := 0, slots := 0, locals := 105 } : Room) s m args below meth c G 9 (MQ below (je_Q G none (en2 G r9 dyn) sz) args s 0 0 (je_A G)) (en2 G kq dyn) sz 0 0 31 [(0, .ref (G.2.1 + 66)), (1, .int q1), (2, .int q2), (3, .int q3), (4, .int q4)] []) (hk42 : ∀ (kq : kp_K) (q1 : Int32) (q2 : Int32) (q3 : Int32) (q4 : Int32) (q5 : Int32), k42 kq q1 q2 q3 q4 q5 = some r9 → Js p l e ({ frames := 4, cells := 0, slots := 0, locals := 105 } : Room) s m args below meth c G 9 (MQ below (je_Q G none (en2 G r9 dyn) sz) args s 0 0 (je_A G)) (en2 G kq dyn) sz 0 0 42 [(0, .ref (G.2.1 + 66)), (1, .int q1), (2, .int q2), (3, .int q3), (4, .int q4), (5, .int q5)] []) : ∀ (n : Nat) (κ : kp_K) (v1 : Int32) (v2 : Int32) (v3 : Int32) (v4 : Int32) (v5 : Int32) (v6 : Int64) (v8 : Int32), bX6_layYet_110 F k12 k31 k42 n κ v1 v2 v3 v4 v5 v6 v8 = some r9 → Js p l e ({ frames := 4, cells := 0, slots := 0, locals := 105 } : Room) s m args below meth c G 9 (MQ below (je_Q G none (en2 G r9 dyn) sz) args s 0 0 (je_A G)) (en2 G κ dyn) sz 0 0 110 [(0, .ref (G.2.1 + 66)), (1, .int v1), (2, .int v2), (3, .int v3), (4, .int v4), (5, .int v5), (6, .long v6), (8, .int v8)] [] := by
  intro n
  induction n with
  | zero =>
    intro κ v1 v2 v3 v4 v5 v6 v8 h
    cases h
  | succ n ih =>
    intro κ v1 v2 v3 v4 v5 v6 v8 h
    rw [bX6_layYet_110] at h
    refine je_iload C dX6_layYet_110 112 rfl 7 rfl ?_
    refine je_bipush C (7) dX6_layYet_112 114 rfl bp_7 ?_
    refine je_icmp_ge C 168 dX6_layYet_114 117 rfl rfl h (fun h => ?_) (fun h => ?_)
    · refine je_sub [0, 1, 2, 3, 4, 5, 6] [(0, .ref (G.2.1 + 66)), (1, .int v1), (2, .int v2), (3, .int v3), (4, .int v4), (5, .int v5), (6, .long v6)] rfl ?_
      exact wX6_layYet_168 C hk12 hk31 hk42 κ v1 v2 v3 v4 v5 v6 h
    refine je_iload C dX6_layYet_117 119 rfl 5 rfl ?_
    refine je_if_ne C 168 dX6_layYet_119 122 rfl rfl h (fun h => ?_) (fun h => ?_)
    · refine je_sub [0, 1, 2, 3, 4, 5, 6] [(0, .ref (G.2.1 + 66)), (1, .int v1), (2, .int v2), (3, .int v3), (4, .int v4), (5, .int v5), (6, .long v6)] rfl ?_
      exact wX6_layYet_168 C hk12 hk31 hk42 κ v1 v2 v3 v4 v5 v6 h
    refine je_iload C dX6_layYet_122 124 rfl 4 rfl ?_
    refine je_iload C dX6_layYet_124 126 rfl 7 rfl ?_
    refine je_ishr C dX6_layYet_126 127 rfl ?_
    refine je_iconst C (1) dX6_layYet_127 128 rfl ic_1 ?_
    refine je_iand C dX6_layYet_128 129 rfl ?_
    refine je_iconst C (1) dX6_layYet_129 130 rfl ic_1 ?_
    refine je_icmp_ne C 162 dX6_layYet_130 133 rfl rfl h (fun h => ?_) (fun h => ?_)
    · refine je_iinc C (1) dX6_layYet_162 165 rfl 7 rfl ic_1 (Nat.le_of_ble_eq_true rfl) [(8, .int (v8 + (1 : Int32))), (0, .ref (G.2.1 + 66)), (1, .int v1), (2, .int v2), (3, .int v3), (4, .int v4), (5, .int v5), (6, .long v6)] rfl ?_
      refine je_goto C 110 dX6_layYet_165 rfl ?_
      refine je_sub [1, 2, 3, 4, 5, 6, 7, 0] [(0, .ref (G.2.1 + 66)), (1, .int v1), (2, .int v2), (3, .int v3), (4, .int v4), (5, .int v5), (6, .long v6), (8, .int (v8 + (1 : Int32)))] rfl ?_
      exact ih κ v1 v2 v3 v4 v5 v6 (v8 + (1 : Int32)) h
    refine je_lload C dX6_layYet_133 135 rfl 6 rfl ?_
    refine je_aload_n C dX6_layYet_135 136 rfl 0 rfl ?_
    refine je_iload_n C dX6_layYet_136 137 rfl 1 rfl ?_
    refine je_iload_n C dX6_layYet_137 138 rfl 2 rfl ?_
    refine je_iconst C (1) dX6_layYet_138 139 rfl ic_1 ?_
    refine je_iadd C dX6_layYet_139 140 rfl ?_
    refine je_iload C dX6_layYet_140 142 rfl 4 rfl ?_
    refine je_iconst C (1) dX6_layYet_142 143 rfl ic_1 ?_
    refine je_iload C dX6_layYet_143 145 rfl 7 rfl ?_
    refine je_ishl C dX6_layYet_145 146 rfl ?_
    refine je_iconst C (-1) dX6_layYet_146 147 rfl ic_m1 ?_
    refine je_ixor C dX6_layYet_147 148 rfl ?_
    refine je_iand C dX6_layYet_148 149 rfl ?_
    refine je_iconst C (1) dX6_layYet_149 150 rfl ic_1 ?_
    refine je_iload_n C dX6_layYet_150 151 rfl 3 rfl ?_
    refine je_ishl C dX6_layYet_151 152 rfl ?_
    refine je_ior C dX6_layYet_152 153 rfl ?_
    refine je_iconst C (1) dX6_layYet_153 154 rfl ic_1 ?_
    obtain ⟨t154, hg, h⟩ := p_cl_inv h
    refine je_callVl (As := [.int v1, .int (v2 + (1 : Int32)), .int ((v4 &&& (((1 : Int32) <<< (v8 &&& 31)) ^^^ (-1 : Int32))) ||| ((1 : Int32) <<< (v3 &&& 31))), .int (1 : Int32)]) (rest := [.long v6]) C (metX6_behind hg) (en2_at kd66) rfl hdX6_behind rfl cwX6_485 rfl ⟨Nat.le_of_ble_eq_true rfl, Nat.le_of_ble_eq_true rfl⟩ (Nat.le_of_ble_eq_true rfl) dX6_layYet_154 157 rfl ⟨Nat.le_refl _, Nat.le_refl _⟩ ?_
    refine je_mmax_long C ⟨Nat.le_of_ble_eq_true rfl, Nat.le_of_ble_eq_true rfl⟩ (Nat.le_of_ble_eq_true rfl) mlX6_489 dX6_layYet_157 160 rfl ⟨Nat.le_refl _, Nat.le_refl _⟩ ?_
    refine je_ltl h (fun t160 h => ?_)
    refine je_lstore C dX6_layYet_160 162 rfl (Nat.le_of_ble_eq_true rfl) [(6, .long t160), (0, .ref (G.2.1 + 66)), (1, .int v1), (2, .int v2), (3, .int v3), (4, .int v4), (5, .int v5), (8, .int v8)] rfl ?_
    refine je_iinc C (1) dX6_layYet_162 165 rfl 7 rfl ic_1 (Nat.le_of_ble_eq_true rfl) [(8, .int (v8 + (1 : Int32))), (6, .long t160), (0, .ref (G.2.1 + 66)), (1, .int v1), (2, .int v2), (3, .int v3), (4, .int v4), (5, .int v5)] rfl ?_
    refine je_goto C 110 dX6_layYet_165 rfl ?_
    refine je_sub [2, 3, 4, 5, 6, 7, 1, 0] [(0, .ref (G.2.1 + 66)), (1, .int v1), (2, .int v2), (3, .int v3), (4, .int v4), (5, .int v5), (6, .long t160), (8, .int (v8 + (1 : Int32)))] rfl ?_
    exact ih κ v1 v2 v3 v4 v5 t160 (v8 + (1 : Int32)) h
set_option maxHeartbeats 4000000 in
theorem wX6_layYet_42 {p : Program} {l : Launch} {e : Env} {s : State} {m : MethodId} {args : Array Value} {below : List Frame} {meth : Method} {c : Code} {G : je_G} {dyn : Nat → Option je_E} {sz : Nat} {F : Nat} {r9 : kp_K} {k12 : kp_K → Int32 → Int32 → Option (kp_K)} {k31 : kp_K → Int32 → Int32 → Int32 → Int32 → Option (kp_K)} (C : Cx p s m args meth c G "MinistryDesksModel" cX6_layYet 9 none) (hk12 : ∀ (kq : kp_K) (q1 : Int32) (q2 : Int32), k12 kq q1 q2 = some r9 → Js p l e ({ frames := 4, cells := 0, slots := 0, locals := 105 } : Room) s m args below meth c G 9 (MQ below (je_Q G none (en2 G r9 dyn) sz) args s 0 0 (je_A G)) (en2 G kq dyn) sz 0 0 12 [(0, .ref (G.2.1 + 66)), (1, .int q1), (2, .int q2)] []) (hk31 : ∀ (kq : kp_K) (q1 : Int32) (q2 : Int32) (q3 : Int32) (q4 : Int32), k31 kq q1 q2 q3 q4 = some r9 → Js p l e ({ frames := 4, cells := 0, slots := 0, locals := 105 } : Room) s m args below meth c G 9 (MQ below (je_Q G none (en2 G r9 dyn) sz) args s 0 0 (je_A G)) (en2 G kq dyn) sz 0 0 31 [(0, .ref (G.2.1 + 66)), (1, .int q1), (2, .int q2), (3, .int q3), (4, .int q4)] []) : ∀ (n : Nat) (κ : kp_K) (v1 : Int32) (v2 : Int32) (v3 : Int32) (v4 : Int32) (v5 : Int32), bX6_layYet_42 F k12 k31 n κ v1 v2 v3 v4 v5 = some r9 → Js p l e ({ frames := 4, cells := 0, slots := 0, locals := 105 } : Room) s m args below meth c G 9 (MQ below (je_Q G none (en2 G r9 dyn) sz) args s 0 0 (je_A G)) (en2 G κ dyn) sz 0 0 42 [(0, .ref (G.2.1 + 66)), (1, .int v1), (2, .int v2), (3, .int v3), (4, .int v4), (5, .int v5)] [] := by
  intro n
  induction n with
  | zero =>
    intro κ v1 v2 v3 v4 v5 h
    cases h
  | succ n ih =>
    intro κ v1 v2 v3 v4 v5 h
    rw [bX6_layYet_42] at h
    refine je_iload C dX6_layYet_42 44 rfl 5 rfl ?_
    refine je_iconst C (2) dX6_layYet_44 45 rfl ic_2 ?_
    refine je_icmp_ge C 189 dX6_layYet_45 48 rfl rfl h (fun h => ?_) (fun h => ?_)
    · refine je_iinc C (1) dX6_layYet_189 192 rfl 4 rfl ic_1 (Nat.le_of_ble_eq_true rfl) [(4, .int (v4 + (1 : Int32))), (0, .ref (G.2.1 + 66)), (1, .int v1), (2, .int v2), (3, .int v3), (5, .int v5)] rfl ?_
      refine je_goto C 31 dX6_layYet_192 rfl ?_
      refine je_sub [1, 2, 3, 4, 0] [(0, .ref (G.2.1 + 66)), (1, .int v1), (2, .int v2), (3, .int v3), (4, .int (v4 + (1 : Int32)))] rfl ?_
      exact hk31 κ v1 v2 v3 (v4 + (1 : Int32)) h
    refine je_iload C dX6_layYet_48 50 rfl 4 rfl ?_
    refine je_iload_n C dX6_layYet_50 51 rfl 3 rfl ?_
    refine je_ishr C dX6_layYet_51 52 rfl ?_
    refine je_iconst C (1) dX6_layYet_52 53 rfl ic_1 ?_
    refine je_iand C dX6_layYet_53 54 rfl ?_
    refine je_iconst C (1) dX6_layYet_54 55 rfl ic_1 ?_
    refine je_icmp_eq C 72 dX6_layYet_55 58 rfl rfl h (fun h => ?_) (fun h => ?_)
    · exact wX6_layYet_72 C hk12 hk31 ih κ v1 v2 v3 v4 v5 h
    refine je_iload C dX6_layYet_58 60 rfl 4 rfl ?_
    obtain ⟨t60, hg, h⟩ := p_cl_inv h
    refine je_callSi (As := [.int v4]) (rest := []) C (metX6_bitsOf hg) hdX6_bitsOf cwX6_479 rfl ⟨Nat.le_of_ble_eq_true rfl, Nat.le_of_ble_eq_true rfl⟩ (Nat.le_of_ble_eq_true rfl) dX6_layYet_60 63 rfl ⟨Nat.le_refl _, Nat.le_refl _⟩ ?_
    refine je_aload_n C dX6_layYet_63 64 rfl 0 rfl ?_
    refine gX6_19 C dX6_layYet_64 67 rfl ?_
    refine je_iload_n C dX6_layYet_67 68 rfl 1 rfl ?_
    refine jk_iald C kd70 dX6_layYet_68 69 rfl h (fun h => ?_)
    refine je_icmp_ge C 93 dX6_layYet_69 72 rfl rfl h (fun h => ?_) (fun h => ?_)
    · refine je_aload_n C dX6_layYet_93 94 rfl 0 rfl ?_
      refine je_iload_n C dX6_layYet_94 95 rfl 1 rfl ?_
      refine je_iload_n C dX6_layYet_95 96 rfl 2 rfl ?_
      refine je_iconst C (1) dX6_layYet_96 97 rfl ic_1 ?_
      refine je_iadd C dX6_layYet_97 98 rfl ?_
      refine je_iload C dX6_layYet_98 100 rfl 4 rfl ?_
      refine je_iload C dX6_layYet_100 102 rfl 5 rfl ?_
      obtain ⟨t102, hg, h⟩ := p_cl_inv h
      refine je_callVl (As := [.int v1, .int (v2 + (1 : Int32)), .int v4, .int v5]) (rest := []) C (metX6_behind hg) (en2_at kd66) rfl hdX6_behind rfl cwX6_485 rfl ⟨Nat.le_of_ble_eq_true rfl, Nat.le_of_ble_eq_true rfl⟩ (Nat.le_of_ble_eq_true rfl) dX6_layYet_102 105 rfl ⟨Nat.le_refl _, Nat.le_refl _⟩ ?_
      refine je_lstore C dX6_layYet_105 107 rfl (Nat.le_of_ble_eq_true rfl) [(6, .long t102), (0, .ref (G.2.1 + 66)), (1, .int v1), (2, .int v2), (3, .int v3), (4, .int v4), (5, .int v5)] rfl ?_
      refine je_iconst C (0) dX6_layYet_107 108 rfl ic_0 ?_
      refine je_istore C dX6_layYet_108 110 rfl (Nat.le_of_ble_eq_true rfl) [(8, .int (0 : Int32)), (6, .long t102), (0, .ref (G.2.1 + 66)), (1, .int v1), (2, .int v2), (3, .int v3), (4, .int v4), (5, .int v5)] rfl ?_
      refine je_sub [2, 3, 4, 5, 6, 7, 1, 0] [(0, .ref (G.2.1 + 66)), (1, .int v1), (2, .int v2), (3, .int v3), (4, .int v4), (5, .int v5), (6, .long t102), (8, .int (0 : Int32))] rfl ?_
      exact wX6_layYet_110 C hk12 hk31 ih F κ v1 v2 v3 v4 v5 t102 (0 : Int32) h
    exact wX6_layYet_72 C hk12 hk31 ih κ v1 v2 v3 v4 v5 h
set_option maxHeartbeats 4000000 in
theorem wX6_layYet_31 {p : Program} {l : Launch} {e : Env} {s : State} {m : MethodId} {args : Array Value} {below : List Frame} {meth : Method} {c : Code} {G : je_G} {dyn : Nat → Option je_E} {sz : Nat} {F : Nat} {r9 : kp_K} {k12 : kp_K → Int32 → Int32 → Option (kp_K)} (C : Cx p s m args meth c G "MinistryDesksModel" cX6_layYet 9 none) (hk12 : ∀ (kq : kp_K) (q1 : Int32) (q2 : Int32), k12 kq q1 q2 = some r9 → Js p l e ({ frames := 4, cells := 0, slots := 0, locals := 105 } : Room) s m args below meth c G 9 (MQ below (je_Q G none (en2 G r9 dyn) sz) args s 0 0 (je_A G)) (en2 G kq dyn) sz 0 0 12 [(0, .ref (G.2.1 + 66)), (1, .int q1), (2, .int q2)] []) : ∀ (n : Nat) (κ : kp_K) (v1 : Int32) (v2 : Int32) (v3 : Int32) (v4 : Int32), bX6_layYet_31 F k12 n κ v1 v2 v3 v4 = some r9 → Js p l e ({ frames := 4, cells := 0, slots := 0, locals := 105 } : Room) s m args below meth c G 9 (MQ below (je_Q G none (en2 G r9 dyn) sz) args s 0 0 (je_A G)) (en2 G κ dyn) sz 0 0 31 [(0, .ref (G.2.1 + 66)), (1, .int v1), (2, .int v2), (3, .int v3), (4, .int v4)] [] := by
  intro n
  induction n with
  | zero =>
    intro κ v1 v2 v3 v4 h
    cases h
  | succ n ih =>
    intro κ v1 v2 v3 v4 h
    rw [bX6_layYet_31] at h
    refine je_iload C dX6_layYet_31 33 rfl 4 rfl ?_
    refine je_sipush C (128) dX6_layYet_33 36 rfl sp_128 ?_
    refine je_icmp_ge C 195 dX6_layYet_36 39 rfl rfl h (fun h => ?_) (fun h => ?_)
    · refine je_iinc C (-1) dX6_layYet_195 198 rfl 2 rfl ic_m1 (Nat.le_of_ble_eq_true rfl) [(2, .int (v2 + (-1 : Int32))), (0, .ref (G.2.1 + 66)), (1, .int v1), (3, .int v3), (4, .int v4)] rfl ?_
      refine je_goto C 12 dX6_layYet_198 rfl ?_
      refine je_sub [1, 2, 0] [(0, .ref (G.2.1 + 66)), (1, .int v1), (2, .int (v2 + (-1 : Int32)))] rfl ?_
      exact hk12 κ v1 (v2 + (-1 : Int32)) h
    refine je_iconst C (0) dX6_layYet_39 40 rfl ic_0 ?_
    refine je_istore C dX6_layYet_40 42 rfl (Nat.le_of_ble_eq_true rfl) [(5, .int (0 : Int32)), (0, .ref (G.2.1 + 66)), (1, .int v1), (2, .int v2), (3, .int v3), (4, .int v4)] rfl ?_
    refine je_sub [1, 2, 3, 4, 5, 0] [(0, .ref (G.2.1 + 66)), (1, .int v1), (2, .int v2), (3, .int v3), (4, .int v4), (5, .int (0 : Int32))] rfl ?_
    exact wX6_layYet_42 C hk12 ih F κ v1 v2 v3 v4 (0 : Int32) h
set_option maxHeartbeats 4000000 in
theorem wX6_layYet_12 {p : Program} {l : Launch} {e : Env} {s : State} {m : MethodId} {args : Array Value} {below : List Frame} {meth : Method} {c : Code} {G : je_G} {dyn : Nat → Option je_E} {sz : Nat} {F : Nat} {r9 : kp_K} (C : Cx p s m args meth c G "MinistryDesksModel" cX6_layYet 9 none) : ∀ (n : Nat) (κ : kp_K) (v1 : Int32) (v2 : Int32), bX6_layYet_12 F n κ v1 v2 = some r9 → Js p l e ({ frames := 4, cells := 0, slots := 0, locals := 105 } : Room) s m args below meth c G 9 (MQ below (je_Q G none (en2 G r9 dyn) sz) args s 0 0 (je_A G)) (en2 G κ dyn) sz 0 0 12 [(0, .ref (G.2.1 + 66)), (1, .int v1), (2, .int v2)] [] := by
  intro n
  induction n with
  | zero =>
    intro κ v1 v2 h
    cases h
  | succ n ih =>
    intro κ v1 v2 h
    rw [bX6_layYet_12] at h
    refine je_iload_n C dX6_layYet_12 13 rfl 2 rfl ?_
    refine je_if_lt C 201 dX6_layYet_13 16 rfl rfl h (fun h => ?_) (fun h => ?_)
    · cases h
      exact je_vret C dX6_layYet_201
    refine je_aload_n C dX6_layYet_16 17 rfl 0 rfl ?_
    refine gX6_37 C dX6_layYet_17 20 rfl ?_
    refine je_aload_n C dX6_layYet_20 21 rfl 0 rfl ?_
    refine gX6_142 C dX6_layYet_21 24 rfl ?_
    refine je_iload_n C dX6_layYet_24 25 rfl 2 rfl ?_
    refine jk_iald C kd109 dX6_layYet_25 26 rfl h (fun h => ?_)
    refine je_lti h (fun i26 h => ?_)
    refine jk_iald C kd76 dX6_layYet_26 27 rfl h (fun h => ?_)
    refine je_lti h (fun t27 h => ?_)
    refine je_istore_n C dX6_layYet_27 28 rfl (Nat.le_of_ble_eq_true rfl) [(3, .int t27), (0, .ref (G.2.1 + 66)), (1, .int v1), (2, .int v2)] rfl ?_
    refine je_iconst C (0) dX6_layYet_28 29 rfl ic_0 ?_
    refine je_istore C dX6_layYet_29 31 rfl (Nat.le_of_ble_eq_true rfl) [(4, .int (0 : Int32)), (3, .int t27), (0, .ref (G.2.1 + 66)), (1, .int v1), (2, .int v2)] rfl ?_
    refine je_sub [2, 3, 4, 1, 0] [(0, .ref (G.2.1 + 66)), (1, .int v1), (2, .int v2), (3, .int t27), (4, .int (0 : Int32))] rfl ?_
    exact wX6_layYet_31 C ih F κ v1 v2 t27 (0 : Int32) h
set_option maxHeartbeats 4000000 in
theorem metX6_layYet {l : Launch} {G : je_G} {dyn : Nat → Option je_E} {sz : Nat} {F : Nat} {κ : kp_K} {v1 : Int32} {r9 : kp_K} (h : pX6_layYet F κ v1 = some r9) : MetS l G yX6_layYet cX6_layYet 9 none 4 105 0 0 [.ref (G.2.1 + 66), .int v1] (en2 G κ dyn) sz none (en2 G r9 dyn) sz := by
  refine je_met "MinistryDesksModel" rfl (by decide +kernel) (Nat.le_of_ble_eq_true rfl) [(0, .ref (G.2.1 + 66)), (1, .int v1)] rfl (fun p e s m args below meth c C => ?_)
  unfold pX6_layYet at h
  refine je_aload_n C dX6_layYet_0 1 rfl 0 rfl ?_
  refine je_iload_n C dX6_layYet_1 2 rfl 1 rfl ?_
  obtain ⟨k2, hg, h⟩ := p_cl_inv h
  refine je_callVv (As := [.int v1]) (rest := []) C (metX6_orders hg) (en2_at kd66) rfl hdX6_orders rfl cwX6_482 rfl ⟨Nat.le_of_ble_eq_true rfl, Nat.le_of_ble_eq_true rfl⟩ (Nat.le_of_ble_eq_true rfl) dX6_layYet_2 5 rfl ⟨Nat.le_refl _, Nat.le_refl _⟩ ?_
  refine je_aload_n C dX6_layYet_5 6 rfl 0 rfl ?_
  refine gX6_461 C dX6_layYet_6 9 rfl ?_
  refine je_iconst C (1) dX6_layYet_9 10 rfl ic_1 ?_
  refine je_isub C dX6_layYet_10 11 rfl ?_
  refine je_lti h (fun t11 h => ?_)
  refine je_istore_n C dX6_layYet_11 12 rfl (Nat.le_of_ble_eq_true rfl) [(2, .int t11), (0, .ref (G.2.1 + 66)), (1, .int v1)] rfl ?_
  refine je_sub [1, 2, 0] [(0, .ref (G.2.1 + 66)), (1, .int v1), (2, .int t11)] rfl ?_
  exact wX6_layYet_12 C F k2 v1 t11 h
theorem hdX6_layYet : je_hd yX6_layYet 1 := ⟨by decide +kernel, by decide +kernel, by decide +kernel⟩
theorem cwX6_493 : GoodIn lw_all (wsV "MinistryDesksModel" 493 "MinistryDesksModel" yX6_layYet (ws_ yX6_layYet cX6_layYet 9 none)) := lw_V q2217 q2219 qs138 q169 q2220
set_option maxHeartbeats 4000000 in
theorem metX6_most {l : Launch} {G : je_G} {dyn : Nat → Option je_E} {sz : Nat} {F : Nat} {κ : kp_K} {v1 : Int32} {r9 : Int64 × kp_K} (h : pX6_most F κ v1 = some r9) : MetS l G yX6_most cX6_most 2 (some .long) 5 133 0 0 [.ref (G.2.1 + 66), .int v1] (en2 G κ dyn) sz (some (.long r9.1)) (en2 G r9.2 dyn) sz := by
  refine je_met "MinistryDesksModel" rfl (by decide +kernel) (Nat.le_of_ble_eq_true rfl) [(0, .ref (G.2.1 + 66)), (1, .int v1)] rfl (fun p e s m args below meth c C => ?_)
  unfold pX6_most at h
  refine je_aload_n C dX6_most_0 1 rfl 0 rfl ?_
  refine je_iload_n C dX6_most_1 2 rfl 1 rfl ?_
  obtain ⟨k2, hg, h⟩ := p_cl_inv h
  refine je_callVv (As := [.int v1]) (rest := []) C (metX6_layYet hg) (en2_at kd66) rfl hdX6_layYet rfl cwX6_493 rfl ⟨Nat.le_of_ble_eq_true rfl, Nat.le_of_ble_eq_true rfl⟩ (Nat.le_of_ble_eq_true rfl) dX6_most_2 5 rfl ⟨Nat.le_refl _, Nat.le_refl _⟩ ?_
  refine je_aload_n C dX6_most_5 6 rfl 0 rfl ?_
  refine gX6_461 C dX6_most_6 9 rfl ?_
  refine je_if_ne C 16 dX6_most_9 12 rfl rfl h (fun h => ?_) (fun h => ?_)
  · refine je_aload_n C dX6_most_16 17 rfl 0 rfl ?_
    refine gX6_139 C dX6_most_17 20 rfl ?_
    refine je_iconst C (0) dX6_most_20 21 rfl ic_0 ?_
    refine je_iconst C (0) dX6_most_21 22 rfl ic_0 ?_
    refine je_iconst C (0) dX6_most_22 23 rfl ic_0 ?_
    obtain ⟨t23, hg, h⟩ := p_cl_inv h
    refine je_callSi (As := [.int (0 : Int32), .int (0 : Int32), .int (0 : Int32)]) (rest := [.ref (G.2.1 + 108)]) C (metX6_atYet hg) hdX6_atYet cwX6_473 rfl ⟨Nat.le_of_ble_eq_true rfl, Nat.le_of_ble_eq_true rfl⟩ (Nat.le_of_ble_eq_true rfl) dX6_most_23 26 rfl ⟨Nat.le_refl _, Nat.le_refl _⟩ ?_
    refine jk_lald C kd108 dX6_most_26 27 rfl h (fun h => ?_)
    cases h
    exact je_lret C dX6_most_27
  refine je_lconst C (0) dX6_most_12 13 rfl rfl ?_
  refine je_goto C 27 dX6_most_13 rfl ?_
  cases h
  exact je_lret C dX6_most_27
theorem hdX6_byOdds : je_hd yX6_byOdds 0 := ⟨by decide +kernel, by decide +kernel, by decide +kernel⟩
theorem hdX6_most : je_hd yX6_most 1 := ⟨by decide +kernel, by decide +kernel, by decide +kernel⟩
theorem cwX6_496 : GoodIn lw_all (wsV "MinistryDesksModel" 496 "MinistryDesksModel" yX6_byOdds (ws_ yX6_byOdds cX6_byOdds 2 none)) := lw_V q2209 q2211 qs136 q169 q2212
theorem cwX6_499 : GoodIn lw_all (wsV "MinistryDesksModel" 499 "MinistryDesksModel" yX6_most (ws_ yX6_most cX6_most 2 (some .long))) := lw_V q2213 q2215 qs137 q169 q2216
set_option maxHeartbeats 4000000 in
theorem metX6_best {l : Launch} {G : je_G} {dyn : Nat → Option je_E} {sz : Nat} {F : Nat} {κ : kp_K} {v1 : Int32} {r9 : Int32 × kp_K} (h : pX6_best F κ v1 = some r9) : MetS l G yX6_best cX6_best 2 (some .int) 6 154 0 0 [.ref (G.2.1 + 66), .int v1] (en2 G κ dyn) sz (some (.int r9.1)) (en2 G r9.2 dyn) sz := by
  refine je_met "MinistryDesksModel" rfl (by decide +kernel) (Nat.le_of_ble_eq_true rfl) [(0, .ref (G.2.1 + 66)), (1, .int v1)] rfl (fun p e s m args below meth c C => ?_)
  unfold pX6_best at h
  refine je_aload_n C dX6_best_0 1 rfl 0 rfl ?_
  refine je_iconst C (0) dX6_best_1 2 rfl ic_0 ?_
  refine sX6_166 C dX6_best_2 5 rfl ?_
  refine jk_lt h (fun k2 h => ?_)
  refine je_aload_n C dX6_best_5 6 rfl 0 rfl ?_
  refine je_iload_n C dX6_best_6 7 rfl 1 rfl ?_
  obtain ⟨t7, hg, h⟩ := p_cl_inv h
  refine je_callVi (As := [.int v1]) (rest := []) C (metX6_isDesk hg) (en2_at kd66) rfl hdX6_isDesk rfl cwX6_452 rfl ⟨Nat.le_of_ble_eq_true rfl, Nat.le_of_ble_eq_true rfl⟩ (Nat.le_of_ble_eq_true rfl) dX6_best_7 10 rfl ⟨Nat.le_refl _, Nat.le_refl _⟩ ?_
  refine je_if_ne C 15 dX6_best_10 13 rfl rfl h (fun h => ?_) (fun h => ?_)
  · refine je_aload_n C dX6_best_15 16 rfl 0 rfl ?_
    obtain ⟨k16, hg, h⟩ := p_cl_inv h
    refine je_callVv (As := []) (rest := []) C (metX6_byOdds hg) (en2_at kd66) rfl hdX6_byOdds rfl cwX6_496 rfl ⟨Nat.le_of_ble_eq_true rfl, Nat.le_of_ble_eq_true rfl⟩ (Nat.le_of_ble_eq_true rfl) dX6_best_16 19 rfl ⟨Nat.le_refl _, Nat.le_refl _⟩ ?_
    refine je_aload_n C dX6_best_19 20 rfl 0 rfl ?_
    refine je_iload_n C dX6_best_20 21 rfl 1 rfl ?_
    obtain ⟨q21, hg, h⟩ := p_cl_inv h
    refine je_callVl (As := [.int v1]) (rest := []) C (metX6_most hg) (en2_at kd66) rfl hdX6_most rfl cwX6_499 rfl ⟨Nat.le_of_ble_eq_true rfl, Nat.le_of_ble_eq_true rfl⟩ (Nat.le_of_ble_eq_true rfl) dX6_best_21 24 rfl ⟨Nat.le_refl _, Nat.le_refl _⟩ ?_
    refine je_ltl h (fun t21 h => ?_)
    refine jk_lt h (fun k21 h => ?_)
    refine je_l2i C dX6_best_24 25 rfl ?_
    cases h
    exact je_iret C dX6_best_25
  refine je_iconst C (-1) dX6_best_13 14 rfl ic_m1 ?_
  cases h
  exact je_iret C dX6_best_14
set_option maxHeartbeats 4000000 in
theorem metX6_isTime {l : Launch} {G : je_G} {dyn : Nat → Option je_E} {sz : Nat} {F : Nat} {κ : kp_K} {v1 : Int32} {v2 : Int32} {v3 : Int32} {v4 : Int32} {r9 : Int32} (h : pX6_isTime F κ v1 v2 v3 v4 = some r9) : MetS l G yX6_isTime cX6_isTime 5 (some .boolean) 1 22 0 0 [.ref (G.2.1 + 66), .int v1, .int v2, .int v3, .int v4] (en2 G κ dyn) sz (some (.int r9)) (en2 G κ dyn) sz := by
  refine je_met "MinistryDesksModel" rfl (by decide +kernel) (Nat.le_of_ble_eq_true rfl) [(0, .ref (G.2.1 + 66)), (1, .int v1), (2, .int v2), (3, .int v3), (4, .int v4)] rfl (fun p e s m args below meth c C => ?_)
  unfold pX6_isTime at h
  refine je_iload_n C dX6_isTime_0 1 rfl 3 rfl ?_
  refine je_aload_n C dX6_isTime_1 2 rfl 0 rfl ?_
  refine gX6_37 C dX6_isTime_2 5 rfl ?_
  refine je_aload_n C dX6_isTime_5 6 rfl 0 rfl ?_
  refine gX6_142 C dX6_isTime_6 9 rfl ?_
  refine je_iload_n C dX6_isTime_9 10 rfl 2 rfl ?_
  refine jk_iald C kd109 dX6_isTime_10 11 rfl h (fun h => ?_)
  refine je_lti h (fun i11 h => ?_)
  refine jk_iald C kd76 dX6_isTime_11 12 rfl h (fun h => ?_)
  refine je_ishr C dX6_isTime_12 13 rfl ?_
  refine je_iconst C (1) dX6_isTime_13 14 rfl ic_1 ?_
  refine je_iand C dX6_isTime_14 15 rfl ?_
  refine je_if_ne C 40 dX6_isTime_15 18 rfl rfl h (fun h => ?_) (fun h => ?_)
  · refine je_iconst C (0) dX6_isTime_40 41 rfl ic_0 ?_
    cases h
    exact je_zret C dX6_isTime_41 (Or.inl rfl)
  refine je_iload_n C dX6_isTime_18 19 rfl 3 rfl ?_
  obtain ⟨t19, hg, h⟩ := p_cl_inv h
  refine je_callSi (As := [.int v3]) (rest := []) C (metX6_bitsOf hg) hdX6_bitsOf cwX6_479 rfl ⟨Nat.le_of_ble_eq_true rfl, Nat.le_of_ble_eq_true rfl⟩ (Nat.le_of_ble_eq_true rfl) dX6_isTime_19 22 rfl ⟨Nat.le_refl _, Nat.le_refl _⟩ ?_
  refine je_aload_n C dX6_isTime_22 23 rfl 0 rfl ?_
  refine gX6_19 C dX6_isTime_23 26 rfl ?_
  refine je_iload_n C dX6_isTime_26 27 rfl 1 rfl ?_
  refine jk_iald C kd70 dX6_isTime_27 28 rfl h (fun h => ?_)
  refine je_icmp_lt C 40 dX6_isTime_28 31 rfl rfl h (fun h => ?_) (fun h => ?_)
  · refine je_iconst C (0) dX6_isTime_40 41 rfl ic_0 ?_
    cases h
    exact je_zret C dX6_isTime_41 (Or.inl rfl)
  refine je_iload C dX6_isTime_31 33 rfl 4 rfl ?_
  refine je_if_ne C 40 dX6_isTime_33 36 rfl rfl h (fun h => ?_) (fun h => ?_)
  · refine je_iconst C (0) dX6_isTime_40 41 rfl ic_0 ?_
    cases h
    exact je_zret C dX6_isTime_41 (Or.inl rfl)
  refine je_iconst C (1) dX6_isTime_36 37 rfl ic_1 ?_
  refine je_goto C 41 dX6_isTime_37 rfl ?_
  cases h
  exact je_zret C dX6_isTime_41 (Or.inr rfl)
theorem bp_m3 : (Int8.ofInt (-3)).toInt32 = (-3 : Int32) := by decide +kernel
theorem hdX6_isTime : je_hd yX6_isTime 4 := ⟨by decide +kernel, by decide +kernel, by decide +kernel⟩
theorem cwX6_509 : GoodIn lw_all (wsV "MinistryDesksModel" 509 "MinistryDesksModel" yX6_isTime (ws_ yX6_isTime cX6_isTime 5 (some .boolean))) := lw_V q2262 q2264 qs146 q169 q2265
theorem gX6_503 {p : Program} {l : Launch} {e : Env} {R : Room} {s : State} {m : MethodId} {args : Array Value} {below : List Frame} {meth : Method} {c : Code} {Q : State → Prop} {G : je_G} {cc : ByteArray} {nL : Nat} {rt : Option FieldType} {sz cells slots pc : Nat} {L : List (Nat × Value)} {st : List Value} {κ : kp_K} {dyn : Nat → Option je_E} (C : Cx p s m args meth c G "MinistryDesksModel" cc nL rt) (d : decode cc pc = .ok (.getfield 503, 3)) (n : Nat) (hn : pc + 3 = n) (kk : Js p l e R s m args below meth c G nL Q (en2 G κ dyn) sz cells slots n L (.int (κ.1 66 66) :: st)) : Js p l e R s m args below meth c G nL Q (en2 G κ dyn) sz cells slots pc L (.ref (G.2.1 + 66) :: st) := jk_getI (k := 66) C kd66 rfl in_X6 rfl (by decide) q1746 rfl d n hn kk
theorem gX6_506 {p : Program} {l : Launch} {e : Env} {R : Room} {s : State} {m : MethodId} {args : Array Value} {below : List Frame} {meth : Method} {c : Code} {Q : State → Prop} {G : je_G} {cc : ByteArray} {nL : Nat} {rt : Option FieldType} {sz cells slots pc : Nat} {L : List (Nat × Value)} {st : List Value} {κ : kp_K} {dyn : Nat → Option je_E} (C : Cx p s m args meth c G "MinistryDesksModel" cc nL rt) (d : decode cc pc = .ok (.getfield 506, 3)) (n : Nat) (hn : pc + 3 = n) (kk : Js p l e R s m args below meth c G nL Q (en2 G κ dyn) sz cells slots n L (.int (κ.1 66 67) :: st)) : Js p l e R s m args below meth c G nL Q (en2 G κ dyn) sz cells slots pc L (.ref (G.2.1 + 66) :: st) := jk_getI (k := 67) C kd66 rfl in_X6 rfl (by decide) q1747 rfl d n hn kk
theorem sX6_503 {p : Program} {l : Launch} {e : Env} {R : Room} {s : State} {m : MethodId} {args : Array Value} {below : List Frame} {meth : Method} {c : Code} {Q : State → Prop} {G : je_G} {cc : ByteArray} {nL : Nat} {rt : Option FieldType} {sz cells slots pc : Nat} {L : List (Nat × Value)} {st : List Value} {κ : kp_K} {dyn : Nat → Option je_E} (C : Cx p s m args meth c G "MinistryDesksModel" cc nL rt) {v : Int32} (d : decode cc pc = .ok (.putfield 503, 3)) (n : Nat) (hn : pc + 3 = n) (kk : Js p l e R s m args below meth c G nL Q (en2 G (s_i κ 66 66 v) dyn) sz cells slots n L st) : Js p l e R s m args below meth c G nL Q (en2 G κ dyn) sz cells slots pc L (.int v :: .ref (G.2.1 + 66) :: st) := jk_putI (k := 66) C kd66 rfl in_X6 tyX6 tyX6_ok nmX6 rfl (by decide) q1746 rfl rfl rfl d n hn kk
theorem sX6_506 {p : Program} {l : Launch} {e : Env} {R : Room} {s : State} {m : MethodId} {args : Array Value} {below : List Frame} {meth : Method} {c : Code} {Q : State → Prop} {G : je_G} {cc : ByteArray} {nL : Nat} {rt : Option FieldType} {sz cells slots pc : Nat} {L : List (Nat × Value)} {st : List Value} {κ : kp_K} {dyn : Nat → Option je_E} (C : Cx p s m args meth c G "MinistryDesksModel" cc nL rt) {v : Int32} (d : decode cc pc = .ok (.putfield 506, 3)) (n : Nat) (hn : pc + 3 = n) (kk : Js p l e R s m args below meth c G nL Q (en2 G (s_i κ 66 67 v) dyn) sz cells slots n L st) : Js p l e R s m args below meth c G nL Q (en2 G κ dyn) sz cells slots pc L (.int v :: .ref (G.2.1 + 66) :: st) := jk_putI (k := 67) C kd66 rfl in_X6 tyX6 tyX6_ok nmX6 rfl (by decide) q1747 rfl rfl rfl d n hn kk
set_option maxHeartbeats 4000000 in
theorem wX6_walk_184 {p : Program} {l : Launch} {e : Env} {s : State} {m : MethodId} {args : Array Value} {below : List Frame} {meth : Method} {c : Code} {G : je_G} {dyn : Nat → Option je_E} {sz : Nat} {F : Nat} {r9 : Int32 × kp_K} (C : Cx p s m args meth c G "MinistryDesksModel" cX6_walk 7 (some .int)) (κ : kp_K) (v3 : Int32) (v4 : Int32) (h : bX6_walk_184 F κ v3 v4 = some r9) : Js p l e ({ frames := 4, cells := 0, slots := 0, locals := 105 } : Room) s m args below meth c G 7 (MQ below (je_Q G (some (.int r9.1)) (en2 G r9.2 dyn) sz) args s 0 0 (je_A G)) (en2 G κ dyn) sz 0 0 184 [(0, .ref (G.2.1 + 66)), (3, .int v3), (4, .int v4)] [] := by
  unfold bX6_walk_184 at h
  refine je_aload_n C dX6_walk_184 185 rfl 0 rfl ?_
  refine je_dup C dX6_walk_185 186 rfl rfl ?_
  refine gX6_503 C dX6_walk_186 189 rfl ?_
  refine je_iconst C (1) dX6_walk_189 190 rfl ic_1 ?_
  refine je_iload_n C dX6_walk_190 191 rfl 1 rfl ?_
  refine je_ishl C dX6_walk_191 192 rfl ?_
  refine je_ior C dX6_walk_192 193 rfl ?_
  refine sX6_503 C dX6_walk_193 196 rfl ?_
  refine jk_lt h (fun k193 h => ?_)
  refine je_iload C dX6_walk_196 198 rfl 2 rfl ?_
  cases h
  exact je_iret C dX6_walk_198
set_option maxHeartbeats 4000000 in
theorem wX6_walk_81 {p : Program} {l : Launch} {e : Env} {s : State} {m : MethodId} {args : Array Value} {below : List Frame} {meth : Method} {c : Code} {G : je_G} {dyn : Nat → Option je_E} {sz : Nat} {F : Nat} {r9 : Int32 × kp_K} (C : Cx p s m args meth c G "MinistryDesksModel" cX6_walk 7 (some .int)) : ∀ (n : Nat) (κ : kp_K) (v1 : Int32) (v2 : Int32) (v3 : Int32) (v4 : Int32) (v5 : Int64), bX6_walk_81 F n κ v1 v2 v3 v4 v5 = some r9 → Js p l e ({ frames := 4, cells := 0, slots := 0, locals := 105 } : Room) s m args below meth c G 7 (MQ below (je_Q G (some (.int r9.1)) (en2 G r9.2 dyn) sz) args s 0 0 (je_A G)) (en2 G κ dyn) sz 0 0 81 [(0, .ref (G.2.1 + 66)), (1, .int v1), (2, .int v2), (3, .int v3), (4, .int v4), (5, .long v5)] [] := by
  intro n
  induction n with
  | zero =>
    intro κ v1 v2 v3 v4 v5 h
    cases h
  | succ n ih =>
    intro κ v1 v2 v3 v4 v5 h
    rw [bX6_walk_81] at h
    refine je_aload_n C dX6_walk_81 82 rfl 0 rfl ?_
    refine gX6_503 C dX6_walk_82 85 rfl ?_
    refine je_iload C dX6_walk_85 87 rfl 4 rfl ?_
    refine je_ishr C dX6_walk_87 88 rfl ?_
    refine je_iconst C (1) dX6_walk_88 89 rfl ic_1 ?_
    refine je_iand C dX6_walk_89 90 rfl ?_
    refine je_if_eq C 123 dX6_walk_90 93 rfl rfl h (fun h => ?_) (fun h => ?_)
    · refine je_iinc C (1) dX6_walk_123 126 rfl 4 rfl ic_1 (Nat.le_of_ble_eq_true rfl) [(4, .int (v4 + (1 : Int32))), (0, .ref (G.2.1 + 66)), (1, .int v1), (2, .int v2), (3, .int v3), (5, .long v5)] rfl ?_
      refine je_goto C 81 dX6_walk_126 rfl ?_
      refine je_sub [1, 2, 3, 4, 0, 5] [(0, .ref (G.2.1 + 66)), (1, .int v1), (2, .int v2), (3, .int v3), (4, .int (v4 + (1 : Int32))), (5, .long v5)] rfl ?_
      exact ih κ v1 v2 v3 (v4 + (1 : Int32)) v5 h
    refine je_aload_n C dX6_walk_93 94 rfl 0 rfl ?_
    refine je_iload_n C dX6_walk_94 95 rfl 1 rfl ?_
    refine je_iload_n C dX6_walk_95 96 rfl 2 rfl ?_
    refine je_iconst C (1) dX6_walk_96 97 rfl ic_1 ?_
    refine je_iadd C dX6_walk_97 98 rfl ?_
    refine je_aload_n C dX6_walk_98 99 rfl 0 rfl ?_
    refine gX6_503 C dX6_walk_99 102 rfl ?_
    refine je_iconst C (1) dX6_walk_102 103 rfl ic_1 ?_
    refine je_iload C dX6_walk_103 105 rfl 4 rfl ?_
    refine je_ishl C dX6_walk_105 106 rfl ?_
    refine je_iconst C (-1) dX6_walk_106 107 rfl ic_m1 ?_
    refine je_ixor C dX6_walk_107 108 rfl ?_
    refine je_iand C dX6_walk_108 109 rfl ?_
    refine je_iconst C (1) dX6_walk_109 110 rfl ic_1 ?_
    refine je_iload_n C dX6_walk_110 111 rfl 3 rfl ?_
    refine je_ishl C dX6_walk_111 112 rfl ?_
    refine je_ior C dX6_walk_112 113 rfl ?_
    refine je_iconst C (1) dX6_walk_113 114 rfl ic_1 ?_
    obtain ⟨t114, hg, h⟩ := p_cl_inv h
    refine je_callVl (As := [.int v1, .int (v2 + (1 : Int32)), .int (((κ.1 66 66) &&& (((1 : Int32) <<< (v4 &&& 31)) ^^^ (-1 : Int32))) ||| ((1 : Int32) <<< (v3 &&& 31))), .int (1 : Int32)]) (rest := []) C (metX6_behind hg) (en2_at kd66) rfl hdX6_behind rfl cwX6_485 rfl ⟨Nat.le_of_ble_eq_true rfl, Nat.le_of_ble_eq_true rfl⟩ (Nat.le_of_ble_eq_true rfl) dX6_walk_114 117 rfl ⟨Nat.le_refl _, Nat.le_refl _⟩ ?_
    refine je_lload C dX6_walk_117 119 rfl 5 rfl ?_
    refine je_lcmp C dX6_walk_119 120 rfl ?_
    refine je_if_eq C 129 dX6_walk_120 123 rfl rfl h (fun h => ?_) (fun h => ?_)
    · refine je_aload_n C dX6_walk_129 130 rfl 0 rfl ?_
      refine je_aload_n C dX6_walk_130 131 rfl 0 rfl ?_
      refine gX6_503 C dX6_walk_131 134 rfl ?_
      refine je_iconst C (1) dX6_walk_134 135 rfl ic_1 ?_
      refine je_iload C dX6_walk_135 137 rfl 4 rfl ?_
      refine je_ishl C dX6_walk_137 138 rfl ?_
      refine je_iconst C (-1) dX6_walk_138 139 rfl ic_m1 ?_
      refine je_ixor C dX6_walk_139 140 rfl ?_
      refine je_iand C dX6_walk_140 141 rfl ?_
      refine je_iconst C (1) dX6_walk_141 142 rfl ic_1 ?_
      refine je_iload_n C dX6_walk_142 143 rfl 3 rfl ?_
      refine je_ishl C dX6_walk_143 144 rfl ?_
      refine je_ior C dX6_walk_144 145 rfl ?_
      refine sX6_503 C dX6_walk_145 148 rfl ?_
      refine jk_lt h (fun k145 h => ?_)
      refine je_aload_n C dX6_walk_148 149 rfl 0 rfl ?_
      refine je_iconst C (1) dX6_walk_149 150 rfl ic_1 ?_
      refine sX6_506 C dX6_walk_150 153 rfl ?_
      refine jk_lt h (fun k150 h => ?_)
      refine je_goto C 196 dX6_walk_153 rfl ?_
      refine je_iload C dX6_walk_196 198 rfl 4 rfl ?_
      cases h
      exact je_iret C dX6_walk_198
    refine je_iinc C (1) dX6_walk_123 126 rfl 4 rfl ic_1 (Nat.le_of_ble_eq_true rfl) [(4, .int (v4 + (1 : Int32))), (0, .ref (G.2.1 + 66)), (1, .int v1), (2, .int v2), (3, .int v3), (5, .long v5)] rfl ?_
    refine je_goto C 81 dX6_walk_126 rfl ?_
    refine je_sub [1, 2, 3, 4, 0, 5] [(0, .ref (G.2.1 + 66)), (1, .int v1), (2, .int v2), (3, .int v3), (4, .int (v4 + (1 : Int32))), (5, .long v5)] rfl ?_
    exact ih κ v1 v2 v3 (v4 + (1 : Int32)) v5 h
set_option maxHeartbeats 4000000 in
theorem metX6_walk {l : Launch} {G : je_G} {dyn : Nat → Option je_E} {sz : Nat} {F : Nat} {κ : kp_K} {v1 : Int32} {v2 : Int32} {r9 : Int32 × kp_K} (h : pX6_walk F κ v1 v2 = some r9) : MetS l G yX6_walk cX6_walk 7 (some .int) 4 105 0 0 [.ref (G.2.1 + 66), .int v1, .int v2] (en2 G κ dyn) sz (some (.int r9.1)) (en2 G r9.2 dyn) sz := by
  refine je_met "MinistryDesksModel" rfl (by decide +kernel) (Nat.le_of_ble_eq_true rfl) [(0, .ref (G.2.1 + 66)), (1, .int v1), (2, .int v2)] rfl (fun p e s m args below meth c C => ?_)
  unfold pX6_walk at h
  refine je_aload_n C dX6_walk_0 1 rfl 0 rfl ?_
  refine gX6_37 C dX6_walk_1 4 rfl ?_
  refine je_aload_n C dX6_walk_4 5 rfl 0 rfl ?_
  refine gX6_142 C dX6_walk_5 8 rfl ?_
  refine je_iload_n C dX6_walk_8 9 rfl 2 rfl ?_
  refine jk_iald C kd109 dX6_walk_9 10 rfl h (fun h => ?_)
  refine je_lti h (fun i10 h => ?_)
  refine jk_iald C kd76 dX6_walk_10 11 rfl h (fun h => ?_)
  refine je_lti h (fun t11 h => ?_)
  refine je_istore_n C dX6_walk_11 12 rfl (Nat.le_of_ble_eq_true rfl) [(3, .int t11), (0, .ref (G.2.1 + 66)), (1, .int v1), (2, .int v2)] rfl ?_
  refine je_bipush C (-3) dX6_walk_12 14 rfl bp_m3 ?_
  refine je_istore C dX6_walk_14 16 rfl (Nat.le_of_ble_eq_true rfl) [(4, .int (-3 : Int32)), (3, .int t11), (0, .ref (G.2.1 + 66)), (1, .int v1), (2, .int v2)] rfl ?_
  refine je_aload_n C dX6_walk_16 17 rfl 2 rfl ?_
  refine je_iload_n C dX6_walk_17 18 rfl 3 rfl ?_
  refine je_iload_n C dX6_walk_18 19 rfl 4 rfl ?_
  refine je_aload_n C dX6_walk_19 20 rfl 2 rfl ?_
  refine gX6_503 C dX6_walk_20 23 rfl ?_
  refine je_aload_n C dX6_walk_23 24 rfl 2 rfl ?_
  refine gX6_506 C dX6_walk_24 27 rfl ?_
  obtain ⟨t27, hg, h⟩ := p_cl_inv h
  refine je_callVi (As := [.int v1, .int v2, .int (κ.1 66 66), .int (κ.1 66 67)]) (rest := []) C (metX6_isTime hg) (en2_at kd66) rfl hdX6_isTime rfl cwX6_509 rfl ⟨Nat.le_of_ble_eq_true rfl, Nat.le_of_ble_eq_true rfl⟩ (Nat.le_of_ble_eq_true rfl) dX6_walk_27 30 rfl ⟨Nat.le_refl _, Nat.le_refl _⟩ ?_
  refine je_if_eq C 156 dX6_walk_30 33 rfl rfl h (fun h => ?_) (fun h => ?_)
  · refine je_aload_n C dX6_walk_156 157 rfl 2 rfl ?_
    refine gX6_503 C dX6_walk_157 160 rfl ?_
    refine je_iload_n C dX6_walk_160 161 rfl 1 rfl ?_
    refine je_ishr C dX6_walk_161 162 rfl ?_
    refine je_iconst C (1) dX6_walk_162 163 rfl ic_1 ?_
    refine je_iand C dX6_walk_163 164 rfl ?_
    refine je_iconst C (1) dX6_walk_164 165 rfl ic_1 ?_
    refine je_icmp_eq C 184 dX6_walk_165 168 rfl rfl h (fun h => ?_) (fun h => ?_)
    · refine je_sub [2, 1, 0] [(0, .ref (G.2.1 + 66)), (3, .int t11), (4, .int (-3 : Int32))] rfl ?_
      exact wX6_walk_184 C κ t11 (-3 : Int32) h
    refine je_aload_n C dX6_walk_168 169 rfl 2 rfl ?_
    refine gX6_503 C dX6_walk_169 172 rfl ?_
    obtain ⟨t172, hg, h⟩ := p_cl_inv h
    refine je_callSi (As := [.int (κ.1 66 66)]) (rest := []) C (metX6_bitsOf hg) hdX6_bitsOf cwX6_479 rfl ⟨Nat.le_of_ble_eq_true rfl, Nat.le_of_ble_eq_true rfl⟩ (Nat.le_of_ble_eq_true rfl) dX6_walk_172 175 rfl ⟨Nat.le_refl _, Nat.le_refl _⟩ ?_
    refine je_aload_n C dX6_walk_175 176 rfl 2 rfl ?_
    refine gX6_19 C dX6_walk_176 179 rfl ?_
    refine je_iload_n C dX6_walk_179 180 rfl 3 rfl ?_
    refine jk_iald C kd70 dX6_walk_180 181 rfl h (fun h => ?_)
    refine je_icmp_ge C 196 dX6_walk_181 184 rfl rfl h (fun h => ?_) (fun h => ?_)
    · refine je_iload C dX6_walk_196 198 rfl 0 rfl ?_
      cases h
      exact je_iret C dX6_walk_198
    refine je_sub [2, 1, 0] [(0, .ref (G.2.1 + 66)), (3, .int t11), (4, .int (-3 : Int32))] rfl ?_
    exact wX6_walk_184 C κ t11 (-3 : Int32) h
  refine je_aload_n C dX6_walk_33 34 rfl 2 rfl ?_
  refine gX6_139 C dX6_walk_34 37 rfl ?_
  refine je_iload_n C dX6_walk_37 38 rfl 4 rfl ?_
  refine je_aload_n C dX6_walk_38 39 rfl 2 rfl ?_
  refine gX6_503 C dX6_walk_39 42 rfl ?_
  refine je_aload_n C dX6_walk_42 43 rfl 2 rfl ?_
  refine gX6_506 C dX6_walk_43 46 rfl ?_
  obtain ⟨t46, hg, h⟩ := p_cl_inv h
  refine je_callSi (As := [.int v2, .int (κ.1 66 66), .int (κ.1 66 67)]) (rest := [.ref (G.2.1 + 108)]) C (metX6_atYet hg) hdX6_atYet cwX6_473 rfl ⟨Nat.le_of_ble_eq_true rfl, Nat.le_of_ble_eq_true rfl⟩ (Nat.le_of_ble_eq_true rfl) dX6_walk_46 49 rfl ⟨Nat.le_refl _, Nat.le_refl _⟩ ?_
  refine jk_lald C kd108 dX6_walk_49 50 rfl h (fun h => ?_)
  refine je_ltl h (fun t50 h => ?_)
  refine je_lstore C dX6_walk_50 52 rfl (Nat.le_of_ble_eq_true rfl) [(5, .long t50), (4, .int (-3 : Int32)), (3, .int t11), (0, .ref (G.2.1 + 66)), (1, .int v1), (2, .int v2)] rfl ?_
  refine je_bipush C (-2) dX6_walk_52 54 rfl bp_m2 ?_
  refine je_istore C dX6_walk_54 56 rfl (Nat.le_of_ble_eq_true rfl) [(4, .int (-2 : Int32)), (5, .long t50), (3, .int t11), (0, .ref (G.2.1 + 66)), (1, .int v1), (2, .int v2)] rfl ?_
  refine je_aload_n C dX6_walk_56 57 rfl 3 rfl ?_
  refine je_iload_n C dX6_walk_57 58 rfl 4 rfl ?_
  refine je_iload_n C dX6_walk_58 59 rfl 5 rfl ?_
  refine je_iconst C (1) dX6_walk_59 60 rfl ic_1 ?_
  refine je_iadd C dX6_walk_60 61 rfl ?_
  refine je_aload_n C dX6_walk_61 62 rfl 3 rfl ?_
  refine gX6_503 C dX6_walk_62 65 rfl ?_
  refine je_aload_n C dX6_walk_65 66 rfl 3 rfl ?_
  refine gX6_506 C dX6_walk_66 69 rfl ?_
  obtain ⟨t69, hg, h⟩ := p_cl_inv h
  refine je_callVl (As := [.int v1, .int (v2 + (1 : Int32)), .int (κ.1 66 66), .int (κ.1 66 67)]) (rest := []) C (metX6_behind hg) (en2_at kd66) rfl hdX6_behind rfl cwX6_485 rfl ⟨Nat.le_of_ble_eq_true rfl, Nat.le_of_ble_eq_true rfl⟩ (Nat.le_of_ble_eq_true rfl) dX6_walk_69 72 rfl ⟨Nat.le_refl _, Nat.le_refl _⟩ ?_
  refine je_lload C dX6_walk_72 74 rfl 1 rfl ?_
  refine je_lcmp C dX6_walk_74 75 rfl ?_
  refine je_if_eq C 153 dX6_walk_75 78 rfl rfl h (fun h => ?_) (fun h => ?_)
  · refine je_goto C 196 dX6_walk_153 rfl ?_
    refine je_iload C dX6_walk_196 198 rfl 0 rfl ?_
    cases h
    exact je_iret C dX6_walk_198
  refine je_iconst C (0) dX6_walk_78 79 rfl ic_0 ?_
  refine je_istore C dX6_walk_79 81 rfl (Nat.le_of_ble_eq_true rfl) [(4, .int (0 : Int32)), (5, .long t50), (3, .int t11), (0, .ref (G.2.1 + 66)), (1, .int v1), (2, .int v2)] rfl ?_
  refine je_sub [3, 4, 5, 2, 0, 1] [(0, .ref (G.2.1 + 66)), (1, .int v1), (2, .int v2), (3, .int t11), (4, .int (0 : Int32)), (5, .long t50)] rfl ?_
  exact wX6_walk_81 C F κ v1 v2 t11 (0 : Int32) t50 h
