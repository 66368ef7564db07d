/-! the reference: walks of its methods: printed by gen -/
set_option maxRecDepth 100000
set_option maxHeartbeats 4000000 in
theorem wX6_half_7 {p : Program} {l : Launch} {e : Env} {s : State} {m : MethodId} {args : Array Value} {below : List Frame} {meth : Method} {c : Code} {G : je_G} {dyn : Nat → Option je_E} {sz : Nat} {F : Nat} {r9 : kp_K} (C : Cx p s m args meth c G "MinistryDesksModel" cX6_half 3 none) : ∀ (n : Nat) (κ : kp_K) (a0 : Nat) (v1 : Int32) (v2 : Int32), bX6_half_7 F n κ a0 v1 v2 = some r9 → Js p l e ({ frames := 0, cells := 0, slots := 0, locals := 0 } : Room) s m args below meth c G 3 (MQ below (je_Q G none (en2 G r9 dyn) sz) args s 0 0 (je_A G)) (en2 G κ dyn) sz 0 0 7 [(0, .ref (G.2.1 + a0)), (1, .int v1), (2, .int v2)] [] := by
  intro n
  induction n with
  | zero =>
    intro κ a0 v1 v2 h
    cases h
  | succ n ih =>
    intro κ a0 v1 v2 h
    rw [bX6_half_7] at h
    refine je_iload_n C dX6_half_7 8 rfl 2 rfl ?_
    refine je_iload_n C dX6_half_8 9 rfl 1 rfl ?_
    refine je_icmp_ge C 26 dX6_half_9 12 rfl rfl h (fun h => ?_) (fun h => ?_)
    · cases h
      exact je_vret C dX6_half_26
    refine je_aload_n C dX6_half_12 13 rfl 0 rfl ?_
    refine je_iload_n C dX6_half_13 14 rfl 2 rfl ?_
    refine je_aload_n C dX6_half_14 15 rfl 0 rfl ?_
    refine je_iload_n C dX6_half_15 16 rfl 1 rfl ?_
    refine je_iload_n C dX6_half_16 17 rfl 2 rfl ?_
    refine je_iadd C dX6_half_17 18 rfl ?_
    refine je_lti h (fun i18 h => ?_)
    obtain ⟨n_a0, hl_a0, h⟩ := p_cl_inv h
    refine jk_iald C (aLen_inv hl_a0) dX6_half_18 19 rfl h (fun h => ?_)
    obtain ⟨n_a0, hl_a0, h⟩ := p_cl_inv h
    refine jk_iast C (aLen_inv hl_a0) dX6_half_19 20 rfl h (fun h => ?_)
    refine jk_lt h (fun k19 h => ?_)
    refine je_iinc C (1) dX6_half_20 23 rfl 2 rfl ic_1 (Nat.le_of_ble_eq_true rfl) [(2, .int (v2 + (1 : Int32))), (0, .ref (G.2.1 + a0)), (1, .int v1)] rfl ?_
    refine je_goto C 7 dX6_half_23 rfl ?_
    refine je_sub [1, 2, 0] [(0, .ref (G.2.1 + a0)), (1, .int v1), (2, .int (v2 + (1 : Int32)))] rfl ?_
    exact ih k19 a0 v1 (v2 + (1 : Int32)) h
set_option maxHeartbeats 4000000 in
theorem metX6_half {l : Launch} {G : je_G} {dyn : Nat → Option je_E} {sz : Nat} {F : Nat} {κ : kp_K} {a0 : Nat} {r9 : kp_K} (h : pX6_half F κ a0 = some r9) : MetS l G yX6_half cX6_half 3 none 0 0 0 0 [.ref (G.2.1 + a0)] (en2 G κ dyn) sz none (en2 G r9 dyn) sz := by
  refine je_met "MinistryDesksModel" rfl (by decide +kernel) (Nat.le_of_ble_eq_true rfl) [(0, .ref (G.2.1 + a0))] rfl (fun p e s m args below meth c C => ?_)
  unfold pX6_half at h
  refine je_aload_n C dX6_half_0 1 rfl 0 rfl ?_
  obtain ⟨n_a0, hl_a0, h⟩ := p_cl_inv h
  refine jk_alen C (aLen_inv hl_a0) dX6_half_1 2 rfl rfl ?_
  refine je_iconst C (2) dX6_half_2 3 rfl ic_2 ?_
  obtain ⟨hne, h⟩ := p_cd_inv h
  refine je_idiv C dX6_half_3 4 rfl hne ?_
  refine je_lti h (fun t4 h => ?_)
  refine je_istore_n C dX6_half_4 5 rfl (Nat.le_of_ble_eq_true rfl) [(1, .int t4), (0, .ref (G.2.1 + a0))] rfl ?_
  refine je_iconst C (0) dX6_half_5 6 rfl ic_0 ?_
  refine je_istore_n C dX6_half_6 7 rfl (Nat.le_of_ble_eq_true rfl) [(2, .int (0 : Int32)), (1, .int t4), (0, .ref (G.2.1 + a0))] rfl ?_
  refine je_sub [2, 1, 0] [(0, .ref (G.2.1 + a0)), (1, .int t4), (2, .int (0 : Int32))] rfl ?_
  exact wX6_half_7 C F κ a0 t4 (0 : Int32) h
theorem sX6_346 {p : Program} {l : Launch} {e : Env} {R : Room} {s : State} {m : MethodId} {args : Array Value} {below : List Frame} {meth : Method} {c : Code} {Q : State → Prop} {G : je_G} {cc : ByteArray} {nL : Nat} {rt : Option FieldType} {sz cells slots pc : Nat} {L : List (Nat × Value)} {st : List Value} {κ : kp_K} {dyn : Nat → Option je_E} (C : Cx p s m args meth c G "MinistryDesksModel" cc nL rt) {v : Int32} (d : decode cc pc = .ok (.putfield 346, 3)) (n : Nat) (hn : pc + 3 = n) (kk : Js p l e R s m args below meth c G nL Q (en2 G (s_i κ 66 37 v) dyn) sz cells slots n L st) : Js p l e R s m args below meth c G nL Q (en2 G κ dyn) sz cells slots pc L (.int v :: .ref (G.2.1 + 66) :: st) := jk_putI (k := 37) C kd66 rfl in_X6 tyX6 tyX6_ok nmX6 rfl (by decide) q1717 rfl rfl rfl d n hn kk
theorem sX6_349 {p : Program} {l : Launch} {e : Env} {R : Room} {s : State} {m : MethodId} {args : Array Value} {below : List Frame} {meth : Method} {c : Code} {Q : State → Prop} {G : je_G} {cc : ByteArray} {nL : Nat} {rt : Option FieldType} {sz cells slots pc : Nat} {L : List (Nat × Value)} {st : List Value} {κ : kp_K} {dyn : Nat → Option je_E} (C : Cx p s m args meth c G "MinistryDesksModel" cc nL rt) {v : Int32} (d : decode cc pc = .ok (.putfield 349, 3)) (n : Nat) (hn : pc + 3 = n) (kk : Js p l e R s m args below meth c G nL Q (en2 G (s_i κ 66 38 v) dyn) sz cells slots n L st) : Js p l e R s m args below meth c G nL Q (en2 G κ dyn) sz cells slots pc L (.int v :: .ref (G.2.1 + 66) :: st) := jk_putI (k := 38) C kd66 rfl in_X6 tyX6 tyX6_ok nmX6 rfl (by decide) q1718 rfl rfl rfl d n hn kk
theorem sX6_352 {p : Program} {l : Launch} {e : Env} {R : Room} {s : State} {m : MethodId} {args : Array Value} {below : List Frame} {meth : Method} {c : Code} {Q : State → Prop} {G : je_G} {cc : ByteArray} {nL : Nat} {rt : Option FieldType} {sz cells slots pc : Nat} {L : List (Nat × Value)} {st : List Value} {κ : kp_K} {dyn : Nat → Option je_E} (C : Cx p s m args meth c G "MinistryDesksModel" cc nL rt) {v : Int32} (d : decode cc pc = .ok (.putfield 352, 3)) (n : Nat) (hn : pc + 3 = n) (kk : Js p l e R s m args below meth c G nL Q (en2 G (s_i κ 66 39 v) dyn) sz cells slots n L st) : Js p l e R s m args below meth c G nL Q (en2 G κ dyn) sz cells slots pc L (.int v :: .ref (G.2.1 + 66) :: st) := jk_putI (k := 39) C kd66 rfl in_X6 tyX6 tyX6_ok nmX6 rfl (by decide) q1719 rfl rfl rfl d n hn kk
set_option maxHeartbeats 4000000 in
theorem metX6_plain {l : Launch} {G : je_G} {dyn : Nat → Option je_E} {sz : Nat} {κ : kp_K}  {r9 : kp_K} (h : pX6_plain κ = some r9) : MetS l G yX6_plain cX6_plain 1 none 0 0 0 0 [.ref (G.2.1 + 66)] (en2 G κ dyn) sz none (en2 G r9 dyn) sz := by
  refine je_met "MinistryDesksModel" rfl (by decide +kernel) (Nat.le_of_ble_eq_true rfl) [(0, .ref (G.2.1 + 66))] rfl (fun p e s m args below meth c C => ?_)
  unfold pX6_plain at h
  refine je_aload_n C dX6_plain_0 1 rfl 0 rfl ?_
  refine je_iconst C (-1) dX6_plain_1 2 rfl ic_m1 ?_
  refine sX6_346 C dX6_plain_2 5 rfl ?_
  refine jk_lt h (fun k2 h => ?_)
  refine je_aload_n C dX6_plain_5 6 rfl 0 rfl ?_
  refine je_iconst C (-1) dX6_plain_6 7 rfl ic_m1 ?_
  refine sX6_349 C dX6_plain_7 10 rfl ?_
  refine jk_lt h (fun k7 h => ?_)
  refine je_aload_n C dX6_plain_10 11 rfl 0 rfl ?_
  refine je_iconst C (0) dX6_plain_11 12 rfl ic_0 ?_
  refine sX6_352 C dX6_plain_12 15 rfl ?_
  refine jk_lt h (fun k12 h => ?_)
  cases h
  exact je_vret C dX6_plain_15
theorem bp_m2 : (Int8.ofInt (-2)).toInt32 = (-2 : Int32) := by decide +kernel
theorem gX6_102 {p : Program} {l : Launch} {e : Env} {R : Room} {s : State} {m : MethodId} {args : Array Value} {below : List Frame} {meth : Method} {c : Code} {Q : State → Prop} {G : je_G} {cc : ByteArray} {nL : Nat} {rt : Option FieldType} {sz cells slots pc : Nat} {L : List (Nat × Value)} {st : List Value} {κ : kp_K} {dyn : Nat → Option je_E} (C : Cx p s m args meth c G "MinistryDesksModel" cc nL rt) (d : decode cc pc = .ok (.getfield 102, 3)) (n : Nat) (hn : pc + 3 = n) (kk : Js p l e R s m args below meth c G nL Q (en2 G κ dyn) sz cells slots n L (.ref (G.2.1 + 96) :: st)) : Js p l e R s m args below meth c G nL Q (en2 G κ dyn) sz cells slots pc L (.ref (G.2.1 + 66) :: st) := jk_getR (k := 48) (z := 0) C kd66 rfl in_X6 96 rfl (by decide) q1728 rfl d n hn kk
theorem gX6_105 {p : Program} {l : Launch} {e : Env} {R : Room} {s : State} {m : MethodId} {args : Array Value} {below : List Frame} {meth : Method} {c : Code} {Q : State → Prop} {G : je_G} {cc : ByteArray} {nL : Nat} {rt : Option FieldType} {sz cells slots pc : Nat} {L : List (Nat × Value)} {st : List Value} {κ : kp_K} {dyn : Nat → Option je_E} (C : Cx p s m args meth c G "MinistryDesksModel" cc nL rt) (d : decode cc pc = .ok (.getfield 105, 3)) (n : Nat) (hn : pc + 3 = n) (kk : Js p l e R s m args below meth c G nL Q (en2 G κ dyn) sz cells slots n L (.ref (G.2.1 + 97) :: st)) : Js p l e R s m args below meth c G nL Q (en2 G κ dyn) sz cells slots pc L (.ref (G.2.1 + 66) :: st) := jk_getR (k := 49) (z := 0) C kd66 rfl in_X6 97 rfl (by decide) q1729 rfl d n hn kk
theorem gX6_112 {p : Program} {l : Launch} {e : Env} {R : Room} {s : State} {m : MethodId} {args : Array Value} {below : List Frame} {meth : Method} {c : Code} {Q : State → Prop} {G : je_G} {cc : ByteArray} {nL : Nat} {rt : Option FieldType} {sz cells slots pc : Nat} {L : List (Nat × Value)} {st : List Value} {κ : kp_K} {dyn : Nat → Option je_E} (C : Cx p s m args meth c G "MinistryDesksModel" cc nL rt) (d : decode cc pc = .ok (.getfield 112, 3)) (n : Nat) (hn : pc + 3 = n) (kk : Js p l e R s m args below meth c G nL Q (en2 G κ dyn) sz cells slots n L (.ref (G.2.1 + 99) :: st)) : Js p l e R s m args below meth c G nL Q (en2 G κ dyn) sz cells slots pc L (.ref (G.2.1 + 66) :: st) := jk_getR (k := 51) (z := 0) C kd66 rfl in_X6 99 rfl (by decide) q1731 rfl d n hn kk
theorem gX6_115 {p : Program} {l : Launch} {e : Env} {R : Room} {s : State} {m : MethodId} {args : Array Value} {below : List Frame} {meth : Method} {c : Code} {Q : State → Prop} {G : je_G} {cc : ByteArray} {nL : Nat} {rt : Option FieldType} {sz cells slots pc : Nat} {L : List (Nat × Value)} {st : List Value} {κ : kp_K} {dyn : Nat → Option je_E} (C : Cx p s m args meth c G "MinistryDesksModel" cc nL rt) (d : decode cc pc = .ok (.getfield 115, 3)) (n : Nat) (hn : pc + 3 = n) (kk : Js p l e R s m args below meth c G nL Q (en2 G κ dyn) sz cells slots n L (.ref (G.2.1 + 100) :: st)) : Js p l e R s m args below meth c G nL Q (en2 G κ dyn) sz cells slots pc L (.ref (G.2.1 + 66) :: st) := jk_getR (k := 52) (z := 0) C kd66 rfl in_X6 100 rfl (by decide) q1732 rfl d n hn kk
theorem gX6_87 {p : Program} {l : Launch} {e : Env} {R : Room} {s : State} {m : MethodId} {args : Array Value} {below : List Frame} {meth : Method} {c : Code} {Q : State → Prop} {G : je_G} {cc : ByteArray} {nL : Nat} {rt : Option FieldType} {sz cells slots pc : Nat} {L : List (Nat × Value)} {st : List Value} {κ : kp_K} {dyn : Nat → Option je_E} (C : Cx p s m args meth c G "MinistryDesksModel" cc nL rt) (d : decode cc pc = .ok (.getfield 87, 3)) (n : Nat) (hn : pc + 3 = n) (kk : Js p l e R s m args below meth c G nL Q (en2 G κ dyn) sz cells slots n L (.ref (G.2.1 + 91) :: st)) : Js p l e R s m args below meth c G nL Q (en2 G κ dyn) sz cells slots pc L (.ref (G.2.1 + 66) :: st) := jk_getR (k := 43) (z := 0) C kd66 rfl in_X6 91 rfl (by decide) q1723 rfl d n hn kk
theorem gX6_90 {p : Program} {l : Launch} {e : Env} {R : Room} {s : State} {m : MethodId} {args : Array Value} {below : List Frame} {meth : Method} {c : Code} {Q : State → Prop} {G : je_G} {cc : ByteArray} {nL : Nat} {rt : Option FieldType} {sz cells slots pc : Nat} {L : List (Nat × Value)} {st : List Value} {κ : kp_K} {dyn : Nat → Option je_E} (C : Cx p s m args meth c G "MinistryDesksModel" cc nL rt) (d : decode cc pc = .ok (.getfield 90, 3)) (n : Nat) (hn : pc + 3 = n) (kk : Js p l e R s m args below meth c G nL Q (en2 G κ dyn) sz cells slots n L (.ref (G.2.1 + 92) :: st)) : Js p l e R s m args below meth c G nL Q (en2 G κ dyn) sz cells slots pc L (.ref (G.2.1 + 66) :: st) := jk_getR (k := 44) (z := 0) C kd66 rfl in_X6 92 rfl (by decide) q1724 rfl d n hn kk
set_option maxHeartbeats 4000000 in
theorem wX6_begins_56 {p : Program} {l : Launch} {e : Env} {s : State} {m : MethodId} {args : Array Value} {below : List Frame} {meth : Method} {c : Code} {G : je_G} {dyn : Nat → Option je_E} {sz : Nat} {F : Nat} {r9 : kp_K} (C : Cx p s m args meth c G "MinistryDesksModel" cX6_begins 4 none) : ∀ (n : Nat) (κ : kp_K) (v1 : Int32) (v2 : Int32), bX6_begins_56 F n κ v1 v2 = some r9 → Js p l e ({ frames := 0, cells := 0, slots := 0, locals := 0 } : Room) s m args below meth c G 4 (MQ below (je_Q G none (en2 G r9 dyn) sz) args s 0 0 (je_A G)) (en2 G κ dyn) sz 0 0 56 [(0, .ref (G.2.1 + 66)), (1, .int v1), (2, .int v2)] [] := by
  intro n
  induction n with
  | zero =>
    intro κ v1 v2 h
    cases h
  | succ n ih =>
    intro κ v1 v2 h
    rw [bX6_begins_56] at h
    refine je_iload_n C dX6_begins_56 57 rfl 2 rfl ?_
    refine je_bipush C (16) dX6_begins_57 59 rfl bp_16 ?_
    refine je_icmp_ge C 81 dX6_begins_59 62 rfl rfl h (fun h => ?_) (fun h => ?_)
    · cases h
      exact je_vret C dX6_begins_81
    refine je_aload_n C dX6_begins_62 63 rfl 0 rfl ?_
    refine gX6_112 C dX6_begins_63 66 rfl ?_
    refine je_bipush C (16) dX6_begins_66 68 rfl bp_16 ?_
    refine je_iload_n C dX6_begins_68 69 rfl 1 rfl ?_
    refine je_imul C dX6_begins_69 70 rfl ?_
    refine je_iload_n C dX6_begins_70 71 rfl 2 rfl ?_
    refine je_iadd C dX6_begins_71 72 rfl ?_
    refine je_bipush C (-2) dX6_begins_72 74 rfl bp_m2 ?_
    refine jk_iast C kd99 dX6_begins_74 75 rfl h (fun h => ?_)
    refine jk_lt h (fun k74 h => ?_)
    refine je_iinc C (1) dX6_begins_75 78 rfl 2 rfl ic_1 (Nat.le_of_ble_eq_true rfl) [(2, .int (v2 + (1 : Int32))), (0, .ref (G.2.1 + 66)), (1, .int v1)] rfl ?_
    refine je_goto C 56 dX6_begins_78 rfl ?_
    refine je_sub [1, 2, 0] [(0, .ref (G.2.1 + 66)), (1, .int v1), (2, .int (v2 + (1 : Int32)))] rfl ?_
    exact ih k74 v1 (v2 + (1 : Int32)) h
set_option maxHeartbeats 4000000 in
theorem wX6_begins_16 {p : Program} {l : Launch} {e : Env} {s : State} {m : MethodId} {args : Array Value} {below : List Frame} {meth : Method} {c : Code} {G : je_G} {dyn : Nat → Option je_E} {sz : Nat} {F : Nat} {r9 : kp_K} (C : Cx p s m args meth c G "MinistryDesksModel" cX6_begins 4 none) : ∀ (n : Nat) (κ : kp_K) (v1 : Int32) (v2 : Int32), bX6_begins_16 F n κ v1 v2 = some r9 → Js p l e ({ frames := 0, cells := 0, slots := 0, locals := 0 } : Room) s m args below meth c G 4 (MQ below (je_Q G none (en2 G r9 dyn) sz) args s 0 0 (je_A G)) (en2 G κ dyn) sz 0 0 16 [(0, .ref (G.2.1 + 66)), (1, .int v1), (2, .int v2)] [] := by
  intro n
  induction n with
  | zero =>
    intro κ v1 v2 h
    cases h
  | succ n ih =>
    intro κ v1 v2 h
    rw [bX6_begins_16] at h
    refine je_iload_n C dX6_begins_16 17 rfl 2 rfl ?_
    refine je_iconst C (4) dX6_begins_17 18 rfl ic_4 ?_
    refine je_icmp_ge C 54 dX6_begins_18 21 rfl rfl h (fun h => ?_) (fun h => ?_)
    · refine je_iconst C (0) dX6_begins_54 55 rfl ic_0 ?_
      refine je_istore_n C dX6_begins_55 56 rfl (Nat.le_of_ble_eq_true rfl) [(2, .int (0 : Int32)), (0, .ref (G.2.1 + 66)), (1, .int v1)] rfl ?_
      refine je_sub [1, 2, 0] [(0, .ref (G.2.1 + 66)), (1, .int v1), (2, .int (0 : Int32))] rfl ?_
      exact wX6_begins_56 C F κ v1 (0 : Int32) h
    refine je_iconst C (4) dX6_begins_21 22 rfl ic_4 ?_
    refine je_iload_n C dX6_begins_22 23 rfl 1 rfl ?_
    refine je_imul C dX6_begins_23 24 rfl ?_
    refine je_iload_n C dX6_begins_24 25 rfl 2 rfl ?_
    refine je_iadd C dX6_begins_25 26 rfl ?_
    refine je_lti h (fun t26 h => ?_)
    refine je_istore_n C dX6_begins_26 27 rfl (Nat.le_of_ble_eq_true rfl) [(3, .int t26), (0, .ref (G.2.1 + 66)), (1, .int v1), (2, .int v2)] rfl ?_
    refine je_aload_n C dX6_begins_27 28 rfl 1 rfl ?_
    refine gX6_90 C dX6_begins_28 31 rfl ?_
    refine je_iload_n C dX6_begins_31 32 rfl 0 rfl ?_
    refine je_iconst C (0) dX6_begins_32 33 rfl ic_0 ?_
    refine jk_iast C kd92 dX6_begins_33 34 rfl h (fun h => ?_)
    refine jk_lt h (fun k33 h => ?_)
    refine je_aload_n C dX6_begins_34 35 rfl 1 rfl ?_
    refine gX6_102 C dX6_begins_35 38 rfl ?_
    refine je_iload_n C dX6_begins_38 39 rfl 0 rfl ?_
    refine je_iconst C (0) dX6_begins_39 40 rfl ic_0 ?_
    refine jk_iast C kd96 dX6_begins_40 41 rfl h (fun h => ?_)
    refine jk_lt h (fun k40 h => ?_)
    refine je_aload_n C dX6_begins_41 42 rfl 1 rfl ?_
    refine gX6_105 C dX6_begins_42 45 rfl ?_
    refine je_iload_n C dX6_begins_45 46 rfl 0 rfl ?_
    refine je_iconst C (-1) dX6_begins_46 47 rfl ic_m1 ?_
    refine jk_iast C kd97 dX6_begins_47 48 rfl h (fun h => ?_)
    refine jk_lt h (fun k47 h => ?_)
    refine je_iinc C (1) dX6_begins_48 51 rfl 3 rfl ic_1 (Nat.le_of_ble_eq_true rfl) [(2, .int (v2 + (1 : Int32))), (3, .int t26), (0, .ref (G.2.1 + 66)), (1, .int v1)] rfl ?_
    refine je_goto C 16 dX6_begins_51 rfl ?_
    refine je_sub [2, 3, 0] [(0, .ref (G.2.1 + 66)), (1, .int v1), (2, .int (v2 + (1 : Int32)))] rfl ?_
    exact ih k47 v1 (v2 + (1 : Int32)) h
set_option maxHeartbeats 4000000 in
theorem metX6_begins {l : Launch} {G : je_G} {dyn : Nat → Option je_E} {sz : Nat} {F : Nat} {κ : kp_K} {v1 : Int32} {r9 : kp_K} (h : pX6_begins F κ v1 = some r9) : MetS l G yX6_begins cX6_begins 4 none 0 0 0 0 [.ref (G.2.1 + 66), .int v1] (en2 G κ dyn) sz none (en2 G r9 dyn) sz := by
  refine je_met "MinistryDesksModel" rfl (by decide +kernel) (Nat.le_of_ble_eq_true rfl) [(0, .ref (G.2.1 + 66)), (1, .int v1)] rfl (fun p e s m args below meth c C => ?_)
  unfold pX6_begins at h
  refine je_aload_n C dX6_begins_0 1 rfl 0 rfl ?_
  refine gX6_87 C dX6_begins_1 4 rfl ?_
  refine je_iload_n C dX6_begins_4 5 rfl 1 rfl ?_
  refine je_iconst C (0) dX6_begins_5 6 rfl ic_0 ?_
  refine jk_iast C kd91 dX6_begins_6 7 rfl h (fun h => ?_)
  refine jk_lt h (fun k6 h => ?_)
  refine je_aload_n C dX6_begins_7 8 rfl 0 rfl ?_
  refine gX6_115 C dX6_begins_8 11 rfl ?_
  refine je_iload_n C dX6_begins_11 12 rfl 1 rfl ?_
  refine je_iconst C (0) dX6_begins_12 13 rfl ic_0 ?_
  refine jk_iast C kd100 dX6_begins_13 14 rfl h (fun h => ?_)
  refine jk_lt h (fun k13 h => ?_)
  refine je_iconst C (0) dX6_begins_14 15 rfl ic_0 ?_
  refine je_istore_n C dX6_begins_15 16 rfl (Nat.le_of_ble_eq_true rfl) [(2, .int (0 : Int32)), (0, .ref (G.2.1 + 66)), (1, .int v1)] rfl ?_
  refine je_sub [1, 2, 0] [(0, .ref (G.2.1 + 66)), (1, .int v1), (2, .int (0 : Int32))] rfl ?_
  exact wX6_begins_16 C F k13 v1 (0 : Int32) h
theorem hdX6_begins : je_hd yX6_begins 1 := ⟨by decide +kernel, by decide +kernel, by decide +kernel⟩
theorem hdX6_half : je_hd yX6_half 1 := ⟨by decide +kernel, by decide +kernel, by decide +kernel⟩
theorem hdX6_line : je_hd yX6_line 0 := ⟨by decide +kernel, by decide +kernel, by decide +kernel⟩
theorem hdX6_plain : je_hd yX6_plain 0 := ⟨by decide +kernel, by decide +kernel, by decide +kernel⟩
theorem cwX6_323 : GoodIn lw_all (wsV "MinistryDesksModel" 323 "MinistryDesksModel" yX6_line (ws_ yX6_line cX6_line 3 none)) := lw_V q1950 q1952 qs83 q169 q1953
theorem cwX6_329 : GoodIn lw_all (va_wsS "MinistryDesksModel" 329 yX6_half (ws_ yX6_half cX6_half 3 none)) := lw_S q2057 q2058 q169 q2059
theorem cwX6_340 : GoodIn lw_all (wsV "MinistryDesksModel" 340 "MinistryDesksModel" yX6_plain (ws_ yX6_plain cX6_plain 1 none)) := lw_V q2060 q2062 qs109 q169 q2063
theorem cwX6_343 : GoodIn lw_all (wsV "MinistryDesksModel" 343 "MinistryDesksModel" yX6_begins (ws_ yX6_begins cX6_begins 4 none)) := lw_V q2064 q2066 qs110 q169 q2067
theorem gX6_222 {p : Program} {l : Launch} {e : Env} {R : Room} {s : State} {m : MethodId} {args : Array Value} {below : List Frame} {meth : Method} {c : Code} {Q : State → Prop} {G : je_G} {cc : ByteArray} {nL : Nat} {rt : Option FieldType} {sz cells slots pc : Nat} {L : List (Nat × Value)} {st : List Value} {κ : kp_K} {dyn : Nat → Option je_E} (C : Cx p s m args meth c G "MinistryDesksModel" cc nL rt) (d : decode cc pc = .ok (.getfield 222, 3)) (n : Nat) (hn : pc + 3 = n) (kk : Js p l e R s m args below meth c G nL Q (en2 G κ dyn) sz cells slots n L (.int (κ.1 66 32) :: st)) : Js p l e R s m args below meth c G nL Q (en2 G κ dyn) sz cells slots pc L (.ref (G.2.1 + 66) :: st) := jk_getI (k := 32) C kd66 rfl in_X6 rfl (by decide) q1712 rfl d n hn kk
theorem sX6_154 {p : Program} {l : Launch} {e : Env} {R : Room} {s : State} {m : MethodId} {args : Array Value} {below : List Frame} {meth : Method} {c : Code} {Q : State → Prop} {G : je_G} {cc : ByteArray} {nL : Nat} {rt : Option FieldType} {sz cells slots pc : Nat} {L : List (Nat × Value)} {st : List Value} {κ : kp_K} {dyn : Nat → Option je_E} (C : Cx p s m args meth c G "MinistryDesksModel" cc nL rt) {v : Int32} (d : decode cc pc = .ok (.putfield 154, 3)) (n : Nat) (hn : pc + 3 = n) (kk : Js p l e R s m args below meth c G nL Q (en2 G (s_i κ 66 72 v) dyn) sz cells slots n L st) : Js p l e R s m args below meth c G nL Q (en2 G κ dyn) sz cells slots pc L (.int v :: .ref (G.2.1 + 66) :: st) := jk_putI (k := 72) C kd66 rfl in_X6 tyX6 tyX6_ok nmX6 rfl (by decide) q1752 rfl rfl rfl d n hn kk
theorem sX6_175 {p : Program} {l : Launch} {e : Env} {R : Room} {s : State} {m : MethodId} {args : Array Value} {below : List Frame} {meth : Method} {c : Code} {Q : State → Prop} {G : je_G} {cc : ByteArray} {nL : Nat} {rt : Option FieldType} {sz cells slots pc : Nat} {L : List (Nat × Value)} {st : List Value} {κ : kp_K} {dyn : Nat → Option je_E} (C : Cx p s m args meth c G "MinistryDesksModel" cc nL rt) {v : Int32} (d : decode cc pc = .ok (.putfield 175, 3)) (n : Nat) (hn : pc + 3 = n) (kk : Js p l e R s m args below meth c G nL Q (en2 G (s_i κ 66 26 v) dyn) sz cells slots n L st) : Js p l e R s m args below meth c G nL Q (en2 G κ dyn) sz cells slots pc L (.int v :: .ref (G.2.1 + 66) :: st) := jk_putI (k := 26) C kd66 rfl in_X6 tyX6 tyX6_ok nmX6 rfl (by decide) q1706 rfl rfl rfl d n hn kk
theorem sX6_326 {p : Program} {l : Launch} {e : Env} {R : Room} {s : State} {m : MethodId} {args : Array Value} {below : List Frame} {meth : Method} {c : Code} {Q : State → Prop} {G : je_G} {cc : ByteArray} {nL : Nat} {rt : Option FieldType} {sz cells slots pc : Nat} {L : List (Nat × Value)} {st : List Value} {κ : kp_K} {dyn : Nat → Option je_E} (C : Cx p s m args meth c G "MinistryDesksModel" cc nL rt) {v : Int32} (d : decode cc pc = .ok (.putfield 326, 3)) (n : Nat) (hn : pc + 3 = n) (kk : Js p l e R s m args below meth c G nL Q (en2 G (s_i κ 66 33 v) dyn) sz cells slots n L st) : Js p l e R s m args below meth c G nL Q (en2 G κ dyn) sz cells slots pc L (.int v :: .ref (G.2.1 + 66) :: st) := jk_putI (k := 33) C kd66 rfl in_X6 tyX6 tyX6_ok nmX6 rfl (by decide) q1713 rfl rfl rfl d n hn kk
theorem sX6_333 {p : Program} {l : Launch} {e : Env} {R : Room} {s : State} {m : MethodId} {args : Array Value} {below : List Frame} {meth : Method} {c : Code} {Q : State → Prop} {G : je_G} {cc : ByteArray} {nL : Nat} {rt : Option FieldType} {sz cells slots pc : Nat} {L : List (Nat × Value)} {st : List Value} {κ : kp_K} {dyn : Nat → Option je_E} (C : Cx p s m args meth c G "MinistryDesksModel" cc nL rt) {v : Int32} (d : decode cc pc = .ok (.putfield 333, 3)) (n : Nat) (hn : pc + 3 = n) (kk : Js p l e R s m args below meth c G nL Q (en2 G (s_i κ 66 71 v) dyn) sz cells slots n L st) : Js p l e R s m args below meth c G nL Q (en2 G κ dyn) sz cells slots pc L (.int v :: .ref (G.2.1 + 66) :: st) := jk_putI (k := 71) C kd66 rfl in_X6 tyX6 tyX6_ok nmX6 rfl (by decide) q1751 rfl rfl rfl d n hn kk
theorem sX6_336 {p : Program} {l : Launch} {e : Env} {R : Room} {s : State} {m : MethodId} {args : Array Value} {below : List Frame} {meth : Method} {c : Code} {Q : State → Prop} {G : je_G} {cc : ByteArray} {nL : Nat} {rt : Option FieldType} {sz cells slots pc : Nat} {L : List (Nat × Value)} {st : List Value} {κ : kp_K} {dyn : Nat → Option je_E} (C : Cx p s m args meth c G "MinistryDesksModel" cc nL rt) {v : Int32} (hz : v = 0 ∨ v = 1) (d : decode cc pc = .ok (.putfield 336, 3)) (n : Nat) (hn : pc + 3 = n) (kk : Js p l e R s m args below meth c G nL Q (en2 G (s_i κ 66 57 v) dyn) sz cells slots n L st) : Js p l e R s m args below meth c G nL Q (en2 G κ dyn) sz cells slots pc L (.int v :: .ref (G.2.1 + 66) :: st) := jk_putZ (k := 57) C kd66 rfl in_X6 tyX6 tyX6_ok nmX6 rfl (by decide) q1737 rfl rfl rfl hz d n hn kk
theorem sX6_76 {p : Program} {l : Launch} {e : Env} {R : Room} {s : State} {m : MethodId} {args : Array Value} {below : List Frame} {meth : Method} {c : Code} {Q : State → Prop} {G : je_G} {cc : ByteArray} {nL : Nat} {rt : Option FieldType} {sz cells slots pc : Nat} {L : List (Nat × Value)} {st : List Value} {κ : kp_K} {dyn : Nat → Option je_E} (C : Cx p s m args meth c G "MinistryDesksModel" cc nL rt) {v : Int32} (d : decode cc pc = .ok (.putfield 76, 3)) (n : Nat) (hn : pc + 3 = n) (kk : Js p l e R s m args below meth c G nL Q (en2 G (s_i κ 66 34 v) dyn) sz cells slots n L st) : Js p l e R s m args below meth c G nL Q (en2 G κ dyn) sz cells slots pc L (.int v :: .ref (G.2.1 + 66) :: st) := jk_putI (k := 34) C kd66 rfl in_X6 tyX6 tyX6_ok nmX6 rfl (by decide) q1714 rfl rfl rfl d n hn kk
set_option maxHeartbeats 4000000 in
theorem wX6_text_155 {p : Program} {l : Launch} {e : Env} {s : State} {m : MethodId} {args : Array Value} {below : List Frame} {meth : Method} {c : Code} {G : je_G} {dyn : Nat → Option je_E} {sz : Nat} {F : Nat} {r9 : Int32 × kp_K} (C : Cx p s m args meth c G "MinistryDesksModel" cX6_text 3 (some .int)) (κ : kp_K) (h : bX6_text_155 F κ = some r9) : Js p l e ({ frames := 710, cells := 0, slots := 0, locals := 14912 } : Room) s m args below meth c G 3 (MQ below (je_Q G (some (.int r9.1)) (en2 G r9.2 dyn) sz) args s 0 0 (je_A G)) (en2 G κ dyn) sz 0 0 155 [(0, .ref (G.2.1 + 66))] [] := by
  unfold bX6_text_155 at h
  refine je_aload_n C dX6_text_155 156 rfl 0 rfl ?_
  refine je_aload_n C dX6_text_156 157 rfl 0 rfl ?_
  refine gX6_219 C dX6_text_157 160 rfl ?_
  refine sX6_326 C dX6_text_160 163 rfl ?_
  refine jk_lt h (fun k160 h => ?_)
  refine je_aload_n C dX6_text_163 164 rfl 0 rfl ?_
  refine je_aload_n C dX6_text_164 165 rfl 0 rfl ?_
  refine gX6_222 C dX6_text_165 168 rfl ?_
  refine sX6_76 C dX6_text_168 171 rfl ?_
  refine jk_lt h (fun k168 h => ?_)
  refine je_aload_n C dX6_text_171 172 rfl 0 rfl ?_
  refine gX6_219 C dX6_text_172 175 rfl ?_
  refine je_if_eq C 180 dX6_text_175 178 rfl rfl h (fun h => ?_) (fun h => ?_)
  · refine je_aload_n C dX6_text_180 181 rfl 0 rfl ?_
    refine gX6_13 C dX6_text_181 184 rfl ?_
    obtain ⟨k184, hg, h⟩ := p_cl_inv h
    refine je_callSv (As := [.ref (G.2.1 + 68)]) (rest := []) C (metX6_half hg) hdX6_half cwX6_329 rfl ⟨Nat.le_of_ble_eq_true rfl, Nat.le_of_ble_eq_true rfl⟩ (Nat.le_of_ble_eq_true rfl) dX6_text_184 187 rfl ⟨Nat.le_refl _, Nat.le_refl _⟩ ?_
    refine je_aload_n C dX6_text_187 188 rfl 0 rfl ?_
    refine gX6_16 C dX6_text_188 191 rfl ?_
    obtain ⟨k191, hg, h⟩ := p_cl_inv h
    refine je_callSv (As := [.ref (G.2.1 + 69)]) (rest := []) C (metX6_half hg) hdX6_half cwX6_329 rfl ⟨Nat.le_of_ble_eq_true rfl, Nat.le_of_ble_eq_true rfl⟩ (Nat.le_of_ble_eq_true rfl) dX6_text_191 194 rfl ⟨Nat.le_refl _, Nat.le_refl _⟩ ?_
    refine je_aload_n C dX6_text_194 195 rfl 0 rfl ?_
    refine gX6_19 C dX6_text_195 198 rfl ?_
    obtain ⟨k198, hg, h⟩ := p_cl_inv h
    refine je_callSv (As := [.ref (G.2.1 + 70)]) (rest := []) C (metX6_half hg) hdX6_half cwX6_329 rfl ⟨Nat.le_of_ble_eq_true rfl, Nat.le_of_ble_eq_true rfl⟩ (Nat.le_of_ble_eq_true rfl) dX6_text_198 201 rfl ⟨Nat.le_refl _, Nat.le_refl _⟩ ?_
    refine je_aload_n C dX6_text_201 202 rfl 0 rfl ?_
    refine gX6_22 C dX6_text_202 205 rfl ?_
    obtain ⟨k205, hg, h⟩ := p_cl_inv h
    refine je_callSv (As := [.ref (G.2.1 + 71)]) (rest := []) C (metX6_half hg) hdX6_half cwX6_329 rfl ⟨Nat.le_of_ble_eq_true rfl, Nat.le_of_ble_eq_true rfl⟩ (Nat.le_of_ble_eq_true rfl) dX6_text_205 208 rfl ⟨Nat.le_refl _, Nat.le_refl _⟩ ?_
    refine je_aload_n C dX6_text_208 209 rfl 0 rfl ?_
    refine gX6_25 C dX6_text_209 212 rfl ?_
    obtain ⟨k212, hg, h⟩ := p_cl_inv h
    refine je_callSv (As := [.ref (G.2.1 + 72)]) (rest := []) C (metX6_half hg) hdX6_half cwX6_329 rfl ⟨Nat.le_of_ble_eq_true rfl, Nat.le_of_ble_eq_true rfl⟩ (Nat.le_of_ble_eq_true rfl) dX6_text_212 215 rfl ⟨Nat.le_refl _, Nat.le_refl _⟩ ?_
    refine je_aload_n C dX6_text_215 216 rfl 0 rfl ?_
    refine gX6_28 C dX6_text_216 219 rfl ?_
    obtain ⟨k219, hg, h⟩ := p_cl_inv h
    refine je_callSv (As := [.ref (G.2.1 + 73)]) (rest := []) C (metX6_half hg) hdX6_half cwX6_329 rfl ⟨Nat.le_of_ble_eq_true rfl, Nat.le_of_ble_eq_true rfl⟩ (Nat.le_of_ble_eq_true rfl) dX6_text_219 222 rfl ⟨Nat.le_refl _, Nat.le_refl _⟩ ?_
    refine je_aload_n C dX6_text_222 223 rfl 0 rfl ?_
    refine gX6_31 C dX6_text_223 226 rfl ?_
    obtain ⟨k226, hg, h⟩ := p_cl_inv h
    refine je_callSv (As := [.ref (G.2.1 + 74)]) (rest := []) C (metX6_half hg) hdX6_half cwX6_329 rfl ⟨Nat.le_of_ble_eq_true rfl, Nat.le_of_ble_eq_true rfl⟩ (Nat.le_of_ble_eq_true rfl) dX6_text_226 229 rfl ⟨Nat.le_refl _, Nat.le_refl _⟩ ?_
    refine je_aload_n C dX6_text_229 230 rfl 0 rfl ?_
    refine gX6_34 C dX6_text_230 233 rfl ?_
    obtain ⟨k233, hg, h⟩ := p_cl_inv h
    refine je_callSv (As := [.ref (G.2.1 + 75)]) (rest := []) C (metX6_half hg) hdX6_half cwX6_329 rfl ⟨Nat.le_of_ble_eq_true rfl, Nat.le_of_ble_eq_true rfl⟩ (Nat.le_of_ble_eq_true rfl) dX6_text_233 236 rfl ⟨Nat.le_refl _, Nat.le_refl _⟩ ?_
    refine je_aload_n C dX6_text_236 237 rfl 0 rfl ?_
    refine gX6_37 C dX6_text_237 240 rfl ?_
    obtain ⟨k240, hg, h⟩ := p_cl_inv h
    refine je_callSv (As := [.ref (G.2.1 + 76)]) (rest := []) C (metX6_half hg) hdX6_half cwX6_329 rfl ⟨Nat.le_of_ble_eq_true rfl, Nat.le_of_ble_eq_true rfl⟩ (Nat.le_of_ble_eq_true rfl) dX6_text_240 243 rfl ⟨Nat.le_refl _, Nat.le_refl _⟩ ?_
    refine je_aload_n C dX6_text_243 244 rfl 0 rfl ?_
    refine gX6_40 C dX6_text_244 247 rfl ?_
    obtain ⟨k247, hg, h⟩ := p_cl_inv h
    refine je_callSv (As := [.ref (G.2.1 + 77)]) (rest := []) C (metX6_half hg) hdX6_half cwX6_329 rfl ⟨Nat.le_of_ble_eq_true rfl, Nat.le_of_ble_eq_true rfl⟩ (Nat.le_of_ble_eq_true rfl) dX6_text_247 250 rfl ⟨Nat.le_refl _, Nat.le_refl _⟩ ?_
    refine je_aload_n C dX6_text_250 251 rfl 0 rfl ?_
    refine gX6_43 C dX6_text_251 254 rfl ?_
    obtain ⟨k254, hg, h⟩ := p_cl_inv h
    refine je_callSv (As := [.ref (G.2.1 + 78)]) (rest := []) C (metX6_half hg) hdX6_half cwX6_329 rfl ⟨Nat.le_of_ble_eq_true rfl, Nat.le_of_ble_eq_true rfl⟩ (Nat.le_of_ble_eq_true rfl) dX6_text_254 257 rfl ⟨Nat.le_refl _, Nat.le_refl _⟩ ?_
    refine je_aload_n C dX6_text_257 258 rfl 0 rfl ?_
    refine gX6_46 C dX6_text_258 261 rfl ?_
    obtain ⟨k261, hg, h⟩ := p_cl_inv h
    refine je_callSv (As := [.ref (G.2.1 + 79)]) (rest := []) C (metX6_half hg) hdX6_half cwX6_329 rfl ⟨Nat.le_of_ble_eq_true rfl, Nat.le_of_ble_eq_true rfl⟩ (Nat.le_of_ble_eq_true rfl) dX6_text_261 264 rfl ⟨Nat.le_refl _, Nat.le_refl _⟩ ?_
    refine je_aload_n C dX6_text_264 265 rfl 0 rfl ?_
    refine gX6_49 C dX6_text_265 268 rfl ?_
    obtain ⟨k268, hg, h⟩ := p_cl_inv h
    refine je_callSv (As := [.ref (G.2.1 + 80)]) (rest := []) C (metX6_half hg) hdX6_half cwX6_329 rfl ⟨Nat.le_of_ble_eq_true rfl, Nat.le_of_ble_eq_true rfl⟩ (Nat.le_of_ble_eq_true rfl) dX6_text_268 271 rfl ⟨Nat.le_refl _, Nat.le_refl _⟩ ?_
    refine je_aload_n C dX6_text_271 272 rfl 0 rfl ?_
    refine gX6_52 C dX6_text_272 275 rfl ?_
    obtain ⟨k275, hg, h⟩ := p_cl_inv h
    refine je_callSv (As := [.ref (G.2.1 + 81)]) (rest := []) C (metX6_half hg) hdX6_half cwX6_329 rfl ⟨Nat.le_of_ble_eq_true rfl, Nat.le_of_ble_eq_true rfl⟩ (Nat.le_of_ble_eq_true rfl) dX6_text_275 278 rfl ⟨Nat.le_refl _, Nat.le_refl _⟩ ?_
    refine je_aload_n C dX6_text_278 279 rfl 0 rfl ?_
    refine gX6_55 C dX6_text_279 282 rfl ?_
    obtain ⟨k282, hg, h⟩ := p_cl_inv h
    refine je_callSv (As := [.ref (G.2.1 + 82)]) (rest := []) C (metX6_half hg) hdX6_half cwX6_329 rfl ⟨Nat.le_of_ble_eq_true rfl, Nat.le_of_ble_eq_true rfl⟩ (Nat.le_of_ble_eq_true rfl) dX6_text_282 285 rfl ⟨Nat.le_refl _, Nat.le_refl _⟩ ?_
    refine je_aload_n C dX6_text_285 286 rfl 0 rfl ?_
    refine gX6_58 C dX6_text_286 289 rfl ?_
    obtain ⟨k289, hg, h⟩ := p_cl_inv h
    refine je_callSv (As := [.ref (G.2.1 + 83)]) (rest := []) C (metX6_half hg) hdX6_half cwX6_329 rfl ⟨Nat.le_of_ble_eq_true rfl, Nat.le_of_ble_eq_true rfl⟩ (Nat.le_of_ble_eq_true rfl) dX6_text_289 292 rfl ⟨Nat.le_refl _, Nat.le_refl _⟩ ?_
    refine je_aload_n C dX6_text_292 293 rfl 0 rfl ?_
    refine gX6_61 C dX6_text_293 296 rfl ?_
    obtain ⟨k296, hg, h⟩ := p_cl_inv h
    refine je_callSv (As := [.ref (G.2.1 + 84)]) (rest := []) C (metX6_half hg) hdX6_half cwX6_329 rfl ⟨Nat.le_of_ble_eq_true rfl, Nat.le_of_ble_eq_true rfl⟩ (Nat.le_of_ble_eq_true rfl) dX6_text_296 299 rfl ⟨Nat.le_refl _, Nat.le_refl _⟩ ?_
    refine je_aload_n C dX6_text_299 300 rfl 0 rfl ?_
    refine gX6_64 C dX6_text_300 303 rfl ?_
    obtain ⟨k303, hg, h⟩ := p_cl_inv h
    refine je_callSv (As := [.ref (G.2.1 + 85)]) (rest := []) C (metX6_half hg) hdX6_half cwX6_329 rfl ⟨Nat.le_of_ble_eq_true rfl, Nat.le_of_ble_eq_true rfl⟩ (Nat.le_of_ble_eq_true rfl) dX6_text_303 306 rfl ⟨Nat.le_refl _, Nat.le_refl _⟩ ?_
    refine je_aload_n C dX6_text_306 307 rfl 0 rfl ?_
    refine gX6_67 C dX6_text_307 310 rfl ?_
    obtain ⟨k310, hg, h⟩ := p_cl_inv h
    refine je_callSv (As := [.ref (G.2.1 + 86)]) (rest := []) C (metX6_half hg) hdX6_half cwX6_329 rfl ⟨Nat.le_of_ble_eq_true rfl, Nat.le_of_ble_eq_true rfl⟩ (Nat.le_of_ble_eq_true rfl) dX6_text_310 313 rfl ⟨Nat.le_refl _, Nat.le_refl _⟩ ?_
    refine je_aload_n C dX6_text_313 314 rfl 0 rfl ?_
    refine gX6_70 C dX6_text_314 317 rfl ?_
    obtain ⟨k317, hg, h⟩ := p_cl_inv h
    refine je_callSv (As := [.ref (G.2.1 + 87)]) (rest := []) C (metX6_half hg) hdX6_half cwX6_329 rfl ⟨Nat.le_of_ble_eq_true rfl, Nat.le_of_ble_eq_true rfl⟩ (Nat.le_of_ble_eq_true rfl) dX6_text_317 320 rfl ⟨Nat.le_refl _, Nat.le_refl _⟩ ?_
    refine je_aload_n C dX6_text_320 321 rfl 0 rfl ?_
    refine gX6_73 C dX6_text_321 324 rfl ?_
    obtain ⟨k324, hg, h⟩ := p_cl_inv h
    refine je_callSv (As := [.ref (G.2.1 + 88)]) (rest := []) C (metX6_half hg) hdX6_half cwX6_329 rfl ⟨Nat.le_of_ble_eq_true rfl, Nat.le_of_ble_eq_true rfl⟩ (Nat.le_of_ble_eq_true rfl) dX6_text_324 327 rfl ⟨Nat.le_refl _, Nat.le_refl _⟩ ?_
    refine je_aload_n C dX6_text_327 328 rfl 0 rfl ?_
    refine je_iconst C (0) dX6_text_328 329 rfl ic_0 ?_
    refine sX6_333 C dX6_text_329 332 rfl ?_
    refine jk_lt h (fun k329 h => ?_)
    refine je_aload_n C dX6_text_332 333 rfl 0 rfl ?_
    refine je_iconst C (-1) dX6_text_333 334 rfl ic_m1 ?_
    refine sX6_154 C dX6_text_334 337 rfl ?_
    refine jk_lt h (fun k334 h => ?_)
    refine je_aload_n C dX6_text_337 338 rfl 0 rfl ?_
    refine je_iconst C (0) dX6_text_338 339 rfl ic_0 ?_
    refine sX6_336 C (Or.inl rfl) dX6_text_339 342 rfl ?_
    refine jk_lt h (fun k339 h => ?_)
    refine je_aload_n C dX6_text_342 343 rfl 0 rfl ?_
    obtain ⟨k343, hg, h⟩ := p_cl_inv h
    refine je_callVv (As := []) (rest := []) C (metX6_plain hg) (en2_at kd66) rfl hdX6_plain rfl cwX6_340 rfl ⟨Nat.le_of_ble_eq_true rfl, Nat.le_of_ble_eq_true rfl⟩ (Nat.le_of_ble_eq_true rfl) dX6_text_343 346 rfl ⟨Nat.le_refl _, Nat.le_refl _⟩ ?_
    refine je_aload_n C dX6_text_346 347 rfl 0 rfl ?_
    refine je_iconst C (0) dX6_text_347 348 rfl ic_0 ?_
    obtain ⟨k348, hg, h⟩ := p_cl_inv h
    refine je_callVv (As := [.int (0 : Int32)]) (rest := []) C (metX6_begins hg) (en2_at kd66) rfl hdX6_begins rfl cwX6_343 rfl ⟨Nat.le_of_ble_eq_true rfl, Nat.le_of_ble_eq_true rfl⟩ (Nat.le_of_ble_eq_true rfl) dX6_text_348 351 rfl ⟨Nat.le_refl _, Nat.le_refl _⟩ ?_
    refine je_aload_n C dX6_text_351 352 rfl 0 rfl ?_
    refine gX6_283 C dX6_text_352 355 rfl ?_
    cases h
    exact je_iret C dX6_text_355
  refine je_iconst C (-1) dX6_text_178 179 rfl ic_m1 ?_
  cases h
  exact je_iret C dX6_text_179
set_option maxHeartbeats 4000000 in
theorem wX6_text_133 {p : Program} {l : Launch} {e : Env} {s : State} {m : MethodId} {args : Array Value} {below : List Frame} {meth : Method} {c : Code} {G : je_G} {dyn : Nat → Option je_E} {sz : Nat} {F : Nat} {r9 : Int32 × kp_K} (C : Cx p s m args meth c G "MinistryDesksModel" cX6_text 3 (some .int)) : ∀ (n : Nat) (κ : kp_K), bX6_text_133 F n κ = some r9 → Js p l e ({ frames := 710, cells := 0, slots := 0, locals := 14912 } : Room) s m args below meth c G 3 (MQ below (je_Q G (some (.int r9.1)) (en2 G r9.2 dyn) sz) args s 0 0 (je_A G)) (en2 G κ dyn) sz 0 0 133 [(0, .ref (G.2.1 + 66))] [] := by
  intro n
  induction n with
  | zero =>
    intro κ h
    cases h
  | succ n ih =>
    intro κ h
    rw [bX6_text_133] at h
    refine je_aload_n C dX6_text_133 134 rfl 0 rfl ?_
    refine gX6_219 C dX6_text_134 137 rfl ?_
    refine je_if_ne C 155 dX6_text_137 140 rfl rfl h (fun h => ?_) (fun h => ?_)
    · exact wX6_text_155 C κ h
    refine je_aload_n C dX6_text_140 141 rfl 0 rfl ?_
    refine gX6_185 C dX6_text_141 144 rfl ?_
    refine je_iconst C (4) dX6_text_144 145 rfl ic_4 ?_
    refine je_icmp_eq C 155 dX6_text_145 148 rfl rfl h (fun h => ?_) (fun h => ?_)
    · exact wX6_text_155 C κ h
    refine je_aload_n C dX6_text_148 149 rfl 0 rfl ?_
    obtain ⟨k149, hg, h⟩ := p_cl_inv h
    refine je_callVv (As := []) (rest := []) C (metX6_line hg) (en2_at kd66) rfl hdX6_line rfl cwX6_323 rfl ⟨Nat.le_of_ble_eq_true rfl, Nat.le_of_ble_eq_true rfl⟩ (Nat.le_of_ble_eq_true rfl) dX6_text_149 152 rfl ⟨Nat.le_refl _, Nat.le_refl _⟩ ?_
    refine je_goto C 133 dX6_text_152 rfl ?_
    exact ih k149 h
set_option maxHeartbeats 4000000 in
theorem wX6_text_83 {p : Program} {l : Launch} {e : Env} {s : State} {m : MethodId} {args : Array Value} {below : List Frame} {meth : Method} {c : Code} {G : je_G} {dyn : Nat → Option je_E} {sz : Nat} {F : Nat} {r9 : Int32 × kp_K} (C : Cx p s m args meth c G "MinistryDesksModel" cX6_text 3 (some .int)) : ∀ (n : Nat) (κ : kp_K) (v2 : Int32), bX6_text_83 F n κ v2 = some r9 → Js p l e ({ frames := 710, cells := 0, slots := 0, locals := 14912 } : Room) s m args below meth c G 3 (MQ below (je_Q G (some (.int r9.1)) (en2 G r9.2 dyn) sz) args s 0 0 (je_A G)) (en2 G κ dyn) sz 0 0 83 [(0, .ref (G.2.1 + 66)), (2, .int v2)] [] := by
  intro n
  induction n with
  | zero =>
    intro κ v2 h
    cases h
  | succ n ih =>
    intro κ v2 h
    rw [bX6_text_83] at h
    refine je_iload_n C dX6_text_83 84 rfl 1 rfl ?_
    refine je_bipush C (12) dX6_text_84 86 rfl bp_12 ?_
    refine je_icmp_ge C 109 dX6_text_86 89 rfl rfl h (fun h => ?_) (fun h => ?_)
    · refine je_aload_n C dX6_text_109 110 rfl 0 rfl ?_
      refine je_iconst C (0) dX6_text_110 111 rfl ic_0 ?_
      refine sX6_249 C dX6_text_111 114 rfl ?_
      refine jk_lt h (fun k111 h => ?_)
      refine je_aload_n C dX6_text_114 115 rfl 0 rfl ?_
      refine je_iconst C (0) dX6_text_115 116 rfl ic_0 ?_
      refine sX6_283 C dX6_text_116 119 rfl ?_
      refine jk_lt h (fun k116 h => ?_)
      refine je_aload_n C dX6_text_119 120 rfl 0 rfl ?_
      refine je_iconst C (0) dX6_text_120 121 rfl ic_0 ?_
      refine sX6_320 C dX6_text_121 124 rfl ?_
      refine jk_lt h (fun k121 h => ?_)
      refine je_aload_n C dX6_text_124 125 rfl 0 rfl ?_
      refine je_iconst C (0) dX6_text_125 126 rfl ic_0 ?_
      refine sX6_292 C dX6_text_126 129 rfl ?_
      refine jk_lt h (fun k126 h => ?_)
      refine je_aload_n C dX6_text_129 130 rfl 0 rfl ?_
      obtain ⟨k130, hg, h⟩ := p_cl_inv h
      refine je_callVv (As := []) (rest := []) C (metX6_token hg) (en2_at kd66) rfl hdX6_token rfl cwX6_225 rfl ⟨Nat.le_of_ble_eq_true rfl, Nat.le_of_ble_eq_true rfl⟩ (Nat.le_of_ble_eq_true rfl) dX6_text_130 133 rfl ⟨Nat.le_refl _, Nat.le_refl _⟩ ?_
      refine je_sub [0] [(0, .ref (G.2.1 + 66))] rfl ?_
      exact wX6_text_133 C F k130 h
    refine je_aload_n C dX6_text_89 90 rfl 0 rfl ?_
    refine gX6_64 C dX6_text_90 93 rfl ?_
    refine je_iload_n C dX6_text_93 94 rfl 1 rfl ?_
    refine je_iconst C (0) dX6_text_94 95 rfl ic_0 ?_
    refine jk_iast C kd85 dX6_text_95 96 rfl h (fun h => ?_)
    refine jk_lt h (fun k95 h => ?_)
    refine je_aload_n C dX6_text_96 97 rfl 0 rfl ?_
    refine gX6_67 C dX6_text_97 100 rfl ?_
    refine je_iload_n C dX6_text_100 101 rfl 1 rfl ?_
    refine je_iconst C (0) dX6_text_101 102 rfl ic_0 ?_
    refine jk_iast C kd86 dX6_text_102 103 rfl h (fun h => ?_)
    refine jk_lt h (fun k102 h => ?_)
    refine je_iinc C (1) dX6_text_103 106 rfl 1 rfl ic_1 (Nat.le_of_ble_eq_true rfl) [(2, .int (v2 + (1 : Int32))), (0, .ref (G.2.1 + 66))] rfl ?_
    refine je_goto C 83 dX6_text_106 rfl ?_
    refine je_sub [1, 0] [(0, .ref (G.2.1 + 66)), (2, .int (v2 + (1 : Int32)))] rfl ?_
    exact ih k102 (v2 + (1 : Int32)) h
set_option maxHeartbeats 4000000 in
theorem wX6_text_73 {p : Program} {l : Launch} {e : Env} {s : State} {m : MethodId} {args : Array Value} {below : List Frame} {meth : Method} {c : Code} {G : je_G} {dyn : Nat → Option je_E} {sz : Nat} {F : Nat} {r9 : Int32 × kp_K} {k47 : kp_K → Int32 → Option (Int32 × kp_K)} (C : Cx p s m args meth c G "MinistryDesksModel" cX6_text 3 (some .int)) (hk47 : ∀ (kq : kp_K) (q2 : Int32), k47 kq q2 = some r9 → Js p l e ({ frames := 710, cells := 0, slots := 0, locals := 14912 } : Room) s m args below meth c G 3 (MQ below (je_Q G (some (.int r9.1)) (en2 G r9.2 dyn) sz) args s 0 0 (je_A G)) (en2 G kq dyn) sz 0 0 47 [(0, .ref (G.2.1 + 66)), (2, .int q2)] []) (κ : kp_K) (v2 : Int32) (s0 : Int32) (s1 : Int32) (h : bX6_text_73 F k47 κ v2 s0 s1 = some r9) : Js p l e ({ frames := 710, cells := 0, slots := 0, locals := 14912 } : Room) s m args below meth c G 3 (MQ below (je_Q G (some (.int r9.1)) (en2 G r9.2 dyn) sz) args s 0 0 (je_A G)) (en2 G κ dyn) sz 0 0 73 [(0, .ref (G.2.1 + 66)), (2, .int v2)] [.int s0, .int s1, .ref (G.2.1 + 68)] := by
  unfold bX6_text_73 at h
  refine jk_iast C kd68 dX6_text_73 74 rfl h (fun h => ?_)
  refine jk_lt h (fun k73 h => ?_)
  refine je_iinc C (1) dX6_text_74 77 rfl 1 rfl ic_1 (Nat.le_of_ble_eq_true rfl) [(2, .int (v2 + (1 : Int32))), (0, .ref (G.2.1 + 66))] rfl ?_
  refine je_goto C 47 dX6_text_77 rfl ?_
  refine je_sub [1, 0] [(0, .ref (G.2.1 + 66)), (2, .int (v2 + (1 : Int32)))] rfl ?_
  exact hk47 k73 (v2 + (1 : Int32)) h
set_option maxHeartbeats 4000000 in
theorem wX6_text_47 {p : Program} {l : Launch} {e : Env} {s : State} {m : MethodId} {args : Array Value} {below : List Frame} {meth : Method} {c : Code} {G : je_G} {dyn : Nat → Option je_E} {sz : Nat} {F : Nat} {r9 : Int32 × kp_K} (C : Cx p s m args meth c G "MinistryDesksModel" cX6_text 3 (some .int)) : ∀ (n : Nat) (κ : kp_K) (v2 : Int32), bX6_text_47 F n κ v2 = some r9 → Js p l e ({ frames := 710, cells := 0, slots := 0, locals := 14912 } : Room) s m args below meth c G 3 (MQ below (je_Q G (some (.int r9.1)) (en2 G r9.2 dyn) sz) args s 0 0 (je_A G)) (en2 G κ dyn) sz 0 0 47 [(0, .ref (G.2.1 + 66)), (2, .int v2)] [] := by
  intro n
  induction n with
  | zero =>
    intro κ v2 h
    cases h
  | succ n ih =>
    intro κ v2 h
    rw [bX6_text_47] at h
    refine je_iload_n C dX6_text_47 48 rfl 1 rfl ?_
    refine je_bipush C (8) dX6_text_48 50 rfl bp_8 ?_
    refine je_icmp_ge C 80 dX6_text_50 53 rfl rfl h (fun h => ?_) (fun h => ?_)
    · refine je_bipush C (6) dX6_text_80 82 rfl bp_6 ?_
      refine je_istore_n C dX6_text_82 83 rfl (Nat.le_of_ble_eq_true rfl) [(2, .int (6 : Int32)), (0, .ref (G.2.1 + 66))] rfl ?_
      refine je_sub [1, 0] [(0, .ref (G.2.1 + 66)), (2, .int (6 : Int32))] rfl ?_
      exact wX6_text_83 C F κ (6 : Int32) h
    refine je_aload_n C dX6_text_53 54 rfl 0 rfl ?_
    refine gX6_13 C dX6_text_54 57 rfl ?_
    refine je_bipush C (8) dX6_text_57 59 rfl bp_8 ?_
    refine je_iload_n C dX6_text_59 60 rfl 1 rfl ?_
    refine je_iadd C dX6_text_60 61 rfl ?_
    refine je_iload_n C dX6_text_61 62 rfl 1 rfl ?_
    refine je_bipush C (6) dX6_text_62 64 rfl bp_6 ?_
    refine je_icmp_ne C 72 dX6_text_64 67 rfl rfl h (fun h => ?_) (fun h => ?_)
    · refine je_iconst C (0) dX6_text_72 73 rfl ic_0 ?_
      exact wX6_text_73 C ih κ v2 (0 : Int32) ((8 : Int32) + v2) h
    refine je_bipush C (99) dX6_text_67 69 rfl bp_99 ?_
    refine je_goto C 73 dX6_text_69 rfl ?_
    exact wX6_text_73 C ih κ v2 (99 : Int32) ((8 : Int32) + v2) h
set_option maxHeartbeats 4000000 in
theorem metX6_text {l : Launch} {G : je_G} {dyn : Nat → Option je_E} {sz : Nat} {F : Nat} {κ : kp_K} {v1 : Int32} {r9 : Int32 × kp_K} (h : pX6_text F κ v1 = some r9) : MetS l G yX6_text cX6_text 3 (some .int) 710 14912 0 0 [.ref (G.2.1 + 66), .int v1] (en2 G κ dyn) sz (some (.int r9.1)) (en2 G r9.2 dyn) sz := by
  refine je_met "MinistryDesksModel" rfl (by decide +kernel) (Nat.le_of_ble_eq_true rfl) [(0, .ref (G.2.1 + 66)), (1, .int v1)] rfl (fun p e s m args below meth c C => ?_)
  unfold pX6_text at h
  refine je_aload_n C dX6_text_0 1 rfl 0 rfl ?_
  refine je_iconst C (0) dX6_text_1 2 rfl ic_0 ?_
  refine sX6_166 C dX6_text_2 5 rfl ?_
  refine jk_lt h (fun k2 h => ?_)
  refine je_iload_n C dX6_text_5 6 rfl 1 rfl ?_
  refine je_if_lt C 17 dX6_text_6 9 rfl rfl h (fun h => ?_) (fun h => ?_)
  · refine je_bipush C (-2) dX6_text_17 19 rfl bp_m2 ?_
    cases h
    exact je_iret C dX6_text_19
  refine je_iload_n C dX6_text_9 10 rfl 1 rfl ?_
  refine je_aload_n C dX6_text_10 11 rfl 0 rfl ?_
  refine gX6_169 C dX6_text_11 14 rfl ?_
  refine je_icmp_le C 20 dX6_text_14 17 rfl rfl h (fun h => ?_) (fun h => ?_)
  · refine je_aload_n C dX6_text_20 21 rfl 0 rfl ?_
    refine je_iload_n C dX6_text_21 22 rfl 1 rfl ?_
    refine sX6_175 C dX6_text_22 25 rfl ?_
    refine jk_lt h (fun k22 h => ?_)
    refine je_aload_n C dX6_text_25 26 rfl 0 rfl ?_
    refine je_iconst C (0) dX6_text_26 27 rfl ic_0 ?_
    refine sX6_169 C dX6_text_27 30 rfl ?_
    refine jk_lt h (fun k27 h => ?_)
    refine je_aload_n C dX6_text_30 31 rfl 0 rfl ?_
    refine je_iconst C (0) dX6_text_31 32 rfl ic_0 ?_
    refine sX6_172 C dX6_text_32 35 rfl ?_
    refine jk_lt h (fun k32 h => ?_)
    refine je_aload_n C dX6_text_35 36 rfl 0 rfl ?_
    refine je_iconst C (0) dX6_text_36 37 rfl ic_0 ?_
    refine sX6_219 C dX6_text_37 40 rfl ?_
    refine jk_lt h (fun k37 h => ?_)
    refine je_aload_n C dX6_text_40 41 rfl 0 rfl ?_
    refine je_iconst C (-1) dX6_text_41 42 rfl ic_m1 ?_
    refine sX6_222 C dX6_text_42 45 rfl ?_
    refine jk_lt h (fun k42 h => ?_)
    refine je_iconst C (0) dX6_text_45 46 rfl ic_0 ?_
    refine je_istore_n C dX6_text_46 47 rfl (Nat.le_of_ble_eq_true rfl) [(2, .int (0 : Int32)), (0, .ref (G.2.1 + 66)), (1, .int v1)] rfl ?_
    refine je_sub [1, 0] [(0, .ref (G.2.1 + 66)), (2, .int (0 : Int32))] rfl ?_
    exact wX6_text_47 C F k42 (0 : Int32) h
  refine je_bipush C (-2) dX6_text_17 19 rfl bp_m2 ?_
  cases h
  exact je_iret C dX6_text_19
theorem gX6_326 {p : Program} {l : Launch} {e : Env} {R : Room} {s : State} {m : MethodId} {args : Array Value} {below : List Frame} {meth : Method} {c : Code} {Q : State → Prop} {G : je_G} {cc : ByteArray} {nL : Nat} {rt : Option FieldType} {sz cells slots pc : Nat} {L : List (Nat × Value)} {st : List Value} {κ : kp_K} {dyn : Nat → Option je_E} (C : Cx p s m args meth c G "MinistryDesksModel" cc nL rt) (d : decode cc pc = .ok (.getfield 326, 3)) (n : Nat) (hn : pc + 3 = n) (kk : Js p l e R s m args below meth c G nL Q (en2 G κ dyn) sz cells slots n L (.int (κ.1 66 33) :: st)) : Js p l e R s m args below meth c G nL Q (en2 G κ dyn) sz cells slots pc L (.ref (G.2.1 + 66) :: st) := jk_getI (k := 33) C kd66 rfl in_X6 rfl (by decide) q1713 rfl d n hn kk
theorem gX6_76 {p : Program} {l : Launch} {e : Env} {R : Room} {s : State} {m : MethodId} {args : Array Value} {below : List Frame} {meth : Method} {c : Code} {Q : State → Prop} {G : je_G} {cc : ByteArray} {nL : Nat} {rt : Option FieldType} {sz cells slots pc : Nat} {L : List (Nat × Value)} {st : List Value} {κ : kp_K} {dyn : Nat → Option je_E} (C : Cx p s m args meth c G "MinistryDesksModel" cc nL rt) (d : decode cc pc = .ok (.getfield 76, 3)) (n : Nat) (hn : pc + 3 = n) (kk : Js p l e R s m args below meth c G nL Q (en2 G κ dyn) sz cells slots n L (.int (κ.1 66 34) :: st)) : Js p l e R s m args below meth c G nL Q (en2 G κ dyn) sz cells slots pc L (.ref (G.2.1 + 66) :: st) := jk_getI (k := 34) C kd66 rfl in_X6 rfl (by decide) q1714 rfl d n hn kk
set_option maxHeartbeats 4000000 in
theorem metX6_fault {l : Launch} {G : je_G} {dyn : Nat → Option je_E} {sz : Nat} {κ : kp_K} {v1 : Int32} {r9 : Int32 × kp_K} (h : pX6_fault κ v1 = some r9) : MetS l G yX6_fault cX6_fault 2 (some .int) 0 0 0 0 [.ref (G.2.1 + 66), .int v1] (en2 G κ dyn) sz (some (.int r9.1)) (en2 G r9.2 dyn) sz := by
  refine je_met "MinistryDesksModel" rfl (by decide +kernel) (Nat.le_of_ble_eq_true rfl) [(0, .ref (G.2.1 + 66)), (1, .int v1)] rfl (fun p e s m args below meth c C => ?_)
  unfold pX6_fault at h
  refine je_aload_n C dX6_fault_0 1 rfl 0 rfl ?_
  refine je_iconst C (0) dX6_fault_1 2 rfl ic_0 ?_
  refine sX6_166 C dX6_fault_2 5 rfl ?_
  refine jk_lt h (fun k2 h => ?_)
  refine je_iload_n C dX6_fault_5 6 rfl 1 rfl ?_
  refine je_if_ne C 16 dX6_fault_6 9 rfl rfl h (fun h => ?_) (fun h => ?_)
  · refine je_iload_n C dX6_fault_16 17 rfl 1 rfl ?_
    refine je_iconst C (1) dX6_fault_17 18 rfl ic_1 ?_
    refine je_icmp_ne C 28 dX6_fault_18 21 rfl rfl h (fun h => ?_) (fun h => ?_)
    · refine je_iconst C (-1) dX6_fault_28 29 rfl ic_m1 ?_
      cases h
      exact je_iret C dX6_fault_29
    refine je_aload_n C dX6_fault_21 22 rfl 0 rfl ?_
    refine gX6_76 C dX6_fault_22 25 rfl ?_
    refine je_goto C 29 dX6_fault_25 rfl ?_
    cases h
    exact je_iret C dX6_fault_29
  refine je_aload_n C dX6_fault_9 10 rfl 0 rfl ?_
  refine gX6_326 C dX6_fault_10 13 rfl ?_
  refine je_goto C 29 dX6_fault_13 rfl ?_
  cases h
  exact je_iret C dX6_fault_29
set_option maxHeartbeats 4000000 in
theorem metX6_named {l : Launch} {G : je_G} {dyn : Nat → Option je_E} {sz : Nat} {F : Nat} {κ : kp_K} {v1 : Int32} {v2 : Int32} {r9 : Int32 × kp_K} (h : pX6_named F κ v1 v2 = some r9) : MetS l G yX6_named cX6_named 3 (some .int) 1 24 0 0 [.ref (G.2.1 + 66), .int v1, .int v2] (en2 G κ dyn) sz (some (.int r9.1)) (en2 G r9.2 dyn) sz := by
  refine je_met "MinistryDesksModel" rfl (by decide +kernel) (Nat.le_of_ble_eq_true rfl) [(0, .ref (G.2.1 + 66)), (1, .int v1), (2, .int v2)] rfl (fun p e s m args below meth c C => ?_)
  unfold pX6_named at h
  refine je_aload_n C dX6_named_0 1 rfl 0 rfl ?_
  refine je_iconst C (0) dX6_named_1 2 rfl ic_0 ?_
  refine sX6_166 C dX6_named_2 5 rfl ?_
  refine jk_lt h (fun k2 h => ?_)
  refine je_iload_n C dX6_named_5 6 rfl 1 rfl ?_
  refine je_if_ne C 27 dX6_named_6 9 rfl rfl h (fun h => ?_) (fun h => ?_)
  · refine je_iload_n C dX6_named_27 28 rfl 1 rfl ?_
    refine je_iconst C (1) dX6_named_28 29 rfl ic_1 ?_
    refine je_icmp_ne C 50 dX6_named_29 32 rfl rfl h (fun h => ?_) (fun h => ?_)
    · refine je_iload_n C dX6_named_50 51 rfl 1 rfl ?_
      refine je_iconst C (2) dX6_named_51 52 rfl ic_2 ?_
      refine je_icmp_ne C 73 dX6_named_52 55 rfl rfl h (fun h => ?_) (fun h => ?_)
      · refine je_iconst C (-1) dX6_named_73 74 rfl ic_m1 ?_
        cases h
        exact je_iret C dX6_named_74
      refine je_aload_n C dX6_named_55 56 rfl 0 rfl ?_
      refine gX6_61 C dX6_named_56 59 rfl ?_
      refine je_iconst C (0) dX6_named_59 60 rfl ic_0 ?_
      refine je_aload_n C dX6_named_60 61 rfl 0 rfl ?_
      refine gX6_13 C dX6_named_61 64 rfl ?_
      refine je_iconst C (5) dX6_named_64 65 rfl ic_5 ?_
      refine jk_iald C kd68 dX6_named_65 66 rfl h (fun h => ?_)
      refine je_iload_n C dX6_named_66 67 rfl 2 rfl ?_
      obtain ⟨t67, hg, h⟩ := p_cl_inv h
      refine je_callSi (As := [.ref (G.2.1 + 84), .int (0 : Int32), .int (k2.1 68 (5 : Int32).toNatClampNeg), .int v2]) (rest := []) C (metX6_found hg) hdX6_found cwX6_231 rfl ⟨Nat.le_of_ble_eq_true rfl, Nat.le_of_ble_eq_true rfl⟩ (Nat.le_of_ble_eq_true rfl) dX6_named_67 70 rfl ⟨Nat.le_refl _, Nat.le_refl _⟩ ?_
      refine je_goto C 74 dX6_named_70 rfl ?_
      cases h
      exact je_iret C dX6_named_74
    refine je_aload_n C dX6_named_32 33 rfl 0 rfl ?_
    refine gX6_25 C dX6_named_33 36 rfl ?_
    refine je_iconst C (0) dX6_named_36 37 rfl ic_0 ?_
    refine je_aload_n C dX6_named_37 38 rfl 0 rfl ?_
    refine gX6_13 C dX6_named_38 41 rfl ?_
    refine je_iconst C (1) dX6_named_41 42 rfl ic_1 ?_
    refine jk_iald C kd68 dX6_named_42 43 rfl h (fun h => ?_)
    refine je_iload_n C dX6_named_43 44 rfl 2 rfl ?_
    obtain ⟨t44, hg, h⟩ := p_cl_inv h
    refine je_callSi (As := [.ref (G.2.1 + 72), .int (0 : Int32), .int (k2.1 68 (1 : Int32).toNatClampNeg), .int v2]) (rest := []) C (metX6_found hg) hdX6_found cwX6_231 rfl ⟨Nat.le_of_ble_eq_true rfl, Nat.le_of_ble_eq_true rfl⟩ (Nat.le_of_ble_eq_true rfl) dX6_named_44 47 rfl ⟨Nat.le_refl _, Nat.le_refl _⟩ ?_
    refine je_goto C 74 dX6_named_47 rfl ?_
    cases h
    exact je_iret C dX6_named_74
  refine je_aload_n C dX6_named_9 10 rfl 0 rfl ?_
  refine gX6_16 C dX6_named_10 13 rfl ?_
  refine je_iconst C (0) dX6_named_13 14 rfl ic_0 ?_
  refine je_aload_n C dX6_named_14 15 rfl 0 rfl ?_
  refine gX6_13 C dX6_named_15 18 rfl ?_
  refine je_iconst C (0) dX6_named_18 19 rfl ic_0 ?_
  refine jk_iald C kd68 dX6_named_19 20 rfl h (fun h => ?_)
  refine je_iload_n C dX6_named_20 21 rfl 2 rfl ?_
  obtain ⟨t21, hg, h⟩ := p_cl_inv h
  refine je_callSi (As := [.ref (G.2.1 + 69), .int (0 : Int32), .int (k2.1 68 (0 : Int32).toNatClampNeg), .int v2]) (rest := []) C (metX6_found hg) hdX6_found cwX6_231 rfl ⟨Nat.le_of_ble_eq_true rfl, Nat.le_of_ble_eq_true rfl⟩ (Nat.le_of_ble_eq_true rfl) dX6_named_21 24 rfl ⟨Nat.le_refl _, Nat.le_refl _⟩ ?_
  refine je_goto C 74 dX6_named_24 rfl ?_
  cases h
  exact je_iret C dX6_named_74
set_option maxHeartbeats 4000000 in
theorem metX6_isDesk {l : Launch} {G : je_G} {dyn : Nat → Option je_E} {sz : Nat} {κ : kp_K} {v1 : Int32} {r9 : Int32} (h : pX6_isDesk κ v1 = some r9) : MetS l G yX6_isDesk cX6_isDesk 2 (some .boolean) 0 0 0 0 [.ref (G.2.1 + 66), .int v1] (en2 G κ dyn) sz (some (.int r9)) (en2 G κ dyn) sz := by
  refine je_met "MinistryDesksModel" rfl (by decide +kernel) (Nat.le_of_ble_eq_true rfl) [(0, .ref (G.2.1 + 66)), (1, .int v1)] rfl (fun p e s m args below meth c C => ?_)
  unfold pX6_isDesk at h
  refine je_iload_n C dX6_isDesk_0 1 rfl 1 rfl ?_
  refine je_if_lt C 18 dX6_isDesk_1 4 rfl rfl h (fun h => ?_) (fun h => ?_)
  · refine je_iconst C (0) dX6_isDesk_18 19 rfl ic_0 ?_
    cases h
    exact je_zret C dX6_isDesk_19 (Or.inl rfl)
  refine je_iload_n C dX6_isDesk_4 5 rfl 1 rfl ?_
  refine je_aload_n C dX6_isDesk_5 6 rfl 0 rfl ?_
  refine gX6_13 C dX6_isDesk_6 9 rfl ?_
  refine je_iconst C (0) dX6_isDesk_9 10 rfl ic_0 ?_
  refine jk_iald C kd68 dX6_isDesk_10 11 rfl h (fun h => ?_)
  refine je_icmp_ge C 18 dX6_isDesk_11 14 rfl rfl h (fun h => ?_) (fun h => ?_)
  · refine je_iconst C (0) dX6_isDesk_18 19 rfl ic_0 ?_
    cases h
    exact je_zret C dX6_isDesk_19 (Or.inl rfl)
  refine je_iconst C (1) dX6_isDesk_14 15 rfl ic_1 ?_
  refine je_goto C 19 dX6_isDesk_15 rfl ?_
  cases h
  exact je_zret C dX6_isDesk_19 (Or.inr rfl)
theorem bp_28 : (Int8.ofInt (28)).toInt32 = (28 : Int32) := by decide +kernel
set_option maxHeartbeats 4000000 in
theorem metX6_slot {l : Launch} {G : je_G} {σ : Nat → Option je_E} {sz : Nat} {v0 : Int32} {v1 : Int32} {v2 : Int32} {r9 : Int32} (h : pX6_slot v0 v1 v2 = some r9) : MetS l G yX6_slot cX6_slot 3 (some .int) 0 0 0 0 [.int v0, .int v1, .int v2] σ sz (some (.int r9)) σ sz := by
  refine je_met "MinistryDesksModel" rfl (by decide +kernel) (Nat.le_of_ble_eq_true rfl) [(0, .int v0), (1, .int v1), (2, .int v2)] rfl (fun p e s m args below meth c C => ?_)
  unfold pX6_slot at h
  refine je_bipush C (28) dX6_slot_0 2 rfl bp_28 ?_
  refine je_iload_n C dX6_slot_2 3 rfl 0 rfl ?_
  refine je_imul C dX6_slot_3 4 rfl ?_
  refine je_bipush C (7) dX6_slot_4 6 rfl bp_7 ?_
  refine je_iload_n C dX6_slot_6 7 rfl 1 rfl ?_
  refine je_imul C dX6_slot_7 8 rfl ?_
  refine je_iadd C dX6_slot_8 9 rfl ?_
  refine je_iload_n C dX6_slot_9 10 rfl 2 rfl ?_
  refine je_iadd C dX6_slot_10 11 rfl ?_
  cases h
  exact je_iret C dX6_slot_11
theorem hdX6_slot : je_hd yX6_slot 3 := ⟨by decide +kernel, by decide +kernel, by decide +kernel⟩
theorem cwX6_375 : GoodIn lw_all (va_wsS "MinistryDesksModel" 375 yX6_slot (ws_ yX6_slot cX6_slot 3 (some .int))) := lw_S q2088 q2089 q169 q2090
theorem gX6_93 {p : Program} {l : Launch} {e : Env} {R : Room} {s : State} {m : MethodId} {args : Array Value} {below : List Frame} {meth : Method} {c : Code} {Q : State → Prop} {G : je_G} {cc : ByteArray} {nL : Nat} {rt : Option FieldType} {sz cells slots pc : Nat} {L : List (Nat × Value)} {st : List Value} {κ : kp_K} {dyn : Nat → Option je_E} (C : Cx p s m args meth c G "MinistryDesksModel" cc nL rt) (d : decode cc pc = .ok (.getfield 93, 3)) (n : Nat) (hn : pc + 3 = n) (kk : Js p l e R s m args below meth c G nL Q (en2 G κ dyn) sz cells slots n L (.ref (G.2.1 + 93) :: st)) : Js p l e R s m args below meth c G nL Q (en2 G κ dyn) sz cells slots pc L (.ref (G.2.1 + 66) :: st) := jk_getR (k := 45) (z := 0) C kd66 rfl in_X6 93 rfl (by decide) q1725 rfl d n hn kk
set_option maxHeartbeats 4000000 in
theorem wX6_setOf_5 {p : Program} {l : Launch} {e : Env} {s : State} {m : MethodId} {args : Array Value} {below : List Frame} {meth : Method} {c : Code} {G : je_G} {dyn : Nat → Option je_E} {sz : Nat} {F : Nat} {κ : kp_K} {r9 : Int32} (C : Cx p s m args meth c G "MinistryDesksModel" cX6_setOf 5 (some .int)) : ∀ (n : Nat) (v1 : Int32) (v2 : Int32) (v3 : Int32) (v4 : Int32), bX6_setOf_5 F n κ v1 v2 v3 v4 = some r9 → Js p l e ({ frames := 1, cells := 0, slots := 0, locals := 22 } : Room) s m args below meth c G 5 (MQ below (je_Q G (some (.int r9)) (en2 G κ dyn) sz) args s 0 0 (je_A G)) (en2 G κ dyn) sz 0 0 5 [(0, .ref (G.2.1 + 66)), (1, .int v1), (2, .int v2), (3, .int v3), (4, .int v4)] [] := by
  intro n
  induction n with
  | zero =>
    intro v1 v2 v3 v4 h
    cases h
  | succ n ih =>
    intro v1 v2 v3 v4 h
    rw [bX6_setOf_5] at h
    refine je_iload C dX6_setOf_5 7 rfl 4 rfl ?_
    refine je_aload_n C dX6_setOf_7 8 rfl 0 rfl ?_
    refine gX6_90 C dX6_setOf_8 11 rfl ?_
    refine je_iconst C (4) dX6_setOf_11 12 rfl ic_4 ?_
    refine je_iload_n C dX6_setOf_12 13 rfl 1 rfl ?_
    refine je_imul C dX6_setOf_13 14 rfl ?_
    refine je_iload_n C dX6_setOf_14 15 rfl 2 rfl ?_
    refine je_iadd C dX6_setOf_15 16 rfl ?_
    refine je_lti h (fun i16 h => ?_)
    refine jk_iald C kd92 dX6_setOf_16 17 rfl h (fun h => ?_)
    refine je_icmp_ge C 43 dX6_setOf_17 20 rfl rfl h (fun h => ?_) (fun h => ?_)
    · refine je_iload_n C dX6_setOf_43 44 rfl 3 rfl ?_
      cases h
      exact je_iret C dX6_setOf_44
    refine je_iload_n C dX6_setOf_20 21 rfl 3 rfl ?_
    refine je_iconst C (1) dX6_setOf_21 22 rfl ic_1 ?_
    refine je_aload_n C dX6_setOf_22 23 rfl 0 rfl ?_
    refine gX6_93 C dX6_setOf_23 26 rfl ?_
    refine je_iload_n C dX6_setOf_26 27 rfl 1 rfl ?_
    refine je_iload_n C dX6_setOf_27 28 rfl 2 rfl ?_
    refine je_iload C dX6_setOf_28 30 rfl 4 rfl ?_
    obtain ⟨t30, hg, h⟩ := p_cl_inv h
    refine je_callSi (As := [.int v1, .int v2, .int v4]) (rest := [.ref (G.2.1 + 93), .int (1 : Int32), .int v3]) C (metX6_slot hg) hdX6_slot cwX6_375 rfl ⟨Nat.le_of_ble_eq_true rfl, Nat.le_of_ble_eq_true rfl⟩ (Nat.le_of_ble_eq_true rfl) dX6_setOf_30 33 rfl ⟨Nat.le_refl _, Nat.le_refl _⟩ ?_
    refine jk_iald C kd93 dX6_setOf_33 34 rfl h (fun h => ?_)
    refine je_ishl C dX6_setOf_34 35 rfl ?_
    refine je_ior C dX6_setOf_35 36 rfl ?_
    refine je_lti h (fun t36 h => ?_)
    refine je_istore_n C dX6_setOf_36 37 rfl (Nat.le_of_ble_eq_true rfl) [(3, .int t36), (0, .ref (G.2.1 + 66)), (1, .int v1), (2, .int v2), (4, .int v4)] rfl ?_
    refine je_iinc C (1) dX6_setOf_37 40 rfl 4 rfl ic_1 (Nat.le_of_ble_eq_true rfl) [(4, .int (v4 + (1 : Int32))), (3, .int t36), (0, .ref (G.2.1 + 66)), (1, .int v1), (2, .int v2)] rfl ?_
    refine je_goto C 5 dX6_setOf_40 rfl ?_
    refine je_sub [2, 3, 4, 1, 0] [(0, .ref (G.2.1 + 66)), (1, .int v1), (2, .int v2), (3, .int t36), (4, .int (v4 + (1 : Int32)))] rfl ?_
    exact ih v1 v2 t36 (v4 + (1 : Int32)) h
set_option maxHeartbeats 4000000 in
theorem metX6_setOf {l : Launch} {G : je_G} {dyn : Nat → Option je_E} {sz : Nat} {F : Nat} {κ : kp_K} {v1 : Int32} {v2 : Int32} {r9 : Int32} (h : pX6_setOf F κ v1 v2 = some r9) : MetS l G yX6_setOf cX6_setOf 5 (some .int) 1 22 0 0 [.ref (G.2.1 + 66), .int v1, .int v2] (en2 G κ dyn) sz (some (.int r9)) (en2 G κ dyn) sz := by
  refine je_met "MinistryDesksModel" rfl (by decide +kernel) (Nat.le_of_ble_eq_true rfl) [(0, .ref (G.2.1 + 66)), (1, .int v1), (2, .int v2)] rfl (fun p e s m args below meth c C => ?_)
  unfold pX6_setOf at h
  refine je_iconst C (0) dX6_setOf_0 1 rfl ic_0 ?_
  refine je_istore_n C dX6_setOf_1 2 rfl (Nat.le_of_ble_eq_true rfl) [(3, .int (0 : Int32)), (0, .ref (G.2.1 + 66)), (1, .int v1), (2, .int v2)] rfl ?_
  refine je_iconst C (0) dX6_setOf_2 3 rfl ic_0 ?_
  refine je_istore C dX6_setOf_3 5 rfl (Nat.le_of_ble_eq_true rfl) [(4, .int (0 : Int32)), (3, .int (0 : Int32)), (0, .ref (G.2.1 + 66)), (1, .int v1), (2, .int v2)] rfl ?_
  refine je_sub [2, 3, 4, 1, 0] [(0, .ref (G.2.1 + 66)), (1, .int v1), (2, .int v2), (3, .int (0 : Int32)), (4, .int (0 : Int32))] rfl ?_
  exact wX6_setOf_5 C F v1 v2 (0 : Int32) (0 : Int32) h
theorem hdX6_isDesk : je_hd yX6_isDesk 1 := ⟨by decide +kernel, by decide +kernel, by decide +kernel⟩
theorem hdX6_setOf : je_hd yX6_setOf 2 := ⟨by decide +kernel, by decide +kernel, by decide +kernel⟩
theorem cwX6_382 : GoodIn lw_all (wsV "MinistryDesksModel" 382 "MinistryDesksModel" yX6_setOf (ws_ yX6_setOf cX6_setOf 5 (some .int))) := lw_V q2084 q2086 qs112 q169 q2087
theorem cwX6_452 : GoodIn lw_all (wsV "MinistryDesksModel" 452 "MinistryDesksModel" yX6_isDesk (ws_ yX6_isDesk cX6_isDesk 2 (some .boolean))) := lw_V q2080 q2082 qs111 q169 q2083
set_option maxHeartbeats 4000000 in
theorem wX6_look_27 {p : Program} {l : Launch} {e : Env} {s : State} {m : MethodId} {args : Array Value} {below : List Frame} {meth : Method} {c : Code} {G : je_G} {dyn : Nat → Option je_E} {sz : Nat} {F : Nat} {r9 : Int32 × kp_K} (C : Cx p s m args meth c G "MinistryDesksModel" cX6_look 3 (some .int)) (κ : kp_K) (v1 : Int32) (v2 : Int32) (s0 : Int32) (h : bX6_look_27 F κ v1 v2 s0 = some r9) : Js p l e ({ frames := 2, cells := 0, slots := 0, locals := 46 } : Room) s m args below meth c G 3 (MQ below (je_Q G (some (.int r9.1)) (en2 G r9.2 dyn) sz) args s 0 0 (je_A G)) (en2 G κ dyn) sz 0 0 27 [(0, .ref (G.2.1 + 66)), (1, .int v1), (2, .int v2)] [.int s0, .ref (G.2.1 + 66)] := by
  unfold bX6_look_27 at h
  refine sX6_166 C dX6_look_27 30 rfl ?_
  refine jk_lt h (fun k27 h => ?_)
  refine je_aload_n C dX6_look_30 31 rfl 0 rfl ?_
  refine gX6_166 C dX6_look_31 34 rfl ?_
  refine je_if_eq C 39 dX6_look_34 37 rfl rfl h (fun h => ?_) (fun h => ?_)
  · refine je_iload_n C dX6_look_39 40 rfl 2 rfl ?_
    refine je_ite h (fun hx h => ?_) (fun hn0 h => ?_)
    · refine je_tsw C (0) 76 dX6_look_40 hx (by decide) (by decide) rfl rfl ?_
      refine je_aload_n C dX6_look_76 77 rfl 0 rfl ?_
      refine gX6_19 C dX6_look_77 80 rfl ?_
      refine je_iload_n C dX6_look_80 81 rfl 1 rfl ?_
      refine jk_iald C kd70 dX6_look_81 82 rfl h (fun h => ?_)
      cases h
      exact je_iret C dX6_look_82
    refine je_ite h (fun hx h => ?_) (fun hn1 h => ?_)
    · refine je_tsw C (1) 83 dX6_look_40 hx (by decide) (by decide) rfl rfl ?_
      refine je_aload_n C dX6_look_83 84 rfl 0 rfl ?_
      refine gX6_90 C dX6_look_84 87 rfl ?_
      refine je_iload_n C dX6_look_87 88 rfl 1 rfl ?_
      refine jk_iald C kd92 dX6_look_88 89 rfl h (fun h => ?_)
      cases h
      exact je_iret C dX6_look_89
    refine je_ite h (fun hx h => ?_) (fun hn2 h => ?_)
    · refine je_tsw C (2) 90 dX6_look_40 hx (by decide) (by decide) rfl rfl ?_
      refine je_aload_n C dX6_look_90 91 rfl 0 rfl ?_
      refine gX6_102 C dX6_look_91 94 rfl ?_
      refine je_iload_n C dX6_look_94 95 rfl 1 rfl ?_
      refine jk_iald C kd96 dX6_look_95 96 rfl h (fun h => ?_)
      cases h
      exact je_iret C dX6_look_96
    refine je_ite h (fun hx h => ?_) (fun hn3 h => ?_)
    · refine je_tsw C (3) 97 dX6_look_40 hx (by decide) (by decide) rfl rfl ?_
      refine je_aload_n C dX6_look_97 98 rfl 0 rfl ?_
      refine gX6_105 C dX6_look_98 101 rfl ?_
      refine je_iload_n C dX6_look_101 102 rfl 1 rfl ?_
      refine jk_iald C kd97 dX6_look_102 103 rfl h (fun h => ?_)
      cases h
      exact je_iret C dX6_look_103
    refine je_ite h (fun hx h => ?_) (fun hn4 h => ?_)
    · refine je_tsw C (4) 104 dX6_look_40 hx (by decide) (by decide) rfl rfl ?_
      refine je_aload_n C dX6_look_104 105 rfl 0 rfl ?_
      refine gX6_22 C dX6_look_105 108 rfl ?_
      refine je_iload_n C dX6_look_108 109 rfl 1 rfl ?_
      refine jk_iald C kd71 dX6_look_109 110 rfl h (fun h => ?_)
      cases h
      exact je_iret C dX6_look_110
    refine je_tswd C 111 dX6_look_40 (je_out (0) 5 [(0 : Int32), (1 : Int32), (2 : Int32), (3 : Int32), (4 : Int32)] (by decide) (List.forall_mem_cons.mpr ⟨hn0, (List.forall_mem_cons.mpr ⟨hn1, (List.forall_mem_cons.mpr ⟨hn2, (List.forall_mem_cons.mpr ⟨hn3, (List.forall_mem_cons.mpr ⟨hn4, (fun _ q => absurd q List.not_mem_nil)⟩)⟩)⟩)⟩)⟩)) rfl ?_
    refine je_aload_n C dX6_look_111 112 rfl 0 rfl ?_
    refine je_iconst C (0) dX6_look_112 113 rfl ic_0 ?_
    refine je_iload_n C dX6_look_113 114 rfl 1 rfl ?_
    obtain ⟨t114, hg, h⟩ := p_cl_inv h
    refine je_callVi (As := [.int (0 : Int32), .int v1]) (rest := []) C (metX6_setOf hg) (en2_at kd66) rfl hdX6_setOf rfl cwX6_382 rfl ⟨Nat.le_of_ble_eq_true rfl, Nat.le_of_ble_eq_true rfl⟩ (Nat.le_of_ble_eq_true rfl) dX6_look_114 117 rfl ⟨Nat.le_refl _, Nat.le_refl _⟩ ?_
    cases h
    exact je_iret C dX6_look_117
  refine je_iconst C (0) dX6_look_37 38 rfl ic_0 ?_
  cases h
  exact je_iret C dX6_look_38
set_option maxHeartbeats 4000000 in
theorem wX6_look_22 {p : Program} {l : Launch} {e : Env} {s : State} {m : MethodId} {args : Array Value} {below : List Frame} {meth : Method} {c : Code} {G : je_G} {dyn : Nat → Option je_E} {sz : Nat} {F : Nat} {r9 : Int32 × kp_K} (C : Cx p s m args meth c G "MinistryDesksModel" cX6_look 3 (some .int)) (κ : kp_K) (v1 : Int32) (v2 : Int32) (h : bX6_look_22 F κ v1 v2 = some r9) : Js p l e ({ frames := 2, cells := 0, slots := 0, locals := 46 } : Room) s m args below meth c G 3 (MQ below (je_Q G (some (.int r9.1)) (en2 G r9.2 dyn) sz) args s 0 0 (je_A G)) (en2 G κ dyn) sz 0 0 22 [(0, .ref (G.2.1 + 66)), (1, .int v1), (2, .int v2)] [.ref (G.2.1 + 66)] := by
  unfold bX6_look_22 at h
  refine je_iconst C (2) dX6_look_22 23 rfl ic_2 ?_
  refine je_goto C 27 dX6_look_23 rfl ?_
  exact wX6_look_27 C κ v1 v2 (2 : Int32) h
set_option maxHeartbeats 4000000 in
theorem metX6_look {l : Launch} {G : je_G} {dyn : Nat → Option je_E} {sz : Nat} {F : Nat} {κ : kp_K} {v1 : Int32} {v2 : Int32} {r9 : Int32 × kp_K} (h : pX6_look F κ v1 v2 = some r9) : MetS l G yX6_look cX6_look 3 (some .int) 2 46 0 0 [.ref (G.2.1 + 66), .int v1, .int v2] (en2 G κ dyn) sz (some (.int r9.1)) (en2 G r9.2 dyn) sz := by
  refine je_met "MinistryDesksModel" rfl (by decide +kernel) (Nat.le_of_ble_eq_true rfl) [(0, .ref (G.2.1 + 66)), (1, .int v1), (2, .int v2)] rfl (fun p e s m args below meth c C => ?_)
  unfold pX6_look at h
  refine je_aload_n C dX6_look_0 1 rfl 0 rfl ?_
  refine je_aload_n C dX6_look_1 2 rfl 0 rfl ?_
  refine je_iload_n C dX6_look_2 3 rfl 1 rfl ?_
  obtain ⟨t3, hg, h⟩ := p_cl_inv h
  refine je_callVi (As := [.int v1]) (rest := [.ref (G.2.1 + 66)]) C (metX6_isDesk hg) (en2_at kd66) rfl hdX6_isDesk rfl cwX6_452 rfl ⟨Nat.le_of_ble_eq_true rfl, Nat.le_of_ble_eq_true rfl⟩ (Nat.le_of_ble_eq_true rfl) dX6_look_3 6 rfl ⟨Nat.le_refl _, Nat.le_refl _⟩ ?_
  refine je_if_ne C 13 dX6_look_6 9 rfl rfl h (fun h => ?_) (fun h => ?_)
  · refine je_iload_n C dX6_look_13 14 rfl 2 rfl ?_
    refine je_if_lt C 22 dX6_look_14 17 rfl rfl h (fun h => ?_) (fun h => ?_)
    · exact wX6_look_22 C κ v1 v2 h
    refine je_iload_n C dX6_look_17 18 rfl 2 rfl ?_
    refine je_iconst C (5) dX6_look_18 19 rfl ic_5 ?_
    refine je_icmp_le C 26 dX6_look_19 22 rfl rfl h (fun h => ?_) (fun h => ?_)
    · refine je_iconst C (0) dX6_look_26 27 rfl ic_0 ?_
      exact wX6_look_27 C κ v1 v2 (0 : Int32) h
    exact wX6_look_22 C κ v1 v2 h
  refine je_iconst C (1) dX6_look_9 10 rfl ic_1 ?_
  refine je_goto C 27 dX6_look_10 rfl ?_
  exact wX6_look_27 C κ v1 v2 (1 : Int32) h
theorem gX6_96 {p : Program} {l : Launch} {e : Env} {R : Room} {s : State} {m : MethodId} {args : Array Value} {below : List Frame} {meth : Method} {c : Code} {Q : State → Prop} {G : je_G} {cc : ByteArray} {nL : Nat} {rt : Option FieldType} {sz cells slots pc : Nat} {L : List (Nat × Value)} {st : List Value} {κ : kp_K} {dyn : Nat → Option je_E} (C : Cx p s m args meth c G "MinistryDesksModel" cc nL rt) (d : decode cc pc = .ok (.getfield 96, 3)) (n : Nat) (hn : pc + 3 = n) (kk : Js p l e R s m args below meth c G nL Q (en2 G κ dyn) sz cells slots n L (.ref (G.2.1 + 94) :: st)) : Js p l e R s m args below meth c G nL Q (en2 G κ dyn) sz cells slots pc L (.ref (G.2.1 + 66) :: st) := jk_getR (k := 46) (z := 0) C kd66 rfl in_X6 94 rfl (by decide) q1726 rfl d n hn kk
theorem gX6_99 {p : Program} {l : Launch} {e : Env} {R : Room} {s : State} {m : MethodId} {args : Array Value} {below : List Frame} {meth : Method} {c : Code} {Q : State → Prop} {G : je_G} {cc : ByteArray} {nL : Nat} {rt : Option FieldType} {sz cells slots pc : Nat} {L : List (Nat × Value)} {st : List Value} {κ : kp_K} {dyn : Nat → Option je_E} (C : Cx p s m args meth c G "MinistryDesksModel" cc nL rt) (d : decode cc pc = .ok (.getfield 99, 3)) (n : Nat) (hn : pc + 3 = n) (kk : Js p l e R s m args below meth c G nL Q (en2 G κ dyn) sz cells slots n L (.ref (G.2.1 + 95) :: st)) : Js p l e R s m args below meth c G nL Q (en2 G κ dyn) sz cells slots pc L (.ref (G.2.1 + 66) :: st) := jk_getR (k := 47) (z := 0) C kd66 rfl in_X6 95 rfl (by decide) q1727 rfl d n hn kk
set_option maxHeartbeats 4000000 in
theorem metX6_line_2 {l : Launch} {G : je_G} {dyn : Nat → Option je_E} {sz : Nat} {κ : kp_K} {v1 : Int32} {v2 : Int32} {v3 : Int32} {r9 : Int32 × kp_K} (h : pX6_line_2 κ v1 v2 v3 = some r9) : MetS l G yX6_line_2 cX6_line_2 5 (some .int) 1 22 0 0 [.ref (G.2.1 + 66), .int v1, .int v2, .int v3] (en2 G κ dyn) sz (some (.int r9.1)) (en2 G r9.2 dyn) sz := by
  refine je_met "MinistryDesksModel" rfl (by decide +kernel) (Nat.le_of_ble_eq_true rfl) [(0, .ref (G.2.1 + 66)), (1, .int v1), (2, .int v2), (3, .int v3)] rfl (fun p e s m args below meth c C => ?_)
  unfold pX6_line_2 at h
  refine je_aload_n C dX6_line_2_0 1 rfl 0 rfl ?_
  refine je_iconst C (0) dX6_line_2_1 2 rfl ic_0 ?_
  refine sX6_166 C dX6_line_2_2 5 rfl ?_
  refine jk_lt h (fun k2 h => ?_)
  refine je_aload_n C dX6_line_2_5 6 rfl 0 rfl ?_
  refine je_iload_n C dX6_line_2_6 7 rfl 1 rfl ?_
  obtain ⟨t7, hg, h⟩ := p_cl_inv h
  refine je_callVi (As := [.int v1]) (rest := []) C (metX6_isDesk hg) (en2_at kd66) rfl hdX6_isDesk rfl cwX6_452 rfl ⟨Nat.le_of_ble_eq_true rfl, Nat.le_of_ble_eq_true rfl⟩ (Nat.le_of_ble_eq_true rfl) dX6_line_2_7 10 rfl ⟨Nat.le_refl _, Nat.le_refl _⟩ ?_
  refine je_if_eq C 26 dX6_line_2_10 13 rfl rfl h (fun h => ?_) (fun h => ?_)
  · refine je_iconst C (-1) dX6_line_2_26 27 rfl ic_m1 ?_
    cases h
    exact je_iret C dX6_line_2_27
  refine je_iload_n C dX6_line_2_13 14 rfl 2 rfl ?_
  refine je_if_lt C 26 dX6_line_2_14 17 rfl rfl h (fun h => ?_) (fun h => ?_)
  · refine je_iconst C (-1) dX6_line_2_26 27 rfl ic_m1 ?_
    cases h
    exact je_iret C dX6_line_2_27
  refine je_iload_n C dX6_line_2_17 18 rfl 3 rfl ?_
  refine je_if_lt C 26 dX6_line_2_18 21 rfl rfl h (fun h => ?_) (fun h => ?_)
  · refine je_iconst C (-1) dX6_line_2_26 27 rfl ic_m1 ?_
    cases h
    exact je_iret C dX6_line_2_27
  refine je_iload_n C dX6_line_2_21 22 rfl 3 rfl ?_
  refine je_iconst C (2) dX6_line_2_22 23 rfl ic_2 ?_
  refine je_icmp_le C 28 dX6_line_2_23 26 rfl rfl h (fun h => ?_) (fun h => ?_)
  · refine je_iload_n C dX6_line_2_28 29 rfl 2 rfl ?_
    refine je_aload_n C dX6_line_2_29 30 rfl 0 rfl ?_
    refine gX6_90 C dX6_line_2_30 33 rfl ?_
    refine je_iload_n C dX6_line_2_33 34 rfl 1 rfl ?_
    refine jk_iald C kd92 dX6_line_2_34 35 rfl h (fun h => ?_)
    refine je_icmp_lt C 41 dX6_line_2_35 38 rfl rfl h (fun h => ?_) (fun h => ?_)
    · refine je_iconst C (0) dX6_line_2_41 42 rfl ic_0 ?_
      refine je_iload_n C dX6_line_2_42 43 rfl 1 rfl ?_
      refine je_iload_n C dX6_line_2_43 44 rfl 2 rfl ?_
      obtain ⟨t44, hg, h⟩ := p_cl_inv h
      refine je_callSi (As := [.int (0 : Int32), .int v1, .int v2]) (rest := []) C (metX6_slot hg) hdX6_slot cwX6_375 rfl ⟨Nat.le_of_ble_eq_true rfl, Nat.le_of_ble_eq_true rfl⟩ (Nat.le_of_ble_eq_true rfl) dX6_line_2_44 47 rfl ⟨Nat.le_refl _, Nat.le_refl _⟩ ?_
      refine je_istore C dX6_line_2_47 49 rfl (Nat.le_of_ble_eq_true rfl) [(4, .int t44), (0, .ref (G.2.1 + 66)), (1, .int v1), (2, .int v2), (3, .int v3)] rfl ?_
      refine je_iload_n C dX6_line_2_49 50 rfl 4 rfl ?_
      refine je_if_ne C 63 dX6_line_2_50 53 rfl rfl h (fun h => ?_) (fun h => ?_)
      · refine je_iload_n C dX6_line_2_63 64 rfl 4 rfl ?_
        refine je_iconst C (1) dX6_line_2_64 65 rfl ic_1 ?_
        refine je_icmp_ne C 78 dX6_line_2_65 68 rfl rfl h (fun h => ?_) (fun h => ?_)
        · refine je_aload_n C dX6_line_2_78 79 rfl 1 rfl ?_
          refine gX6_99 C dX6_line_2_79 82 rfl ?_
          refine je_iload C dX6_line_2_82 84 rfl 0 rfl ?_
          refine jk_iald C kd95 dX6_line_2_84 85 rfl h (fun h => ?_)
          cases h
          exact je_iret C dX6_line_2_85
        refine je_aload_n C dX6_line_2_68 69 rfl 1 rfl ?_
        refine gX6_96 C dX6_line_2_69 72 rfl ?_
        refine je_iload C dX6_line_2_72 74 rfl 0 rfl ?_
        refine jk_iald C kd94 dX6_line_2_74 75 rfl h (fun h => ?_)
        refine je_goto C 85 dX6_line_2_75 rfl ?_
        cases h
        exact je_iret C dX6_line_2_85
      refine je_aload_n C dX6_line_2_53 54 rfl 1 rfl ?_
      refine gX6_93 C dX6_line_2_54 57 rfl ?_
      refine je_iload C dX6_line_2_57 59 rfl 0 rfl ?_
      refine jk_iald C kd93 dX6_line_2_59 60 rfl h (fun h => ?_)
      refine je_goto C 85 dX6_line_2_60 rfl ?_
      cases h
      exact je_iret C dX6_line_2_85
    refine je_bipush C (-2) dX6_line_2_38 40 rfl bp_m2 ?_
    cases h
    exact je_iret C dX6_line_2_40
  refine je_iconst C (-1) dX6_line_2_26 27 rfl ic_m1 ?_
  cases h
  exact je_iret C dX6_line_2_27
theorem sp_640 : (Int16.ofInt (640)).toInt32 = (640 : Int32) := by decide +kernel
theorem gX6_118 {p : Program} {l : Launch} {e : Env} {R : Room} {s : State} {m : MethodId} {args : Array Value} {below : List Frame} {meth : Method} {c : Code} {Q : State → Prop} {G : je_G} {cc : ByteArray} {nL : Nat} {rt : Option FieldType} {sz cells slots pc : Nat} {L : List (Nat × Value)} {st : List Value} {κ : kp_K} {dyn : Nat → Option je_E} (C : Cx p s m args meth c G "MinistryDesksModel" cc nL rt) (d : decode cc pc = .ok (.getfield 118, 3)) (n : Nat) (hn : pc + 3 = n) (kk : Js p l e R s m args below meth c G nL Q (en2 G κ dyn) sz cells slots n L (.ref (G.2.1 + 101) :: st)) : Js p l e R s m args below meth c G nL Q (en2 G κ dyn) sz cells slots pc L (.ref (G.2.1 + 66) :: st) := jk_getR (k := 53) (z := 0) C kd66 rfl in_X6 101 rfl (by decide) q1733 rfl d n hn kk
theorem gX6_121 {p : Program} {l : Launch} {e : Env} {R : Room} {s : State} {m : MethodId} {args : Array Value} {below : List Frame} {meth : Method} {c : Code} {Q : State → Prop} {G : je_G} {cc : ByteArray} {nL : Nat} {rt : Option FieldType} {sz cells slots pc : Nat} {L : List (Nat × Value)} {st : List Value} {κ : kp_K} {dyn : Nat → Option je_E} (C : Cx p s m args meth c G "MinistryDesksModel" cc nL rt) (d : decode cc pc = .ok (.getfield 121, 3)) (n : Nat) (hn : pc + 3 = n) (kk : Js p l e R s m args below meth c G nL Q (en2 G κ dyn) sz cells slots n L (.ref (G.2.1 + 102) :: st)) : Js p l e R s m args below meth c G nL Q (en2 G κ dyn) sz cells slots pc L (.ref (G.2.1 + 66) :: st) := jk_getR (k := 54) (z := 0) C kd66 rfl in_X6 102 rfl (by decide) q1734 rfl d n hn kk
theorem gX6_124 {p : Program} {l : Launch} {e : Env} {R : Room} {s : State} {m : MethodId} {args : Array Value} {below : List Frame} {meth : Method} {c : Code} {Q : State → Prop} {G : je_G} {cc : ByteArray} {nL : Nat} {rt : Option FieldType} {sz cells slots pc : Nat} {L : List (Nat × Value)} {st : List Value} {κ : kp_K} {dyn : Nat → Option je_E} (C : Cx p s m args meth c G "MinistryDesksModel" cc nL rt) (d : decode cc pc = .ok (.getfield 124, 3)) (n : Nat) (hn : pc + 3 = n) (kk : Js p l e R s m args below meth c G nL Q (en2 G κ dyn) sz cells slots n L (.ref (G.2.1 + 103) :: st)) : Js p l e R s m args below meth c G nL Q (en2 G κ dyn) sz cells slots pc L (.ref (G.2.1 + 66) :: st) := jk_getR (k := 55) (z := 0) C kd66 rfl in_X6 103 rfl (by decide) q1735 rfl d n hn kk
theorem gX6_127 {p : Program} {l : Launch} {e : Env} {R : Room} {s : State} {m : MethodId} {args : Array Value} {below : List Frame} {meth : Method} {c : Code} {Q : State → Prop} {G : je_G} {cc : ByteArray} {nL : Nat} {rt : Option FieldType} {sz cells slots pc : Nat} {L : List (Nat × Value)} {st : List Value} {κ : kp_K} {dyn : Nat → Option je_E} (C : Cx p s m args meth c G "MinistryDesksModel" cc nL rt) (d : decode cc pc = .ok (.getfield 127, 3)) (n : Nat) (hn : pc + 3 = n) (kk : Js p l e R s m args below meth c G nL Q (en2 G κ dyn) sz cells slots n L (.ref (G.2.1 + 104) :: st)) : Js p l e R s m args below meth c G nL Q (en2 G κ dyn) sz cells slots pc L (.ref (G.2.1 + 66) :: st) := jk_getR (k := 56) (z := 0) C kd66 rfl in_X6 104 rfl (by decide) q1736 rfl d n hn kk
set_option maxHeartbeats 4000000 in
theorem metX6_notes {l : Launch} {G : je_G} {dyn : Nat → Option je_E} {sz : Nat} {κ : kp_K} {v1 : Int32} {v2 : Int32} {v3 : Int32} {v4 : Int32} {r9 : kp_K} (h : pX6_notes κ v1 v2 v3 v4 = some r9) : MetS l G yX6_notes cX6_notes 6 none 0 0 0 0 [.ref (G.2.1 + 66), .int v1, .int v2, .int v3, .int v4] (en2 G κ dyn) sz none (en2 G r9 dyn) sz := by
  refine je_met "MinistryDesksModel" rfl (by decide +kernel) (Nat.le_of_ble_eq_true rfl) [(0, .ref (G.2.1 + 66)), (1, .int v1), (2, .int v2), (3, .int v3), (4, .int v4)] rfl (fun p e s m args below meth c C => ?_)
  unfold pX6_notes at h
  refine je_sipush C (640) dX6_notes_0 3 rfl sp_640 ?_
  refine je_iload_n C dX6_notes_3 4 rfl 1 rfl ?_
  refine je_imul C dX6_notes_4 5 rfl ?_
  refine je_aload_n C dX6_notes_5 6 rfl 0 rfl ?_
  refine gX6_115 C dX6_notes_6 9 rfl ?_
  refine je_iload_n C dX6_notes_9 10 rfl 1 rfl ?_
  refine jk_iald C kd100 dX6_notes_10 11 rfl h (fun h => ?_)
  refine je_iadd C dX6_notes_11 12 rfl ?_
  refine je_lti h (fun t12 h => ?_)
  refine je_istore C dX6_notes_12 14 rfl (Nat.le_of_ble_eq_true rfl) [(5, .int t12), (0, .ref (G.2.1 + 66)), (1, .int v1), (2, .int v2), (3, .int v3), (4, .int v4)] rfl ?_
  refine je_aload_n C dX6_notes_14 15 rfl 1 rfl ?_
  refine gX6_115 C dX6_notes_15 18 rfl ?_
  refine je_iload_n C dX6_notes_18 19 rfl 2 rfl ?_
  refine jk_iald C kd100 dX6_notes_19 20 rfl h (fun h => ?_)
  refine je_sipush C (640) dX6_notes_20 23 rfl sp_640 ?_
  refine je_icmp_ne C 27 dX6_notes_23 26 rfl rfl h (fun h => ?_) (fun h => ?_)
  · refine je_aload_n C dX6_notes_27 28 rfl 1 rfl ?_
    refine gX6_118 C dX6_notes_28 31 rfl ?_
    refine je_iload C dX6_notes_31 33 rfl 0 rfl ?_
    refine je_aload_n C dX6_notes_33 34 rfl 1 rfl ?_
    refine gX6_87 C dX6_notes_34 37 rfl ?_
    refine je_iload_n C dX6_notes_37 38 rfl 2 rfl ?_
    refine jk_iald C kd91 dX6_notes_38 39 rfl h (fun h => ?_)
    refine jk_iast C kd101 dX6_notes_39 40 rfl h (fun h => ?_)
    refine jk_lt h (fun k39 h => ?_)
    refine je_aload_n C dX6_notes_40 41 rfl 1 rfl ?_
    refine gX6_121 C dX6_notes_41 44 rfl ?_
    refine je_iload C dX6_notes_44 46 rfl 0 rfl ?_
    refine je_iload_n C dX6_notes_46 47 rfl 3 rfl ?_
    refine jk_iast C kd102 dX6_notes_47 48 rfl h (fun h => ?_)
    refine jk_lt h (fun k47 h => ?_)
    refine je_aload_n C dX6_notes_48 49 rfl 1 rfl ?_
    refine gX6_124 C dX6_notes_49 52 rfl ?_
    refine je_iload C dX6_notes_52 54 rfl 0 rfl ?_
    refine je_iload_n C dX6_notes_54 55 rfl 4 rfl ?_
    refine jk_iast C kd103 dX6_notes_55 56 rfl h (fun h => ?_)
    refine jk_lt h (fun k55 h => ?_)
    refine je_aload_n C dX6_notes_56 57 rfl 1 rfl ?_
    refine gX6_127 C dX6_notes_57 60 rfl ?_
    refine je_iload C dX6_notes_60 62 rfl 0 rfl ?_
    refine je_iload C dX6_notes_62 64 rfl 5 rfl ?_
    refine jk_iast C kd104 dX6_notes_64 65 rfl h (fun h => ?_)
    refine jk_lt h (fun k64 h => ?_)
    refine je_aload_n C dX6_notes_65 66 rfl 1 rfl ?_
    refine gX6_115 C dX6_notes_66 69 rfl ?_
    refine je_iload_n C dX6_notes_69 70 rfl 2 rfl ?_
    refine je_dup2 C dX6_notes_70 71 rfl rfl rfl ?_
    refine jk_iald C kd100 dX6_notes_71 72 rfl h (fun h => ?_)
    refine je_iconst C (1) dX6_notes_72 73 rfl ic_1 ?_
    refine je_iadd C dX6_notes_73 74 rfl ?_
    refine jk_iast C kd100 dX6_notes_74 75 rfl h (fun h => ?_)
    refine jk_lt h (fun k74 h => ?_)
    cases h
    exact je_vret C dX6_notes_75
  cases h
  exact je_vret C dX6_notes_26
set_option maxHeartbeats 4000000 in
theorem wX6_drops_17 {p : Program} {l : Launch} {e : Env} {s : State} {m : MethodId} {args : Array Value} {below : List Frame} {meth : Method} {c : Code} {G : je_G} {dyn : Nat → Option je_E} {sz : Nat} {F : Nat} {r9 : kp_K} (C : Cx p s m args meth c G "MinistryDesksModel" cX6_drops 5 none) : ∀ (n : Nat) (κ : kp_K) (v1 : Int32) (v2 : Int32) (v4 : Int32), bX6_drops_17 F n κ v1 v2 v4 = some r9 → Js p l e ({ frames := 1, cells := 0, slots := 0, locals := 22 } : Room) s m args below meth c G 5 (MQ below (je_Q G none (en2 G r9 dyn) sz) args s 0 0 (je_A G)) (en2 G κ dyn) sz 0 0 17 [(0, .ref (G.2.1 + 66)), (1, .int v1), (2, .int v2), (4, .int v4)] [] := by
  intro n
  induction n with
  | zero =>
    intro κ v1 v2 v4 h
    cases h
  | succ n ih =>
    intro κ v1 v2 v4 h
    rw [bX6_drops_17] at h
    refine je_iload C dX6_drops_17 19 rfl 3 rfl ?_
    refine je_aload_n C dX6_drops_19 20 rfl 0 rfl ?_
    refine gX6_90 C dX6_drops_20 23 rfl ?_
    refine je_iconst C (4) dX6_drops_23 24 rfl ic_4 ?_
    refine je_iload_n C dX6_drops_24 25 rfl 1 rfl ?_
    refine je_imul C dX6_drops_25 26 rfl ?_
    refine je_iload_n C dX6_drops_26 27 rfl 2 rfl ?_
    refine je_iadd C dX6_drops_27 28 rfl ?_
    refine je_lti h (fun i28 h => ?_)
    refine jk_iald C kd92 dX6_drops_28 29 rfl h (fun h => ?_)
    refine je_icmp_ge C 116 dX6_drops_29 32 rfl rfl h (fun h => ?_) (fun h => ?_)
    · cases h
      exact je_vret C dX6_drops_116
    refine je_aload_n C dX6_drops_32 33 rfl 0 rfl ?_
    refine gX6_93 C dX6_drops_33 36 rfl ?_
    refine je_iload_n C dX6_drops_36 37 rfl 1 rfl ?_
    refine je_iload_n C dX6_drops_37 38 rfl 2 rfl ?_
    refine je_iload C dX6_drops_38 40 rfl 3 rfl ?_
    obtain ⟨t40, hg, h⟩ := p_cl_inv h
    refine je_callSi (As := [.int v1, .int v2, .int v4]) (rest := [.ref (G.2.1 + 93)]) C (metX6_slot hg) hdX6_slot cwX6_375 rfl ⟨Nat.le_of_ble_eq_true rfl, Nat.le_of_ble_eq_true rfl⟩ (Nat.le_of_ble_eq_true rfl) dX6_drops_40 43 rfl ⟨Nat.le_refl _, Nat.le_refl _⟩ ?_
    refine je_aload_n C dX6_drops_43 44 rfl 0 rfl ?_
    refine gX6_93 C dX6_drops_44 47 rfl ?_
    refine je_iload_n C dX6_drops_47 48 rfl 1 rfl ?_
    refine je_iload_n C dX6_drops_48 49 rfl 2 rfl ?_
    refine je_iload C dX6_drops_49 51 rfl 3 rfl ?_
    refine je_iconst C (1) dX6_drops_51 52 rfl ic_1 ?_
    refine je_iadd C dX6_drops_52 53 rfl ?_
    obtain ⟨t53, hg, h⟩ := p_cl_inv h
    refine je_callSi (As := [.int v1, .int v2, .int (v4 + (1 : Int32))]) (rest := [.ref (G.2.1 + 93), .int t40, .ref (G.2.1 + 93)]) C (metX6_slot hg) hdX6_slot cwX6_375 rfl ⟨Nat.le_of_ble_eq_true rfl, Nat.le_of_ble_eq_true rfl⟩ (Nat.le_of_ble_eq_true rfl) dX6_drops_53 56 rfl ⟨Nat.le_refl _, Nat.le_refl _⟩ ?_
    refine jk_iald C kd93 dX6_drops_56 57 rfl h (fun h => ?_)
    refine jk_iast C kd93 dX6_drops_57 58 rfl h (fun h => ?_)
    refine jk_lt h (fun k57 h => ?_)
    refine je_aload_n C dX6_drops_58 59 rfl 0 rfl ?_
    refine gX6_96 C dX6_drops_59 62 rfl ?_
    refine je_iload_n C dX6_drops_62 63 rfl 1 rfl ?_
    refine je_iload_n C dX6_drops_63 64 rfl 2 rfl ?_
    refine je_iload C dX6_drops_64 66 rfl 3 rfl ?_
    obtain ⟨t66, hg, h⟩ := p_cl_inv h
    refine je_callSi (As := [.int v1, .int v2, .int v4]) (rest := [.ref (G.2.1 + 94)]) C (metX6_slot hg) hdX6_slot cwX6_375 rfl ⟨Nat.le_of_ble_eq_true rfl, Nat.le_of_ble_eq_true rfl⟩ (Nat.le_of_ble_eq_true rfl) dX6_drops_66 69 rfl ⟨Nat.le_refl _, Nat.le_refl _⟩ ?_
    refine je_aload_n C dX6_drops_69 70 rfl 0 rfl ?_
    refine gX6_96 C dX6_drops_70 73 rfl ?_
    refine je_iload_n C dX6_drops_73 74 rfl 1 rfl ?_
    refine je_iload_n C dX6_drops_74 75 rfl 2 rfl ?_
    refine je_iload C dX6_drops_75 77 rfl 3 rfl ?_
    refine je_iconst C (1) dX6_drops_77 78 rfl ic_1 ?_
    refine je_iadd C dX6_drops_78 79 rfl ?_
    obtain ⟨t79, hg, h⟩ := p_cl_inv h
    refine je_callSi (As := [.int v1, .int v2, .int (v4 + (1 : Int32))]) (rest := [.ref (G.2.1 + 94), .int t66, .ref (G.2.1 + 94)]) C (metX6_slot hg) hdX6_slot cwX6_375 rfl ⟨Nat.le_of_ble_eq_true rfl, Nat.le_of_ble_eq_true rfl⟩ (Nat.le_of_ble_eq_true rfl) dX6_drops_79 82 rfl ⟨Nat.le_refl _, Nat.le_refl _⟩ ?_
    refine jk_iald C kd94 dX6_drops_82 83 rfl h (fun h => ?_)
    refine jk_iast C kd94 dX6_drops_83 84 rfl h (fun h => ?_)
    refine jk_lt h (fun k83 h => ?_)
    refine je_aload_n C dX6_drops_84 85 rfl 0 rfl ?_
    refine gX6_99 C dX6_drops_85 88 rfl ?_
    refine je_iload_n C dX6_drops_88 89 rfl 1 rfl ?_
    refine je_iload_n C dX6_drops_89 90 rfl 2 rfl ?_
    refine je_iload C dX6_drops_90 92 rfl 3 rfl ?_
    obtain ⟨t92, hg, h⟩ := p_cl_inv h
    refine je_callSi (As := [.int v1, .int v2, .int v4]) (rest := [.ref (G.2.1 + 95)]) C (metX6_slot hg) hdX6_slot cwX6_375 rfl ⟨Nat.le_of_ble_eq_true rfl, Nat.le_of_ble_eq_true rfl⟩ (Nat.le_of_ble_eq_true rfl) dX6_drops_92 95 rfl ⟨Nat.le_refl _, Nat.le_refl _⟩ ?_
    refine je_aload_n C dX6_drops_95 96 rfl 0 rfl ?_
    refine gX6_99 C dX6_drops_96 99 rfl ?_
    refine je_iload_n C dX6_drops_99 100 rfl 1 rfl ?_
    refine je_iload_n C dX6_drops_100 101 rfl 2 rfl ?_
    refine je_iload C dX6_drops_101 103 rfl 3 rfl ?_
    refine je_iconst C (1) dX6_drops_103 104 rfl ic_1 ?_
    refine je_iadd C dX6_drops_104 105 rfl ?_
    obtain ⟨t105, hg, h⟩ := p_cl_inv h
    refine je_callSi (As := [.int v1, .int v2, .int (v4 + (1 : Int32))]) (rest := [.ref (G.2.1 + 95), .int t92, .ref (G.2.1 + 95)]) C (metX6_slot hg) hdX6_slot cwX6_375 rfl ⟨Nat.le_of_ble_eq_true rfl, Nat.le_of_ble_eq_true rfl⟩ (Nat.le_of_ble_eq_true rfl) dX6_drops_105 108 rfl ⟨Nat.le_refl _, Nat.le_refl _⟩ ?_
    refine jk_iald C kd95 dX6_drops_108 109 rfl h (fun h => ?_)
    refine jk_iast C kd95 dX6_drops_109 110 rfl h (fun h => ?_)
    refine jk_lt h (fun k109 h => ?_)
    refine je_iinc C (1) dX6_drops_110 113 rfl 3 rfl ic_1 (Nat.le_of_ble_eq_true rfl) [(4, .int (v4 + (1 : Int32))), (0, .ref (G.2.1 + 66)), (1, .int v1), (2, .int v2)] rfl ?_
    refine je_goto C 17 dX6_drops_113 rfl ?_
    refine je_sub [1, 2, 3, 0] [(0, .ref (G.2.1 + 66)), (1, .int v1), (2, .int v2), (4, .int (v4 + (1 : Int32)))] rfl ?_
    exact ih k109 v1 v2 (v4 + (1 : Int32)) h
set_option maxHeartbeats 4000000 in
theorem metX6_drops {l : Launch} {G : je_G} {dyn : Nat → Option je_E} {sz : Nat} {F : Nat} {κ : kp_K} {v1 : Int32} {v2 : Int32} {v3 : Int32} {r9 : kp_K} (h : pX6_drops F κ v1 v2 v3 = some r9) : MetS l G yX6_drops cX6_drops 5 none 1 22 0 0 [.ref (G.2.1 + 66), .int v1, .int v2, .int v3] (en2 G κ dyn) sz none (en2 G r9 dyn) sz := by
  refine je_met "MinistryDesksModel" rfl (by decide +kernel) (Nat.le_of_ble_eq_true rfl) [(0, .ref (G.2.1 + 66)), (1, .int v1), (2, .int v2), (3, .int v3)] rfl (fun p e s m args below meth c C => ?_)
  unfold pX6_drops at h
  refine je_aload_n C dX6_drops_0 1 rfl 0 rfl ?_
  refine gX6_90 C dX6_drops_1 4 rfl ?_
  refine je_iconst C (4) dX6_drops_4 5 rfl ic_4 ?_
  refine je_iload_n C dX6_drops_5 6 rfl 1 rfl ?_
  refine je_imul C dX6_drops_6 7 rfl ?_
  refine je_iload_n C dX6_drops_7 8 rfl 2 rfl ?_
  refine je_iadd C dX6_drops_8 9 rfl ?_
  refine je_lti h (fun t9 h => ?_)
  refine je_dup2 C dX6_drops_9 10 rfl rfl rfl ?_
  refine jk_iald C kd92 dX6_drops_10 11 rfl h (fun h => ?_)
  refine je_iconst C (1) dX6_drops_11 12 rfl ic_1 ?_
  refine je_isub C dX6_drops_12 13 rfl ?_
  refine jk_iast C kd92 dX6_drops_13 14 rfl h (fun h => ?_)
  refine jk_lt h (fun k13 h => ?_)
  refine je_iload_n C dX6_drops_14 15 rfl 3 rfl ?_
  refine je_istore C dX6_drops_15 17 rfl (Nat.le_of_ble_eq_true rfl) [(4, .int v3), (0, .ref (G.2.1 + 66)), (1, .int v1), (2, .int v2), (3, .int v3)] rfl ?_
  refine je_sub [1, 2, 3, 0] [(0, .ref (G.2.1 + 66)), (1, .int v1), (2, .int v2), (4, .int v3)] rfl ?_
  exact wX6_drops_17 C F k13 v1 v2 v3 h
theorem gX6_346 {p : Program} {l : Launch} {e : Env} {R : Room} {s : State} {m : MethodId} {args : Array Value} {below : List Frame} {meth : Method} {c : Code} {Q : State → Prop} {G : je_G} {cc : ByteArray} {nL : Nat} {rt : Option FieldType} {sz cells slots pc : Nat} {L : List (Nat × Value)} {st : List Value} {κ : kp_K} {dyn : Nat → Option je_E} (C : Cx p s m args meth c G "MinistryDesksModel" cc nL rt) (d : decode cc pc = .ok (.getfield 346, 3)) (n : Nat) (hn : pc + 3 = n) (kk : Js p l e R s m args below meth c G nL Q (en2 G κ dyn) sz cells slots n L (.int (κ.1 66 37) :: st)) : Js p l e R s m args below meth c G nL Q (en2 G κ dyn) sz cells slots pc L (.ref (G.2.1 + 66) :: st) := jk_getI (k := 37) C kd66 rfl in_X6 rfl (by decide) q1717 rfl d n hn kk
theorem gX6_349 {p : Program} {l : Launch} {e : Env} {R : Room} {s : State} {m : MethodId} {args : Array Value} {below : List Frame} {meth : Method} {c : Code} {Q : State → Prop} {G : je_G} {cc : ByteArray} {nL : Nat} {rt : Option FieldType} {sz cells slots pc : Nat} {L : List (Nat × Value)} {st : List Value} {κ : kp_K} {dyn : Nat → Option je_E} (C : Cx p s m args meth c G "MinistryDesksModel" cc nL rt) (d : decode cc pc = .ok (.getfield 349, 3)) (n : Nat) (hn : pc + 3 = n) (kk : Js p l e R s m args below meth c G nL Q (en2 G κ dyn) sz cells slots n L (.int (κ.1 66 38) :: st)) : Js p l e R s m args below meth c G nL Q (en2 G κ dyn) sz cells slots pc L (.ref (G.2.1 + 66) :: st) := jk_getI (k := 38) C kd66 rfl in_X6 rfl (by decide) q1718 rfl d n hn kk
set_option maxHeartbeats 4000000 in
theorem metX6_isComing {l : Launch} {G : je_G} {dyn : Nat → Option je_E} {sz : Nat} {κ : kp_K} {v1 : Int32} {r9 : Int32} (h : pX6_isComing κ v1 = some r9) : MetS l G yX6_isComing cX6_isComing 2 (some .boolean) 0 0 0 0 [.ref (G.2.1 + 66), .int v1] (en2 G κ dyn) sz (some (.int r9)) (en2 G κ dyn) sz := by
  refine je_met "MinistryDesksModel" rfl (by decide +kernel) (Nat.le_of_ble_eq_true rfl) [(0, .ref (G.2.1 + 66)), (1, .int v1)] rfl (fun p e s m args below meth c C => ?_)
  unfold pX6_isComing at h
  refine je_aload_n C dX6_isComing_0 1 rfl 0 rfl ?_
  refine gX6_346 C dX6_isComing_1 4 rfl ?_
  refine je_iconst C (5) dX6_isComing_4 5 rfl ic_5 ?_
  refine je_icmp_ne C 16 dX6_isComing_5 8 rfl rfl h (fun h => ?_) (fun h => ?_)
  · refine je_iconst C (1) dX6_isComing_16 17 rfl ic_1 ?_
    refine je_goto C 21 dX6_isComing_17 rfl ?_
    cases h
    exact je_zret C dX6_isComing_21 (Or.inr rfl)
  refine je_aload_n C dX6_isComing_8 9 rfl 0 rfl ?_
  refine gX6_349 C dX6_isComing_9 12 rfl ?_
  refine je_iload_n C dX6_isComing_12 13 rfl 1 rfl ?_
  refine je_icmp_eq C 20 dX6_isComing_13 16 rfl rfl h (fun h => ?_) (fun h => ?_)
  · refine je_iconst C (0) dX6_isComing_20 21 rfl ic_0 ?_
    cases h
    exact je_zret C dX6_isComing_21 (Or.inl rfl)
  refine je_iconst C (1) dX6_isComing_16 17 rfl ic_1 ?_
  refine je_goto C 21 dX6_isComing_17 rfl ?_
  cases h
  exact je_zret C dX6_isComing_21 (Or.inr rfl)
set_option maxHeartbeats 4000000 in
theorem wX6_lineOf_3 {p : Program} {l : Launch} {e : Env} {s : State} {m : MethodId} {args : Array Value} {below : List Frame} {meth : Method} {c : Code} {G : je_G} {dyn : Nat → Option je_E} {sz : Nat} {F : Nat} {κ : kp_K} {r9 : Int32} (C : Cx p s m args meth c G "MinistryDesksModel" cX6_lineOf 5 (some .int)) : ∀ (n : Nat) (v1 : Int32) (v2 : Int32) (v3 : Int32) (v4 : Int32), bX6_lineOf_3 F n κ v1 v2 v3 v4 = some r9 → Js p l e ({ frames := 1, cells := 0, slots := 0, locals := 22 } : Room) s m args below meth c G 5 (MQ below (je_Q G (some (.int r9)) (en2 G κ dyn) sz) args s 0 0 (je_A G)) (en2 G κ dyn) sz 0 0 3 [(0, .ref (G.2.1 + 66)), (1, .int v1), (2, .int v2), (3, .int v3), (4, .int v4)] [] := by
  intro n
  induction n with
  | zero =>
    intro v1 v2 v3 v4 h
    cases h
  | succ n ih =>
    intro v1 v2 v3 v4 h
    rw [bX6_lineOf_3] at h
    refine je_iload C dX6_lineOf_3 5 rfl 4 rfl ?_
    refine je_aload_n C dX6_lineOf_5 6 rfl 0 rfl ?_
    refine gX6_90 C dX6_lineOf_6 9 rfl ?_
    refine je_iconst C (4) dX6_lineOf_9 10 rfl ic_4 ?_
    refine je_iload_n C dX6_lineOf_10 11 rfl 1 rfl ?_
    refine je_imul C dX6_lineOf_11 12 rfl ?_
    refine je_iload_n C dX6_lineOf_12 13 rfl 2 rfl ?_
    refine je_iadd C dX6_lineOf_13 14 rfl ?_
    refine je_lti h (fun i14 h => ?_)
    refine jk_iald C kd92 dX6_lineOf_14 15 rfl h (fun h => ?_)
    refine je_icmp_ge C 43 dX6_lineOf_15 18 rfl rfl h (fun h => ?_) (fun h => ?_)
    · refine je_iconst C (-1) dX6_lineOf_43 44 rfl ic_m1 ?_
      cases h
      exact je_iret C dX6_lineOf_44
    refine je_aload_n C dX6_lineOf_18 19 rfl 0 rfl ?_
    refine gX6_93 C dX6_lineOf_19 22 rfl ?_
    refine je_iload_n C dX6_lineOf_22 23 rfl 1 rfl ?_
    refine je_iload_n C dX6_lineOf_23 24 rfl 2 rfl ?_
    refine je_iload C dX6_lineOf_24 26 rfl 4 rfl ?_
    obtain ⟨t26, hg, h⟩ := p_cl_inv h
    refine je_callSi (As := [.int v1, .int v2, .int v4]) (rest := [.ref (G.2.1 + 93)]) C (metX6_slot hg) hdX6_slot cwX6_375 rfl ⟨Nat.le_of_ble_eq_true rfl, Nat.le_of_ble_eq_true rfl⟩ (Nat.le_of_ble_eq_true rfl) dX6_lineOf_26 29 rfl ⟨Nat.le_refl _, Nat.le_refl _⟩ ?_
    refine jk_iald C kd93 dX6_lineOf_29 30 rfl h (fun h => ?_)
    refine je_iload_n C dX6_lineOf_30 31 rfl 3 rfl ?_
    refine je_icmp_ne C 37 dX6_lineOf_31 34 rfl rfl h (fun h => ?_) (fun h => ?_)
    · refine je_iinc C (1) dX6_lineOf_37 40 rfl 4 rfl ic_1 (Nat.le_of_ble_eq_true rfl) [(4, .int (v4 + (1 : Int32))), (0, .ref (G.2.1 + 66)), (1, .int v1), (2, .int v2), (3, .int v3)] rfl ?_
      refine je_goto C 3 dX6_lineOf_40 rfl ?_
      refine je_sub [1, 2, 3, 4, 0] [(0, .ref (G.2.1 + 66)), (1, .int v1), (2, .int v2), (3, .int v3), (4, .int (v4 + (1 : Int32)))] rfl ?_
      exact ih v1 v2 v3 (v4 + (1 : Int32)) h
    refine je_iload C dX6_lineOf_34 36 rfl 4 rfl ?_
    cases h
    exact je_iret C dX6_lineOf_36
set_option maxHeartbeats 4000000 in
theorem metX6_lineOf {l : Launch} {G : je_G} {dyn : Nat → Option je_E} {sz : Nat} {F : Nat} {κ : kp_K} {v1 : Int32} {v2 : Int32} {v3 : Int32} {r9 : Int32} (h : pX6_lineOf F κ v1 v2 v3 = some r9) : MetS l G yX6_lineOf cX6_lineOf 5 (some .int) 1 22 0 0 [.ref (G.2.1 + 66), .int v1, .int v2, .int v3] (en2 G κ dyn) sz (some (.int r9)) (en2 G κ dyn) sz := by
  refine je_met "MinistryDesksModel" rfl (by decide +kernel) (Nat.le_of_ble_eq_true rfl) [(0, .ref (G.2.1 + 66)), (1, .int v1), (2, .int v2), (3, .int v3)] rfl (fun p e s m args below meth c C => ?_)
  unfold pX6_lineOf at h
  refine je_iconst C (0) dX6_lineOf_0 1 rfl ic_0 ?_
  refine je_istore C dX6_lineOf_1 3 rfl (Nat.le_of_ble_eq_true rfl) [(4, .int (0 : Int32)), (0, .ref (G.2.1 + 66)), (1, .int v1), (2, .int v2), (3, .int v3)] rfl ?_
  refine je_sub [1, 2, 3, 4, 0] [(0, .ref (G.2.1 + 66)), (1, .int v1), (2, .int v2), (3, .int v3), (4, .int (0 : Int32))] rfl ?_
  exact wX6_lineOf_3 C F v1 v2 v3 (0 : Int32) h
set_option maxHeartbeats 4000000 in
theorem metX6_sets {l : Launch} {G : je_G} {dyn : Nat → Option je_E} {sz : Nat} {κ : kp_K} {v1 : Int32} {v2 : Int32} {v3 : Int32} {v4 : Int32} {v5 : Int32} {r9 : kp_K} (h : pX6_sets κ v1 v2 v3 v4 v5 = some r9) : MetS l G yX6_sets cX6_sets 6 none 1 22 0 0 [.ref (G.2.1 + 66), .int v1, .int v2, .int v3, .int v4, .int v5] (en2 G κ dyn) sz none (en2 G r9 dyn) sz := by
  refine je_met "MinistryDesksModel" rfl (by decide +kernel) (Nat.le_of_ble_eq_true rfl) [(0, .ref (G.2.1 + 66)), (1, .int v1), (2, .int v2), (3, .int v3), (4, .int v4), (5, .int v5)] rfl (fun p e s m args below meth c C => ?_)
  unfold pX6_sets at h
  refine je_aload_n C dX6_sets_0 1 rfl 0 rfl ?_
  refine gX6_93 C dX6_sets_1 4 rfl ?_
  refine je_iload_n C dX6_sets_4 5 rfl 1 rfl ?_
  refine je_iload_n C dX6_sets_5 6 rfl 2 rfl ?_
  refine je_iload_n C dX6_sets_6 7 rfl 3 rfl ?_
  obtain ⟨t7, hg, h⟩ := p_cl_inv h
  refine je_callSi (As := [.int v1, .int v2, .int v3]) (rest := [.ref (G.2.1 + 93)]) C (metX6_slot hg) hdX6_slot cwX6_375 rfl ⟨Nat.le_of_ble_eq_true rfl, Nat.le_of_ble_eq_true rfl⟩ (Nat.le_of_ble_eq_true rfl) dX6_sets_7 10 rfl ⟨Nat.le_refl _, Nat.le_refl _⟩ ?_
  refine je_iload C dX6_sets_10 12 rfl 4 rfl ?_
  refine jk_iast C kd93 dX6_sets_12 13 rfl h (fun h => ?_)
  refine jk_lt h (fun k12 h => ?_)
  refine je_aload_n C dX6_sets_13 14 rfl 0 rfl ?_
  refine gX6_96 C dX6_sets_14 17 rfl ?_
  refine je_iload_n C dX6_sets_17 18 rfl 1 rfl ?_
  refine je_iload_n C dX6_sets_18 19 rfl 2 rfl ?_
  refine je_iload_n C dX6_sets_19 20 rfl 3 rfl ?_
  obtain ⟨t20, hg, h⟩ := p_cl_inv h
  refine je_callSi (As := [.int v1, .int v2, .int v3]) (rest := [.ref (G.2.1 + 94)]) C (metX6_slot hg) hdX6_slot cwX6_375 rfl ⟨Nat.le_of_ble_eq_true rfl, Nat.le_of_ble_eq_true rfl⟩ (Nat.le_of_ble_eq_true rfl) dX6_sets_20 23 rfl ⟨Nat.le_refl _, Nat.le_refl _⟩ ?_
  refine je_iload C dX6_sets_23 25 rfl 5 rfl ?_
  refine jk_iast C kd94 dX6_sets_25 26 rfl h (fun h => ?_)
  refine jk_lt h (fun k25 h => ?_)
  refine je_aload_n C dX6_sets_26 27 rfl 0 rfl ?_
  refine gX6_99 C dX6_sets_27 30 rfl ?_
  refine je_iload_n C dX6_sets_30 31 rfl 1 rfl ?_
  refine je_iload_n C dX6_sets_31 32 rfl 2 rfl ?_
  refine je_iload_n C dX6_sets_32 33 rfl 3 rfl ?_
  obtain ⟨t33, hg, h⟩ := p_cl_inv h
  refine je_callSi (As := [.int v1, .int v2, .int v3]) (rest := [.ref (G.2.1 + 95)]) C (metX6_slot hg) hdX6_slot cwX6_375 rfl ⟨Nat.le_of_ble_eq_true rfl, Nat.le_of_ble_eq_true rfl⟩ (Nat.le_of_ble_eq_true rfl) dX6_sets_33 36 rfl ⟨Nat.le_refl _, Nat.le_refl _⟩ ?_
  refine je_aload_n C dX6_sets_36 37 rfl 0 rfl ?_
  refine gX6_87 C dX6_sets_37 40 rfl ?_
  refine je_iload_n C dX6_sets_40 41 rfl 1 rfl ?_
  refine jk_iald C kd91 dX6_sets_41 42 rfl h (fun h => ?_)
  refine jk_iast C kd95 dX6_sets_42 43 rfl h (fun h => ?_)
  refine jk_lt h (fun k42 h => ?_)
  cases h
  exact je_vret C dX6_sets_43
set_option maxHeartbeats 4000000 in
theorem metX6_roomOf {l : Launch} {G : je_G} {dyn : Nat → Option je_E} {sz : Nat} {κ : kp_K} {v1 : Int32} {r9 : Int32} (h : pX6_roomOf κ v1 = some r9) : MetS l G yX6_roomOf cX6_roomOf 2 (some .int) 0 0 0 0 [.ref (G.2.1 + 66), .int v1] (en2 G κ dyn) sz (some (.int r9)) (en2 G κ dyn) sz := by
  refine je_met "MinistryDesksModel" rfl (by decide +kernel) (Nat.le_of_ble_eq_true rfl) [(0, .ref (G.2.1 + 66)), (1, .int v1)] rfl (fun p e s m args below meth c C => ?_)
  unfold pX6_roomOf at h
  refine je_aload_n C dX6_roomOf_0 1 rfl 0 rfl ?_
  refine gX6_346 C dX6_roomOf_1 4 rfl ?_
  refine je_iconst C (2) dX6_roomOf_4 5 rfl ic_2 ?_
  refine je_icmp_ne C 19 dX6_roomOf_5 8 rfl rfl h (fun h => ?_) (fun h => ?_)
  · refine je_aload_n C dX6_roomOf_19 20 rfl 0 rfl ?_
    refine gX6_19 C dX6_roomOf_20 23 rfl ?_
    refine je_iload_n C dX6_roomOf_23 24 rfl 1 rfl ?_
    refine jk_iald C kd70 dX6_roomOf_24 25 rfl h (fun h => ?_)
    cases h
    exact je_iret C dX6_roomOf_25
  refine je_aload_n C dX6_roomOf_8 9 rfl 0 rfl ?_
  refine gX6_19 C dX6_roomOf_9 12 rfl ?_
  refine je_iload_n C dX6_roomOf_12 13 rfl 1 rfl ?_
  refine jk_iald C kd70 dX6_roomOf_13 14 rfl h (fun h => ?_)
  refine je_iconst C (1) dX6_roomOf_14 15 rfl ic_1 ?_
  refine je_iadd C dX6_roomOf_15 16 rfl ?_
  refine je_goto C 25 dX6_roomOf_16 rfl ?_
  cases h
  exact je_iret C dX6_roomOf_25
set_option maxHeartbeats 4000000 in
theorem metX6_isTold {l : Launch} {G : je_G} {dyn : Nat → Option je_E} {sz : Nat} {κ : kp_K} {v1 : Int32} {r9 : Int32} (h : pX6_isTold κ v1 = some r9) : MetS l G yX6_isTold cX6_isTold 2 (some .boolean) 0 0 0 0 [.ref (G.2.1 + 66), .int v1] (en2 G κ dyn) sz (some (.int r9)) (en2 G κ dyn) sz := by
  refine je_met "MinistryDesksModel" rfl (by decide +kernel) (Nat.le_of_ble_eq_true rfl) [(0, .ref (G.2.1 + 66)), (1, .int v1)] rfl (fun p e s m args below meth c C => ?_)
  unfold pX6_isTold at h
  refine je_aload_n C dX6_isTold_0 1 rfl 0 rfl ?_
  refine gX6_67 C dX6_isTold_1 4 rfl ?_
  refine je_iload_n C dX6_isTold_4 5 rfl 1 rfl ?_
  refine jk_iald C kd86 dX6_isTold_5 6 rfl h (fun h => ?_)
  refine je_aload_n C dX6_isTold_6 7 rfl 0 rfl ?_
  refine gX6_64 C dX6_isTold_7 10 rfl ?_
  refine je_iload_n C dX6_isTold_10 11 rfl 1 rfl ?_
  refine jk_iald C kd85 dX6_isTold_11 12 rfl h (fun h => ?_)
  refine je_icmp_le C 19 dX6_isTold_12 15 rfl rfl h (fun h => ?_) (fun h => ?_)
  · refine je_iconst C (0) dX6_isTold_19 20 rfl ic_0 ?_
    cases h
    exact je_zret C dX6_isTold_20 (Or.inl rfl)
  refine je_iconst C (1) dX6_isTold_15 16 rfl ic_1 ?_
  refine je_goto C 20 dX6_isTold_16 rfl ?_
  cases h
  exact je_zret C dX6_isTold_20 (Or.inr rfl)
theorem gX6_130 {p : Program} {l : Launch} {e : Env} {R : Room} {s : State} {m : MethodId} {args : Array Value} {below : List Frame} {meth : Method} {c : Code} {Q : State → Prop} {G : je_G} {cc : ByteArray} {nL : Nat} {rt : Option FieldType} {sz cells slots pc : Nat} {L : List (Nat × Value)} {st : List Value} {κ : kp_K} {dyn : Nat → Option je_E} (C : Cx p s m args meth c G "MinistryDesksModel" cc nL rt) (d : decode cc pc = .ok (.getfield 130, 3)) (n : Nat) (hn : pc + 3 = n) (kk : Js p l e R s m args below meth c G nL Q (en2 G κ dyn) sz cells slots n L (.ref (G.2.1 + 105) :: st)) : Js p l e R s m args below meth c G nL Q (en2 G κ dyn) sz cells slots pc L (.ref (G.2.1 + 66) :: st) := jk_getR (k := 58) (z := 0) C kd66 rfl in_X6 105 rfl (by decide) q1738 rfl d n hn kk
theorem gX6_379 {p : Program} {l : Launch} {e : Env} {R : Room} {s : State} {m : MethodId} {args : Array Value} {below : List Frame} {meth : Method} {c : Code} {Q : State → Prop} {G : je_G} {cc : ByteArray} {nL : Nat} {rt : Option FieldType} {sz cells slots pc : Nat} {L : List (Nat × Value)} {st : List Value} {κ : kp_K} {dyn : Nat → Option je_E} (C : Cx p s m args meth c G "MinistryDesksModel" cc nL rt) (d : decode cc pc = .ok (.getfield 379, 3)) (n : Nat) (hn : pc + 3 = n) (kk : Js p l e R s m args below meth c G nL Q (en2 G κ dyn) sz cells slots n L (.int (κ.1 66 59) :: st)) : Js p l e R s m args below meth c G nL Q (en2 G κ dyn) sz cells slots pc L (.ref (G.2.1 + 66) :: st) := jk_getI (k := 59) C kd66 rfl in_X6 rfl (by decide) q1739 rfl d n hn kk
set_option maxHeartbeats 4000000 in
theorem wX6_othersOf_52 {p : Program} {l : Launch} {e : Env} {s : State} {m : MethodId} {args : Array Value} {below : List Frame} {meth : Method} {c : Code} {G : je_G} {dyn : Nat → Option je_E} {sz : Nat} {F : Nat} {κ : kp_K} {r9 : Int32} {k6 : kp_K → Int32 → Int32 → Int32 → Int32 → Int32 → Option (Int32)} (C : Cx p s m args meth c G "MinistryDesksModel" cX6_othersOf 6 (some .int)) (hk6 : ∀ (q1 : Int32) (q2 : Int32) (q3 : Int32) (q4 : Int32) (q5 : Int32), k6 κ q1 q2 q3 q4 q5 = some r9 → Js p l e ({ frames := 2, cells := 0, slots := 0, locals := 46 } : Room) s m args below meth c G 6 (MQ below (je_Q G (some (.int r9)) (en2 G κ dyn) sz) args s 0 0 (je_A G)) (en2 G κ dyn) sz 0 0 6 [(0, .ref (G.2.1 + 66)), (1, .int q1), (2, .int q2), (3, .int q3), (4, .int q4), (5, .int q5)] []) (v1 : Int32) (v2 : Int32) (v3 : Int32) (v5 : Int32) (s0 : Int32) (s1 : Int32) (h : bX6_othersOf_52 F k6 κ v1 v2 v3 v5 s0 s1 = some r9) : Js p l e ({ frames := 2, cells := 0, slots := 0, locals := 46 } : Room) s m args below meth c G 6 (MQ below (je_Q G (some (.int r9)) (en2 G κ dyn) sz) args s 0 0 (je_A G)) (en2 G κ dyn) sz 0 0 52 [(0, .ref (G.2.1 + 66)), (1, .int v1), (2, .int v2), (3, .int v3), (5, .int v5)] [.int s0, .int s1] := by
  unfold bX6_othersOf_52 at h
  refine je_iload_n C dX6_othersOf_52 53 rfl 3 rfl ?_
  refine je_ishr C dX6_othersOf_53 54 rfl ?_
  refine je_iconst C (1) dX6_othersOf_54 55 rfl ic_1 ?_
  refine je_iand C dX6_othersOf_55 56 rfl ?_
  refine je_iadd C dX6_othersOf_56 57 rfl ?_
  refine je_lti h (fun t57 h => ?_)
  refine je_istore C dX6_othersOf_57 59 rfl (Nat.le_of_ble_eq_true rfl) [(4, .int t57), (0, .ref (G.2.1 + 66)), (1, .int v1), (2, .int v2), (3, .int v3), (5, .int v5)] rfl ?_
  refine je_iinc C (1) dX6_othersOf_59 62 rfl 5 rfl ic_1 (Nat.le_of_ble_eq_true rfl) [(5, .int (v5 + (1 : Int32))), (4, .int t57), (0, .ref (G.2.1 + 66)), (1, .int v1), (2, .int v2), (3, .int v3)] rfl ?_
  refine je_goto C 6 dX6_othersOf_62 rfl ?_
  refine je_sub [2, 3, 4, 5, 1, 0] [(0, .ref (G.2.1 + 66)), (1, .int v1), (2, .int v2), (3, .int v3), (4, .int t57), (5, .int (v5 + (1 : Int32)))] rfl ?_
  exact hk6 v1 v2 v3 t57 (v5 + (1 : Int32)) h
set_option maxHeartbeats 4000000 in
theorem wX6_othersOf_6 {p : Program} {l : Launch} {e : Env} {s : State} {m : MethodId} {args : Array Value} {below : List Frame} {meth : Method} {c : Code} {G : je_G} {dyn : Nat → Option je_E} {sz : Nat} {F : Nat} {κ : kp_K} {r9 : Int32} (C : Cx p s m args meth c G "MinistryDesksModel" cX6_othersOf 6 (some .int)) : ∀ (n : Nat) (v1 : Int32) (v2 : Int32) (v3 : Int32) (v4 : Int32) (v5 : Int32), bX6_othersOf_6 F n κ v1 v2 v3 v4 v5 = some r9 → Js p l e ({ frames := 2, cells := 0, slots := 0, locals := 46 } : Room) s m args below meth c G 6 (MQ below (je_Q G (some (.int r9)) (en2 G κ dyn) sz) args s 0 0 (je_A G)) (en2 G κ dyn) sz 0 0 6 [(0, .ref (G.2.1 + 66)), (1, .int v1), (2, .int v2), (3, .int v3), (4, .int v4), (5, .int v5)] [] := by
  intro n
  induction n with
  | zero =>
    intro v1 v2 v3 v4 v5 h
    cases h
  | succ n ih =>
    intro v1 v2 v3 v4 v5 h
    rw [bX6_othersOf_6] at h
    refine je_iload C dX6_othersOf_6 8 rfl 5 rfl ?_
    refine je_aload_n C dX6_othersOf_8 9 rfl 0 rfl ?_
    refine gX6_13 C dX6_othersOf_9 12 rfl ?_
    refine je_iconst C (0) dX6_othersOf_12 13 rfl ic_0 ?_
    refine jk_iald C kd68 dX6_othersOf_13 14 rfl h (fun h => ?_)
    refine je_icmp_ge C 65 dX6_othersOf_14 17 rfl rfl h (fun h => ?_) (fun h => ?_)
    · refine je_iload C dX6_othersOf_65 67 rfl 4 rfl ?_
      cases h
      exact je_iret C dX6_othersOf_67
    refine je_iload C dX6_othersOf_17 19 rfl 5 rfl ?_
    refine je_iload_n C dX6_othersOf_19 20 rfl 2 rfl ?_
    refine je_icmp_ne C 26 dX6_othersOf_20 23 rfl rfl h (fun h => ?_) (fun h => ?_)
    · refine je_iload C dX6_othersOf_26 28 rfl 4 rfl ?_
      refine je_aload_n C dX6_othersOf_28 29 rfl 0 rfl ?_
      refine gX6_379 C dX6_othersOf_29 32 rfl ?_
      refine je_if_eq C 45 dX6_othersOf_32 35 rfl rfl h (fun h => ?_) (fun h => ?_)
      · refine je_aload_n C dX6_othersOf_45 46 rfl 0 rfl ?_
        refine je_iload_n C dX6_othersOf_46 47 rfl 1 rfl ?_
        refine je_iload C dX6_othersOf_47 49 rfl 5 rfl ?_
        obtain ⟨t49, hg, h⟩ := p_cl_inv h
        refine je_callVi (As := [.int v1, .int v5]) (rest := [.int v4]) C (metX6_setOf hg) (en2_at kd66) rfl hdX6_setOf rfl cwX6_382 rfl ⟨Nat.le_of_ble_eq_true rfl, Nat.le_of_ble_eq_true rfl⟩ (Nat.le_of_ble_eq_true rfl) dX6_othersOf_49 52 rfl ⟨Nat.le_refl _, Nat.le_refl _⟩ ?_
        refine je_sub [0, 1, 2, 3, 5] [(0, .ref (G.2.1 + 66)), (1, .int v1), (2, .int v2), (3, .int v3), (5, .int v5)] rfl ?_
        exact wX6_othersOf_52 C ih v1 v2 v3 v5 t49 v4 h
      refine je_aload_n C dX6_othersOf_35 36 rfl 0 rfl ?_
      refine gX6_130 C dX6_othersOf_36 39 rfl ?_
      refine je_iload C dX6_othersOf_39 41 rfl 5 rfl ?_
      refine jk_iald C kd105 dX6_othersOf_41 42 rfl h (fun h => ?_)
      refine je_goto C 52 dX6_othersOf_42 rfl ?_
      refine je_sub [0, 1, 2, 3, 5] [(0, .ref (G.2.1 + 66)), (1, .int v1), (2, .int v2), (3, .int v3), (5, .int v5)] rfl ?_
      exact wX6_othersOf_52 C ih v1 v2 v3 v5 (κ.1 105 v5.toNatClampNeg) v4 h
    refine je_goto C 59 dX6_othersOf_23 rfl ?_
    refine je_iinc C (1) dX6_othersOf_59 62 rfl 5 rfl ic_1 (Nat.le_of_ble_eq_true rfl) [(5, .int (v5 + (1 : Int32))), (0, .ref (G.2.1 + 66)), (1, .int v1), (2, .int v2), (3, .int v3), (4, .int v4)] rfl ?_
    refine je_goto C 6 dX6_othersOf_62 rfl ?_
    refine je_sub [1, 2, 3, 4, 5, 0] [(0, .ref (G.2.1 + 66)), (1, .int v1), (2, .int v2), (3, .int v3), (4, .int v4), (5, .int (v5 + (1 : Int32)))] rfl ?_
    exact ih v1 v2 v3 v4 (v5 + (1 : Int32)) h
set_option maxHeartbeats 4000000 in
theorem metX6_othersOf {l : Launch} {G : je_G} {dyn : Nat → Option je_E} {sz : Nat} {F : Nat} {κ : kp_K} {v1 : Int32} {v2 : Int32} {v3 : Int32} {r9 : Int32} (h : pX6_othersOf F κ v1 v2 v3 = some r9) : MetS l G yX6_othersOf cX6_othersOf 6 (some .int) 2 46 0 0 [.ref (G.2.1 + 66), .int v1, .int v2, .int v3] (en2 G κ dyn) sz (some (.int r9)) (en2 G κ dyn) sz := by
  refine je_met "MinistryDesksModel" rfl (by decide +kernel) (Nat.le_of_ble_eq_true rfl) [(0, .ref (G.2.1 + 66)), (1, .int v1), (2, .int v2), (3, .int v3)] rfl (fun p e s m args below meth c C => ?_)
  unfold pX6_othersOf at h
  refine je_iconst C (0) dX6_othersOf_0 1 rfl ic_0 ?_
  refine je_istore C dX6_othersOf_1 3 rfl (Nat.le_of_ble_eq_true rfl) [(4, .int (0 : Int32)), (0, .ref (G.2.1 + 66)), (1, .int v1), (2, .int v2), (3, .int v3)] rfl ?_
  refine je_iconst C (0) dX6_othersOf_3 4 rfl ic_0 ?_
  refine je_istore C dX6_othersOf_4 6 rfl (Nat.le_of_ble_eq_true rfl) [(5, .int (0 : Int32)), (4, .int (0 : Int32)), (0, .ref (G.2.1 + 66)), (1, .int v1), (2, .int v2), (3, .int v3)] rfl ?_
  refine je_sub [2, 3, 4, 5, 1, 0] [(0, .ref (G.2.1 + 66)), (1, .int v1), (2, .int v2), (3, .int v3), (4, .int (0 : Int32)), (5, .int (0 : Int32))] rfl ?_
  exact wX6_othersOf_6 C F v1 v2 v3 (0 : Int32) (0 : Int32) h
set_option maxHeartbeats 4000000 in
theorem wX6_askedOf_61 {p : Program} {l : Launch} {e : Env} {s : State} {m : MethodId} {args : Array Value} {below : List Frame} {meth : Method} {c : Code} {G : je_G} {dyn : Nat → Option je_E} {sz : Nat} {F : Nat} {κ : kp_K} {r9 : Int32} {k6 : kp_K → Int32 → Int32 → Int32 → Int32 → Int32 → Option (Int32)} (C : Cx p s m args meth c G "MinistryDesksModel" cX6_askedOf 6 (some .int)) (hk6 : ∀ (q1 : Int32) (q2 : Int32) (q3 : Int32) (q4 : Int32) (q5 : Int32), k6 κ q1 q2 q3 q4 q5 = some r9 → Js p l e ({ frames := 0, cells := 0, slots := 0, locals := 0 } : Room) s m args below meth c G 6 (MQ below (je_Q G (some (.int r9)) (en2 G κ dyn) sz) args s 0 0 (je_A G)) (en2 G κ dyn) sz 0 0 6 [(0, .ref (G.2.1 + 66)), (1, .int q1), (2, .int q2), (3, .int q3), (4, .int q4), (5, .int q5)] []) (v1 : Int32) (v2 : Int32) (v3 : Int32) (v5 : Int32) (s0 : Int32) (h : bX6_askedOf_61 F k6 κ v1 v2 v3 v5 s0 = some r9) : Js p l e ({ frames := 0, cells := 0, slots := 0, locals := 0 } : Room) s m args below meth c G 6 (MQ below (je_Q G (some (.int r9)) (en2 G κ dyn) sz) args s 0 0 (je_A G)) (en2 G κ dyn) sz 0 0 61 [(0, .ref (G.2.1 + 66)), (1, .int v1), (2, .int v2), (3, .int v3), (5, .int v5)] [.int s0] := by
  unfold bX6_askedOf_61 at h
  refine je_iconst C (0) dX6_askedOf_61 62 rfl ic_0 ?_
  refine je_iadd C dX6_askedOf_62 63 rfl ?_
  refine je_lti h (fun t63 h => ?_)
  refine je_istore C dX6_askedOf_63 65 rfl (Nat.le_of_ble_eq_true rfl) [(4, .int t63), (0, .ref (G.2.1 + 66)), (1, .int v1), (2, .int v2), (3, .int v3), (5, .int v5)] rfl ?_
  refine je_iinc C (1) dX6_askedOf_65 68 rfl 5 rfl ic_1 (Nat.le_of_ble_eq_true rfl) [(5, .int (v5 + (1 : Int32))), (4, .int t63), (0, .ref (G.2.1 + 66)), (1, .int v1), (2, .int v2), (3, .int v3)] rfl ?_
  refine je_goto C 6 dX6_askedOf_68 rfl ?_
  refine je_sub [2, 3, 4, 5, 1, 0] [(0, .ref (G.2.1 + 66)), (1, .int v1), (2, .int v2), (3, .int v3), (4, .int t63), (5, .int (v5 + (1 : Int32)))] rfl ?_
  exact hk6 v1 v2 v3 t63 (v5 + (1 : Int32)) h
set_option maxHeartbeats 4000000 in
theorem wX6_askedOf_6 {p : Program} {l : Launch} {e : Env} {s : State} {m : MethodId} {args : Array Value} {below : List Frame} {meth : Method} {c : Code} {G : je_G} {dyn : Nat → Option je_E} {sz : Nat} {F : Nat} {κ : kp_K} {r9 : Int32} (C : Cx p s m args meth c G "MinistryDesksModel" cX6_askedOf 6 (some .int)) : ∀ (n : Nat) (v1 : Int32) (v2 : Int32) (v3 : Int32) (v4 : Int32) (v5 : Int32), bX6_askedOf_6 F n κ v1 v2 v3 v4 v5 = some r9 → Js p l e ({ frames := 0, cells := 0, slots := 0, locals := 0 } : Room) s m args below meth c G 6 (MQ below (je_Q G (some (.int r9)) (en2 G κ dyn) sz) args s 0 0 (je_A G)) (en2 G κ dyn) sz 0 0 6 [(0, .ref (G.2.1 + 66)), (1, .int v1), (2, .int v2), (3, .int v3), (4, .int v4), (5, .int v5)] [] := by
  intro n
  induction n with
  | zero =>
    intro v1 v2 v3 v4 v5 h
    cases h
  | succ n ih =>
    intro v1 v2 v3 v4 v5 h
    rw [bX6_askedOf_6] at h
    refine je_iload C dX6_askedOf_6 8 rfl 5 rfl ?_
    refine je_aload_n C dX6_askedOf_8 9 rfl 0 rfl ?_
    refine gX6_13 C dX6_askedOf_9 12 rfl ?_
    refine je_iconst C (3) dX6_askedOf_12 13 rfl ic_3 ?_
    refine jk_iald C kd68 dX6_askedOf_13 14 rfl h (fun h => ?_)
    refine je_icmp_ge C 71 dX6_askedOf_14 17 rfl rfl h (fun h => ?_) (fun h => ?_)
    · refine je_iload C dX6_askedOf_71 73 rfl 4 rfl ?_
      cases h
      exact je_iret C dX6_askedOf_73
    refine je_iload C dX6_askedOf_17 19 rfl 4 rfl ?_
    refine je_aload_n C dX6_askedOf_19 20 rfl 0 rfl ?_
    refine gX6_46 C dX6_askedOf_20 23 rfl ?_
    refine je_iload C dX6_askedOf_23 25 rfl 5 rfl ?_
    refine jk_iald C kd79 dX6_askedOf_25 26 rfl h (fun h => ?_)
    refine je_iload_n C dX6_askedOf_26 27 rfl 2 rfl ?_
    refine je_icmp_ne C 61 dX6_askedOf_27 30 rfl rfl h (fun h => ?_) (fun h => ?_)
    · refine je_sub [0, 1, 2, 3, 5] [(0, .ref (G.2.1 + 66)), (1, .int v1), (2, .int v2), (3, .int v3), (5, .int v5)] rfl ?_
      exact wX6_askedOf_61 C ih v1 v2 v3 v5 v4 h
    refine je_aload_n C dX6_askedOf_30 31 rfl 0 rfl ?_
    refine gX6_49 C dX6_askedOf_31 34 rfl ?_
    refine je_iload C dX6_askedOf_34 36 rfl 5 rfl ?_
    refine jk_iald C kd80 dX6_askedOf_36 37 rfl h (fun h => ?_)
    refine je_iload_n C dX6_askedOf_37 38 rfl 3 rfl ?_
    refine je_icmp_ne C 61 dX6_askedOf_38 41 rfl rfl h (fun h => ?_) (fun h => ?_)
    · refine je_sub [0, 1, 2, 3, 5] [(0, .ref (G.2.1 + 66)), (1, .int v1), (2, .int v2), (3, .int v3), (5, .int v5)] rfl ?_
      exact wX6_askedOf_61 C ih v1 v2 v3 v5 v4 h
    refine je_aload_n C dX6_askedOf_41 42 rfl 0 rfl ?_
    refine gX6_43 C dX6_askedOf_42 45 rfl ?_
    refine je_iload C dX6_askedOf_45 47 rfl 5 rfl ?_
    refine jk_iald C kd78 dX6_askedOf_47 48 rfl h (fun h => ?_)
    refine je_aload_n C dX6_askedOf_48 49 rfl 0 rfl ?_
    refine gX6_87 C dX6_askedOf_49 52 rfl ?_
    refine je_iload_n C dX6_askedOf_52 53 rfl 1 rfl ?_
    refine jk_iald C kd91 dX6_askedOf_53 54 rfl h (fun h => ?_)
    refine je_icmp_lt C 61 dX6_askedOf_54 57 rfl rfl h (fun h => ?_) (fun h => ?_)
    · refine je_sub [0, 1, 2, 3, 5] [(0, .ref (G.2.1 + 66)), (1, .int v1), (2, .int v2), (3, .int v3), (5, .int v5)] rfl ?_
      exact wX6_askedOf_61 C ih v1 v2 v3 v5 v4 h
    refine je_iconst C (1) dX6_askedOf_57 58 rfl ic_1 ?_
    refine je_goto C 62 dX6_askedOf_58 rfl ?_
    refine je_iadd C dX6_askedOf_62 63 rfl ?_
    refine je_lti h (fun t63 h => ?_)
    refine je_istore C dX6_askedOf_63 65 rfl (Nat.le_of_ble_eq_true rfl) [(4, .int t63), (0, .ref (G.2.1 + 66)), (1, .int v1), (2, .int v2), (3, .int v3), (5, .int v5)] rfl ?_
    refine je_iinc C (1) dX6_askedOf_65 68 rfl 5 rfl ic_1 (Nat.le_of_ble_eq_true rfl) [(5, .int (v5 + (1 : Int32))), (4, .int t63), (0, .ref (G.2.1 + 66)), (1, .int v1), (2, .int v2), (3, .int v3)] rfl ?_
    refine je_goto C 6 dX6_askedOf_68 rfl ?_
    refine je_sub [2, 3, 4, 5, 1, 0] [(0, .ref (G.2.1 + 66)), (1, .int v1), (2, .int v2), (3, .int v3), (4, .int t63), (5, .int (v5 + (1 : Int32)))] rfl ?_
    exact ih v1 v2 v3 t63 (v5 + (1 : Int32)) h
set_option maxHeartbeats 4000000 in
theorem metX6_askedOf {l : Launch} {G : je_G} {dyn : Nat → Option je_E} {sz : Nat} {F : Nat} {κ : kp_K} {v1 : Int32} {v2 : Int32} {v3 : Int32} {r9 : Int32} (h : pX6_askedOf F κ v1 v2 v3 = some r9) : MetS l G yX6_askedOf cX6_askedOf 6 (some .int) 0 0 0 0 [.ref (G.2.1 + 66), .int v1, .int v2, .int v3] (en2 G κ dyn) sz (some (.int r9)) (en2 G κ dyn) sz := by
  refine je_met "MinistryDesksModel" rfl (by decide +kernel) (Nat.le_of_ble_eq_true rfl) [(0, .ref (G.2.1 + 66)), (1, .int v1), (2, .int v2), (3, .int v3)] rfl (fun p e s m args below meth c C => ?_)
  unfold pX6_askedOf at h
  refine je_iconst C (0) dX6_askedOf_0 1 rfl ic_0 ?_
  refine je_istore C dX6_askedOf_1 3 rfl (Nat.le_of_ble_eq_true rfl) [(4, .int (0 : Int32)), (0, .ref (G.2.1 + 66)), (1, .int v1), (2, .int v2), (3, .int v3)] rfl ?_
  refine je_iconst C (0) dX6_askedOf_3 4 rfl ic_0 ?_
  refine je_istore C dX6_askedOf_4 6 rfl (Nat.le_of_ble_eq_true rfl) [(5, .int (0 : Int32)), (4, .int (0 : Int32)), (0, .ref (G.2.1 + 66)), (1, .int v1), (2, .int v2), (3, .int v3)] rfl ?_
  refine je_sub [2, 3, 4, 5, 1, 0] [(0, .ref (G.2.1 + 66)), (1, .int v1), (2, .int v2), (3, .int v3), (4, .int (0 : Int32)), (5, .int (0 : Int32))] rfl ?_
  exact wX6_askedOf_6 C F v1 v2 v3 (0 : Int32) (0 : Int32) h
set_option maxHeartbeats 4000000 in
theorem metX6_is {l : Launch} {G : je_G} {σ : Nat → Option je_E} {sz : Nat} {v0 : Int32} {r9 : Int64} (h : pX6_is v0 = some r9) : MetS l G yX6_is cX6_is 1 (some .long) 0 0 0 0 [.int v0] σ sz (some (.long r9)) σ sz := by
  refine je_met "MinistryDesksModel" rfl (by decide +kernel) (Nat.le_of_ble_eq_true rfl) [(0, .int v0)] rfl (fun p e s m args below meth c C => ?_)
  unfold pX6_is at h
  refine je_iload_n C dX6_is_0 1 rfl 0 rfl ?_
  refine je_if_eq C 8 dX6_is_1 4 rfl rfl h (fun h => ?_) (fun h => ?_)
  · refine je_lconst C (0) dX6_is_8 9 rfl rfl ?_
    cases h
    exact je_lret C dX6_is_9
  refine je_lconst C (1) dX6_is_4 5 rfl rfl ?_
  refine je_goto C 9 dX6_is_5 rfl ?_
  cases h
  exact je_lret C dX6_is_9
theorem hdX6_is : je_hd yX6_is 1 := ⟨by decide +kernel, by decide +kernel, by decide +kernel⟩
theorem cwX6_358 : GoodIn lw_all (va_wsS "MinistryDesksModel" 358 yX6_is (ws_ yX6_is cX6_is 1 (some .long))) := lw_S q2155 q2156 q169 q2157
theorem mlX6_362 : Cond.methodLink "MinistryDesksModel" 362 Lib.MathLoose.abs_long.x ∈ lw_all ∧ Cond.static Lib.MathLoose.abs_long.x ∈ lw_all ∧ Cond.initialized "java/lang/Math" ∈ lw_all ∧ Cond.code Lib.MathLoose.abs_long.x Lib.MathLoose.abs_long.code 2 (some .long) ∈ lw_all := ⟨q2166, q1237, q173, q1238⟩
theorem gX6_355 {p : Program} {l : Launch} {e : Env} {R : Room} {s : State} {m : MethodId} {args : Array Value} {below : List Frame} {meth : Method} {c : Code} {Q : State → Prop} {G : je_G} {cc : ByteArray} {nL : Nat} {rt : Option FieldType} {sz cells slots pc : Nat} {L : List (Nat × Value)} {st : List Value} {κ : kp_K} {dyn : Nat → Option je_E} (C : Cx p s m args meth c G "MinistryDesksModel" cc nL rt) (d : decode cc pc = .ok (.getfield 355, 3)) (n : Nat) (hn : pc + 3 = n) (kk : Js p l e R s m args below meth c G nL Q (en2 G κ dyn) sz cells slots n L (.int (κ.1 66 42) :: st)) : Js p l e R s m args below meth c G nL Q (en2 G κ dyn) sz cells slots pc L (.ref (G.2.1 + 66) :: st) := jk_getI (k := 42) C kd66 rfl in_X6 rfl (by decide) q1722 rfl d n hn kk
theorem gX6_84 {p : Program} {l : Launch} {e : Env} {R : Room} {s : State} {m : MethodId} {args : Array Value} {below : List Frame} {meth : Method} {c : Code} {Q : State → Prop} {G : je_G} {cc : ByteArray} {nL : Nat} {rt : Option FieldType} {sz cells slots pc : Nat} {L : List (Nat × Value)} {st : List Value} {κ : kp_K} {dyn : Nat → Option je_E} (C : Cx p s m args meth c G "MinistryDesksModel" cc nL rt) (d : decode cc pc = .ok (.getfield 84, 3)) (n : Nat) (hn : pc + 3 = n) (kk : Js p l e R s m args below meth c G nL Q (en2 G κ dyn) sz cells slots n L (.ref (G.2.1 + 90) :: st)) : Js p l e R s m args below meth c G nL Q (en2 G κ dyn) sz cells slots pc L (.ref (G.2.1 + 66) :: st) := jk_getR (k := 41) (z := 0) C kd66 rfl in_X6 90 rfl (by decide) q1721 rfl d n hn kk
theorem sX6_355 {p : Program} {l : Launch} {e : Env} {R : Room} {s : State} {m : MethodId} {args : Array Value} {below : List Frame} {meth : Method} {c : Code} {Q : State → Prop} {G : je_G} {cc : ByteArray} {nL : Nat} {rt : Option FieldType} {sz cells slots pc : Nat} {L : List (Nat × Value)} {st : List Value} {κ : kp_K} {dyn : Nat → Option je_E} (C : Cx p s m args meth c G "MinistryDesksModel" cc nL rt) {v : Int32} (d : decode cc pc = .ok (.putfield 355, 3)) (n : Nat) (hn : pc + 3 = n) (kk : Js p l e R s m args below meth c G nL Q (en2 G (s_i κ 66 42 v) dyn) sz cells slots n L st) : Js p l e R s m args below meth c G nL Q (en2 G κ dyn) sz cells slots pc L (.int v :: .ref (G.2.1 + 66) :: st) := jk_putI (k := 42) C kd66 rfl in_X6 tyX6 tyX6_ok nmX6 rfl (by decide) q1722 rfl rfl rfl d n hn kk
set_option maxHeartbeats 4000000 in
theorem wX6_works_407 {p : Program} {l : Launch} {e : Env} {s : State} {m : MethodId} {args : Array Value} {below : List Frame} {meth : Method} {c : Code} {G : je_G} {dyn : Nat → Option je_E} {sz : Nat} {r9 : Int32 × kp_K} (C : Cx p s m args meth c G "MinistryDesksModel" cX6_works 8 (some .boolean)) (κ : kp_K) (v6 : Int64) (h : bX6_works_407 κ v6 = some r9) : Js p l e ({ frames := 1, cells := 0, slots := 0, locals := 23 } : Room) s m args below meth c G 8 (MQ below (je_Q G (some (.int r9.1)) (en2 G r9.2 dyn) sz) args s 0 0 (je_A G)) (en2 G κ dyn) sz 0 0 407 [(0, .ref (G.2.1 + 66)), (6, .long v6)] [] := by
  unfold bX6_works_407 at h
  refine je_aload_n C dX6_works_407 408 rfl 0 rfl ?_
  refine gX6_84 C dX6_works_408 411 rfl ?_
  refine je_aload_n C dX6_works_411 412 rfl 0 rfl ?_
  refine gX6_355 C dX6_works_412 415 rfl ?_
  refine je_iconst C (1) dX6_works_415 416 rfl ic_1 ?_
  refine je_isub C dX6_works_416 417 rfl ?_
  refine je_lload C dX6_works_417 419 rfl 1 rfl ?_
  refine jk_last C kd90 dX6_works_419 420 rfl h (fun h => ?_)
  refine jk_lt h (fun k419 h => ?_)
  refine je_lload C dX6_works_420 422 rfl 1 rfl ?_
  refine je_ldc2 C q2167 dX6_works_422 425 rfl ?_
  refine je_lcmp C dX6_works_425 426 rfl ?_
  refine je_if_gt C 442 dX6_works_426 429 rfl rfl h (fun h => ?_) (fun h => ?_)
  · refine je_iconst C (0) dX6_works_442 443 rfl ic_0 ?_
    cases h
    exact je_zret C dX6_works_443 (Or.inl rfl)
  refine je_lload C dX6_works_429 431 rfl 1 rfl ?_
  refine je_ldc2 C q2168 dX6_works_431 434 rfl ?_
  refine je_lcmp C dX6_works_434 435 rfl ?_
  refine je_if_lt C 442 dX6_works_435 438 rfl rfl h (fun h => ?_) (fun h => ?_)
  · refine je_iconst C (0) dX6_works_442 443 rfl ic_0 ?_
    cases h
    exact je_zret C dX6_works_443 (Or.inl rfl)
  refine je_iconst C (1) dX6_works_438 439 rfl ic_1 ?_
  refine je_goto C 443 dX6_works_439 rfl ?_
  cases h
  exact je_zret C dX6_works_443 (Or.inr rfl)
set_option maxHeartbeats 4000000 in
theorem wX6_works_212 {p : Program} {l : Launch} {e : Env} {s : State} {m : MethodId} {args : Array Value} {below : List Frame} {meth : Method} {c : Code} {G : je_G} {dyn : Nat → Option je_E} {sz : Nat} {r9 : Int32 × kp_K} (C : Cx p s m args meth c G "MinistryDesksModel" cX6_works 8 (some .boolean)) (κ : kp_K) (v2 : Int64) (v4 : Int64) (h : bX6_works_212 κ v2 v4 = some r9) : Js p l e ({ frames := 1, cells := 0, slots := 0, locals := 23 } : Room) s m args below meth c G 8 (MQ below (je_Q G (some (.int r9.1)) (en2 G r9.2 dyn) sz) args s 0 0 (je_A G)) (en2 G κ dyn) sz 0 0 212 [(0, .ref (G.2.1 + 66)), (2, .long v2), (4, .long v4)] [] := by
  unfold bX6_works_212 at h
  refine je_lload C dX6_works_212 214 rfl 2 rfl ?_
  refine je_lload_n C dX6_works_214 215 rfl 1 rfl ?_
  refine je_lmul C dX6_works_215 216 rfl ?_
  refine je_ltl h (fun t216 h => ?_)
  refine je_lstore C dX6_works_216 218 rfl (Nat.le_of_ble_eq_true rfl) [(6, .long t216), (0, .ref (G.2.1 + 66)), (2, .long v2), (4, .long v4)] rfl ?_
  refine je_goto C 407 dX6_works_218 rfl ?_
  refine je_sub [1, 0] [(0, .ref (G.2.1 + 66)), (6, .long t216)] rfl ?_
  exact wX6_works_407 C κ t216 h
set_option maxHeartbeats 4000000 in
theorem wX6_works_250 {p : Program} {l : Launch} {e : Env} {s : State} {m : MethodId} {args : Array Value} {below : List Frame} {meth : Method} {c : Code} {G : je_G} {dyn : Nat → Option je_E} {sz : Nat} {r9 : Int32 × kp_K} (C : Cx p s m args meth c G "MinistryDesksModel" cX6_works 8 (some .boolean)) (κ : kp_K) (s0 : Int32) (h : bX6_works_250 κ s0 = some r9) : Js p l e ({ frames := 1, cells := 0, slots := 0, locals := 23 } : Room) s m args below meth c G 8 (MQ below (je_Q G (some (.int r9.1)) (en2 G r9.2 dyn) sz) args s 0 0 (je_A G)) (en2 G κ dyn) sz 0 0 250 [(0, .ref (G.2.1 + 66))] [.int s0] := by
  unfold bX6_works_250 at h
  obtain ⟨t250, hg, h⟩ := p_cl_inv h
  refine je_callSl (As := [.int s0]) (rest := []) C (metX6_is hg) hdX6_is cwX6_358 rfl ⟨Nat.le_of_ble_eq_true rfl, Nat.le_of_ble_eq_true rfl⟩ (Nat.le_of_ble_eq_true rfl) dX6_works_250 253 rfl ⟨Nat.le_refl _, Nat.le_refl _⟩ ?_
  refine je_lstore C dX6_works_253 255 rfl (Nat.le_of_ble_eq_true rfl) [(6, .long t250), (0, .ref (G.2.1 + 66))] rfl ?_
  refine je_goto C 407 dX6_works_255 rfl ?_
  refine je_sub [1, 0] [(0, .ref (G.2.1 + 66)), (6, .long t250)] rfl ?_
  exact wX6_works_407 C κ t250 h
set_option maxHeartbeats 4000000 in
theorem wX6_works_290 {p : Program} {l : Launch} {e : Env} {s : State} {m : MethodId} {args : Array Value} {below : List Frame} {meth : Method} {c : Code} {G : je_G} {dyn : Nat → Option je_E} {sz : Nat} {r9 : Int32 × kp_K} (C : Cx p s m args meth c G "MinistryDesksModel" cX6_works 8 (some .boolean)) (κ : kp_K) (s0 : Int32) (h : bX6_works_290 κ s0 = some r9) : Js p l e ({ frames := 1, cells := 0, slots := 0, locals := 23 } : Room) s m args below meth c G 8 (MQ below (je_Q G (some (.int r9.1)) (en2 G r9.2 dyn) sz) args s 0 0 (je_A G)) (en2 G κ dyn) sz 0 0 290 [(0, .ref (G.2.1 + 66))] [.int s0] := by
  unfold bX6_works_290 at h
  obtain ⟨t290, hg, h⟩ := p_cl_inv h
  refine je_callSl (As := [.int s0]) (rest := []) C (metX6_is hg) hdX6_is cwX6_358 rfl ⟨Nat.le_of_ble_eq_true rfl, Nat.le_of_ble_eq_true rfl⟩ (Nat.le_of_ble_eq_true rfl) dX6_works_290 293 rfl ⟨Nat.le_refl _, Nat.le_refl _⟩ ?_
  refine je_lstore C dX6_works_293 295 rfl (Nat.le_of_ble_eq_true rfl) [(6, .long t290), (0, .ref (G.2.1 + 66))] rfl ?_
  refine je_goto C 407 dX6_works_295 rfl ?_
  refine je_sub [1, 0] [(0, .ref (G.2.1 + 66)), (6, .long t290)] rfl ?_
  exact wX6_works_407 C κ t290 h
set_option maxHeartbeats 4000000 in
theorem wX6_works_270 {p : Program} {l : Launch} {e : Env} {s : State} {m : MethodId} {args : Array Value} {below : List Frame} {meth : Method} {c : Code} {G : je_G} {dyn : Nat → Option je_E} {sz : Nat} {r9 : Int32 × kp_K} (C : Cx p s m args meth c G "MinistryDesksModel" cX6_works 8 (some .boolean)) (κ : kp_K) (s0 : Int32) (h : bX6_works_270 κ s0 = some r9) : Js p l e ({ frames := 1, cells := 0, slots := 0, locals := 23 } : Room) s m args below meth c G 8 (MQ below (je_Q G (some (.int r9.1)) (en2 G r9.2 dyn) sz) args s 0 0 (je_A G)) (en2 G κ dyn) sz 0 0 270 [(0, .ref (G.2.1 + 66))] [.int s0] := by
  unfold bX6_works_270 at h
  obtain ⟨t270, hg, h⟩ := p_cl_inv h
  refine je_callSl (As := [.int s0]) (rest := []) C (metX6_is hg) hdX6_is cwX6_358 rfl ⟨Nat.le_of_ble_eq_true rfl, Nat.le_of_ble_eq_true rfl⟩ (Nat.le_of_ble_eq_true rfl) dX6_works_270 273 rfl ⟨Nat.le_refl _, Nat.le_refl _⟩ ?_
  refine je_lstore C dX6_works_273 275 rfl (Nat.le_of_ble_eq_true rfl) [(6, .long t270), (0, .ref (G.2.1 + 66))] rfl ?_
  refine je_goto C 407 dX6_works_275 rfl ?_
  refine je_sub [1, 0] [(0, .ref (G.2.1 + 66)), (6, .long t270)] rfl ?_
  exact wX6_works_407 C κ t270 h
set_option maxHeartbeats 4000000 in
theorem wX6_works_310 {p : Program} {l : Launch} {e : Env} {s : State} {m : MethodId} {args : Array Value} {below : List Frame} {meth : Method} {c : Code} {G : je_G} {dyn : Nat → Option je_E} {sz : Nat} {r9 : Int32 × kp_K} (C : Cx p s m args meth c G "MinistryDesksModel" cX6_works 8 (some .boolean)) (κ : kp_K) (s0 : Int32) (h : bX6_works_310 κ s0 = some r9) : Js p l e ({ frames := 1, cells := 0, slots := 0, locals := 23 } : Room) s m args below meth c G 8 (MQ below (je_Q G (some (.int r9.1)) (en2 G r9.2 dyn) sz) args s 0 0 (je_A G)) (en2 G κ dyn) sz 0 0 310 [(0, .ref (G.2.1 + 66))] [.int s0] := by
  unfold bX6_works_310 at h
  obtain ⟨t310, hg, h⟩ := p_cl_inv h
  refine je_callSl (As := [.int s0]) (rest := []) C (metX6_is hg) hdX6_is cwX6_358 rfl ⟨Nat.le_of_ble_eq_true rfl, Nat.le_of_ble_eq_true rfl⟩ (Nat.le_of_ble_eq_true rfl) dX6_works_310 313 rfl ⟨Nat.le_refl _, Nat.le_refl _⟩ ?_
  refine je_lstore C dX6_works_313 315 rfl (Nat.le_of_ble_eq_true rfl) [(6, .long t310), (0, .ref (G.2.1 + 66))] rfl ?_
  refine je_goto C 407 dX6_works_315 rfl ?_
  refine je_sub [1, 0] [(0, .ref (G.2.1 + 66)), (6, .long t310)] rfl ?_
  exact wX6_works_407 C κ t310 h
set_option maxHeartbeats 4000000 in
theorem wX6_works_350 {p : Program} {l : Launch} {e : Env} {s : State} {m : MethodId} {args : Array Value} {below : List Frame} {meth : Method} {c : Code} {G : je_G} {dyn : Nat → Option je_E} {sz : Nat} {r9 : Int32 × kp_K} (C : Cx p s m args meth c G "MinistryDesksModel" cX6_works 8 (some .boolean)) (κ : kp_K) (s0 : Int32) (h : bX6_works_350 κ s0 = some r9) : Js p l e ({ frames := 1, cells := 0, slots := 0, locals := 23 } : Room) s m args below meth c G 8 (MQ below (je_Q G (some (.int r9.1)) (en2 G r9.2 dyn) sz) args s 0 0 (je_A G)) (en2 G κ dyn) sz 0 0 350 [(0, .ref (G.2.1 + 66))] [.int s0] := by
  unfold bX6_works_350 at h
  obtain ⟨t350, hg, h⟩ := p_cl_inv h
  refine je_callSl (As := [.int s0]) (rest := []) C (metX6_is hg) hdX6_is cwX6_358 rfl ⟨Nat.le_of_ble_eq_true rfl, Nat.le_of_ble_eq_true rfl⟩ (Nat.le_of_ble_eq_true rfl) dX6_works_350 353 rfl ⟨Nat.le_refl _, Nat.le_refl _⟩ ?_
  refine je_lstore C dX6_works_353 355 rfl (Nat.le_of_ble_eq_true rfl) [(6, .long t350), (0, .ref (G.2.1 + 66))] rfl ?_
  refine je_goto C 407 dX6_works_355 rfl ?_
  refine je_sub [1, 0] [(0, .ref (G.2.1 + 66)), (6, .long t350)] rfl ?_
  exact wX6_works_407 C κ t350 h
set_option maxHeartbeats 4000000 in
theorem wX6_works_330 {p : Program} {l : Launch} {e : Env} {s : State} {m : MethodId} {args : Array Value} {below : List Frame} {meth : Method} {c : Code} {G : je_G} {dyn : Nat → Option je_E} {sz : Nat} {r9 : Int32 × kp_K} (C : Cx p s m args meth c G "MinistryDesksModel" cX6_works 8 (some .boolean)) (κ : kp_K) (s0 : Int32) (h : bX6_works_330 κ s0 = some r9) : Js p l e ({ frames := 1, cells := 0, slots := 0, locals := 23 } : Room) s m args below meth c G 8 (MQ below (je_Q G (some (.int r9.1)) (en2 G r9.2 dyn) sz) args s 0 0 (je_A G)) (en2 G κ dyn) sz 0 0 330 [(0, .ref (G.2.1 + 66))] [.int s0] := by
  unfold bX6_works_330 at h
  obtain ⟨t330, hg, h⟩ := p_cl_inv h
  refine je_callSl (As := [.int s0]) (rest := []) C (metX6_is hg) hdX6_is cwX6_358 rfl ⟨Nat.le_of_ble_eq_true rfl, Nat.le_of_ble_eq_true rfl⟩ (Nat.le_of_ble_eq_true rfl) dX6_works_330 333 rfl ⟨Nat.le_refl _, Nat.le_refl _⟩ ?_
  refine je_lstore C dX6_works_333 335 rfl (Nat.le_of_ble_eq_true rfl) [(6, .long t330), (0, .ref (G.2.1 + 66))] rfl ?_
  refine je_goto C 407 dX6_works_335 rfl ?_
  refine je_sub [1, 0] [(0, .ref (G.2.1 + 66)), (6, .long t330)] rfl ?_
  exact wX6_works_407 C κ t330 h
set_option maxHeartbeats 4000000 in
theorem wX6_works_376 {p : Program} {l : Launch} {e : Env} {s : State} {m : MethodId} {args : Array Value} {below : List Frame} {meth : Method} {c : Code} {G : je_G} {dyn : Nat → Option je_E} {sz : Nat} {r9 : Int32 × kp_K} (C : Cx p s m args meth c G "MinistryDesksModel" cX6_works 8 (some .boolean)) (κ : kp_K) (s0 : Int32) (h : bX6_works_376 κ s0 = some r9) : Js p l e ({ frames := 1, cells := 0, slots := 0, locals := 23 } : Room) s m args below meth c G 8 (MQ below (je_Q G (some (.int r9.1)) (en2 G r9.2 dyn) sz) args s 0 0 (je_A G)) (en2 G κ dyn) sz 0 0 376 [(0, .ref (G.2.1 + 66))] [.int s0] := by
  unfold bX6_works_376 at h
  obtain ⟨t376, hg, h⟩ := p_cl_inv h
  refine je_callSl (As := [.int s0]) (rest := []) C (metX6_is hg) hdX6_is cwX6_358 rfl ⟨Nat.le_of_ble_eq_true rfl, Nat.le_of_ble_eq_true rfl⟩ (Nat.le_of_ble_eq_true rfl) dX6_works_376 379 rfl ⟨Nat.le_refl _, Nat.le_refl _⟩ ?_
  refine je_lstore C dX6_works_379 381 rfl (Nat.le_of_ble_eq_true rfl) [(6, .long t376), (0, .ref (G.2.1 + 66))] rfl ?_
  refine je_goto C 407 dX6_works_381 rfl ?_
  refine je_sub [1, 0] [(0, .ref (G.2.1 + 66)), (6, .long t376)] rfl ?_
  exact wX6_works_407 C κ t376 h
set_option maxHeartbeats 4000000 in
theorem wX6_works_375 {p : Program} {l : Launch} {e : Env} {s : State} {m : MethodId} {args : Array Value} {below : List Frame} {meth : Method} {c : Code} {G : je_G} {dyn : Nat → Option je_E} {sz : Nat} {r9 : Int32 × kp_K} (C : Cx p s m args meth c G "MinistryDesksModel" cX6_works 8 (some .boolean)) (κ : kp_K) (h : bX6_works_375 κ = some r9) : Js p l e ({ frames := 1, cells := 0, slots := 0, locals := 23 } : Room) s m args below meth c G 8 (MQ below (je_Q G (some (.int r9.1)) (en2 G r9.2 dyn) sz) args s 0 0 (je_A G)) (en2 G κ dyn) sz 0 0 375 [(0, .ref (G.2.1 + 66))] [] := by
  unfold bX6_works_375 at h
  refine je_iconst C (0) dX6_works_375 376 rfl ic_0 ?_
  exact wX6_works_376 C κ (0 : Int32) h
set_option maxHeartbeats 4000000 in
theorem wX6_works_402 {p : Program} {l : Launch} {e : Env} {s : State} {m : MethodId} {args : Array Value} {below : List Frame} {meth : Method} {c : Code} {G : je_G} {dyn : Nat → Option je_E} {sz : Nat} {r9 : Int32 × kp_K} (C : Cx p s m args meth c G "MinistryDesksModel" cX6_works 8 (some .boolean)) (κ : kp_K) (s0 : Int32) (h : bX6_works_402 κ s0 = some r9) : Js p l e ({ frames := 1, cells := 0, slots := 0, locals := 23 } : Room) s m args below meth c G 8 (MQ below (je_Q G (some (.int r9.1)) (en2 G r9.2 dyn) sz) args s 0 0 (je_A G)) (en2 G κ dyn) sz 0 0 402 [(0, .ref (G.2.1 + 66))] [.int s0] := by
  unfold bX6_works_402 at h
  obtain ⟨t402, hg, h⟩ := p_cl_inv h
  refine je_callSl (As := [.int s0]) (rest := []) C (metX6_is hg) hdX6_is cwX6_358 rfl ⟨Nat.le_of_ble_eq_true rfl, Nat.le_of_ble_eq_true rfl⟩ (Nat.le_of_ble_eq_true rfl) dX6_works_402 405 rfl ⟨Nat.le_refl _, Nat.le_refl _⟩ ?_
  refine je_lstore C dX6_works_405 407 rfl (Nat.le_of_ble_eq_true rfl) [(6, .long t402), (0, .ref (G.2.1 + 66))] rfl ?_
  refine je_sub [1, 0] [(0, .ref (G.2.1 + 66)), (6, .long t402)] rfl ?_
  exact wX6_works_407 C κ t402 h
set_option maxHeartbeats 4000000 in
theorem wX6_works_397 {p : Program} {l : Launch} {e : Env} {s : State} {m : MethodId} {args : Array Value} {below : List Frame} {meth : Method} {c : Code} {G : je_G} {dyn : Nat → Option je_E} {sz : Nat} {r9 : Int32 × kp_K} (C : Cx p s m args meth c G "MinistryDesksModel" cX6_works 8 (some .boolean)) (κ : kp_K) (h : bX6_works_397 κ = some r9) : Js p l e ({ frames := 1, cells := 0, slots := 0, locals := 23 } : Room) s m args below meth c G 8 (MQ below (je_Q G (some (.int r9.1)) (en2 G r9.2 dyn) sz) args s 0 0 (je_A G)) (en2 G κ dyn) sz 0 0 397 [(0, .ref (G.2.1 + 66))] [] := by
  unfold bX6_works_397 at h
  refine je_iconst C (1) dX6_works_397 398 rfl ic_1 ?_
  refine je_goto C 402 dX6_works_398 rfl ?_
  exact wX6_works_402 C κ (1 : Int32) h
set_option maxHeartbeats 4000000 in
theorem wX6_works_40 {p : Program} {l : Launch} {e : Env} {s : State} {m : MethodId} {args : Array Value} {below : List Frame} {meth : Method} {c : Code} {G : je_G} {dyn : Nat → Option je_E} {sz : Nat} {r9 : Int32 × kp_K} (C : Cx p s m args meth c G "MinistryDesksModel" cX6_works 8 (some .boolean)) (κ : kp_K) (s0 : Int32) (s1 : Int32) (h : bX6_works_40 κ s0 s1 = some r9) : Js p l e ({ frames := 1, cells := 0, slots := 0, locals := 23 } : Room) s m args below meth c G 8 (MQ below (je_Q G (some (.int r9.1)) (en2 G r9.2 dyn) sz) args s 0 0 (je_A G)) (en2 G κ dyn) sz 0 0 40 [(0, .ref (G.2.1 + 66))] [.int s0, .int s1, .ref (G.2.1 + 90)] := by
  unfold bX6_works_40 at h
  obtain ⟨t40, hg, h⟩ := p_cl_inv h
  refine je_callSl (As := [.int s0]) (rest := [.int s1, .ref (G.2.1 + 90)]) C (metX6_is hg) hdX6_is cwX6_358 rfl ⟨Nat.le_of_ble_eq_true rfl, Nat.le_of_ble_eq_true rfl⟩ (Nat.le_of_ble_eq_true rfl) dX6_works_40 43 rfl ⟨Nat.le_refl _, Nat.le_refl _⟩ ?_
  refine jk_last C kd90 dX6_works_43 44 rfl h (fun h => ?_)
  refine jk_lt h (fun k43 h => ?_)
  refine je_iconst C (1) dX6_works_44 45 rfl ic_1 ?_
  cases h
  exact je_zret C dX6_works_45 (Or.inr rfl)
set_option maxHeartbeats 4000000 in
theorem metX6_works {l : Launch} {G : je_G} {dyn : Nat → Option je_E} {sz : Nat} {κ : kp_K} {v1 : Int32} {r9 : Int32 × kp_K} (h : pX6_works κ v1 = some r9) : MetS l G yX6_works cX6_works 8 (some .boolean) 1 23 0 0 [.ref (G.2.1 + 66), .int v1] (en2 G κ dyn) sz (some (.int r9.1)) (en2 G r9.2 dyn) sz := by
  refine je_met "MinistryDesksModel" rfl (by decide +kernel) (Nat.le_of_ble_eq_true rfl) [(0, .ref (G.2.1 + 66)), (1, .int v1)] rfl (fun p e s m args below meth c C => ?_)
  unfold pX6_works at h
  refine je_aload_n C dX6_works_0 1 rfl 0 rfl ?_
  refine gX6_84 C dX6_works_1 4 rfl ?_
  refine je_aload_n C dX6_works_4 5 rfl 0 rfl ?_
  refine gX6_355 C dX6_works_5 8 rfl ?_
  refine je_iconst C (1) dX6_works_8 9 rfl ic_1 ?_
  refine je_isub C dX6_works_9 10 rfl ?_
  refine je_lti h (fun i10 h => ?_)
  refine jk_lald C kd90 dX6_works_10 11 rfl h (fun h => ?_)
  refine je_ltl h (fun t11 h => ?_)
  refine je_lstore_n C dX6_works_11 12 rfl (Nat.le_of_ble_eq_true rfl) [(2, .long t11), (0, .ref (G.2.1 + 66)), (1, .int v1)] rfl ?_
  refine je_iload_n C dX6_works_12 13 rfl 2 rfl ?_
  refine je_sipush C (260) dX6_works_13 16 rfl sp_260 ?_
  refine je_icmp_ne C 46 dX6_works_16 19 rfl rfl h (fun h => ?_) (fun h => ?_)
  · refine je_aload_n C dX6_works_46 47 rfl 1 rfl ?_
    refine gX6_84 C dX6_works_47 50 rfl ?_
    refine je_aload_n C dX6_works_50 51 rfl 1 rfl ?_
    refine gX6_355 C dX6_works_51 54 rfl ?_
    refine je_iconst C (2) dX6_works_54 55 rfl ic_2 ?_
    refine je_isub C dX6_works_55 56 rfl ?_
    refine je_lti h (fun i56 h => ?_)
    refine jk_lald C kd90 dX6_works_56 57 rfl h (fun h => ?_)
    refine je_ltl h (fun t57 h => ?_)
    refine je_lstore C dX6_works_57 59 rfl (Nat.le_of_ble_eq_true rfl) [(4, .long t57), (2, .long t11), (0, .ref (G.2.1 + 66)), (1, .int v1)] rfl ?_
    refine je_aload_n C dX6_works_59 60 rfl 2 rfl ?_
    refine je_dup C dX6_works_60 61 rfl rfl ?_
    refine gX6_355 C dX6_works_61 64 rfl ?_
    refine je_iconst C (1) dX6_works_64 65 rfl ic_1 ?_
    refine je_isub C dX6_works_65 66 rfl ?_
    refine sX6_355 C dX6_works_66 69 rfl ?_
    refine jk_lt h (fun k66 h => ?_)
    refine je_iload_n C dX6_works_69 70 rfl 3 rfl ?_
    refine je_ite h (fun hx h => ?_) (fun hn0 h => ?_)
    · refine je_lsw C (42) 186 dX6_works_70 (by decide) hx (by decide +kernel : _ = (116 : Int)) rfl ?_
      refine je_lload C dX6_works_186 188 rfl 0 rfl ?_
      refine je_lconst C (0) dX6_works_188 189 rfl rfl ?_
      refine je_lcmp C dX6_works_189 190 rfl ?_
      refine je_if_eq C 212 dX6_works_190 193 rfl rfl h (fun h => ?_) (fun h => ?_)
      · refine je_sub [2, 1, 0] [(0, .ref (G.2.1 + 66)), (2, .long t11), (4, .long t57)] rfl ?_
        exact wX6_works_212 C k66 t11 t57 h
      refine je_lload_n C dX6_works_193 194 rfl 1 rfl ?_
      refine je_mabs_long C ⟨Nat.le_of_ble_eq_true rfl, Nat.le_of_ble_eq_true rfl⟩ (Nat.le_of_ble_eq_true rfl) mlX6_362 dX6_works_194 197 rfl ⟨Nat.le_refl _, Nat.le_refl _⟩ ?_
      refine je_ldc2 C q2167 dX6_works_197 200 rfl ?_
      refine je_lload C dX6_works_200 202 rfl 0 rfl ?_
      refine je_mabs_long C ⟨Nat.le_of_ble_eq_true rfl, Nat.le_of_ble_eq_true rfl⟩ (Nat.le_of_ble_eq_true rfl) mlX6_362 dX6_works_202 205 rfl ⟨Nat.le_refl _, Nat.le_refl _⟩ ?_
      obtain ⟨hne, h⟩ := p_cdl_inv h
      refine je_ldiv C dX6_works_205 206 rfl hne ?_
      refine je_lcmp C dX6_works_206 207 rfl ?_
      refine je_if_le C 212 dX6_works_207 210 rfl rfl h (fun h => ?_) (fun h => ?_)
      · refine je_sub [2, 1, 0] [(0, .ref (G.2.1 + 66)), (2, .long t11), (4, .long t57)] rfl ?_
        exact wX6_works_212 C k66 t11 t57 h
      refine je_iconst C (0) dX6_works_210 211 rfl ic_0 ?_
      cases h
      exact je_zret C dX6_works_211 (Or.inl rfl)
    refine je_ite h (fun hx h => ?_) (fun hn1 h => ?_)
    · refine je_lsw C (43) 168 dX6_works_70 (by decide) hx (by decide +kernel : _ = (98 : Int)) rfl ?_
      refine je_lload C dX6_works_168 170 rfl 0 rfl ?_
      refine je_lload_n C dX6_works_170 171 rfl 1 rfl ?_
      refine je_ladd C dX6_works_171 172 rfl ?_
      refine je_ltl h (fun t172 h => ?_)
      refine je_lstore C dX6_works_172 174 rfl (Nat.le_of_ble_eq_true rfl) [(6, .long t172), (4, .long t57), (2, .long t11), (0, .ref (G.2.1 + 66)), (1, .int v1)] rfl ?_
      refine je_goto C 407 dX6_works_174 rfl ?_
      refine je_sub [3, 0] [(0, .ref (G.2.1 + 66)), (6, .long t172)] rfl ?_
      exact wX6_works_407 C k66 t172 h
    refine je_ite h (fun hx h => ?_) (fun hn2 h => ?_)
    · refine je_lsw C (45) 177 dX6_works_70 (by decide) hx (by decide +kernel : _ = (107 : Int)) rfl ?_
      refine je_lload C dX6_works_177 179 rfl 0 rfl ?_
      refine je_lload_n C dX6_works_179 180 rfl 1 rfl ?_
      refine je_lsub C dX6_works_180 181 rfl ?_
      refine je_ltl h (fun t181 h => ?_)
      refine je_lstore C dX6_works_181 183 rfl (Nat.le_of_ble_eq_true rfl) [(6, .long t181), (4, .long t57), (2, .long t11), (0, .ref (G.2.1 + 66)), (1, .int v1)] rfl ?_
      refine je_goto C 407 dX6_works_183 rfl ?_
      refine je_sub [3, 0] [(0, .ref (G.2.1 + 66)), (6, .long t181)] rfl ?_
      exact wX6_works_407 C k66 t181 h
    refine je_ite h (fun hx h => ?_) (fun hn3 h => ?_)
    · refine je_lsw C (47) 221 dX6_works_70 (by decide) hx (by decide +kernel : _ = (151 : Int)) rfl ?_
      refine je_lload_n C dX6_works_221 222 rfl 1 rfl ?_
      refine je_lconst C (0) dX6_works_222 223 rfl rfl ?_
      refine je_lcmp C dX6_works_223 224 rfl ?_
      refine je_if_ne C 229 dX6_works_224 227 rfl rfl h (fun h => ?_) (fun h => ?_)
      · refine je_lload C dX6_works_229 231 rfl 0 rfl ?_
        refine je_lload_n C dX6_works_231 232 rfl 1 rfl ?_
        obtain ⟨hne, h⟩ := p_cdl_inv h
        refine je_ldiv C dX6_works_232 233 rfl hne ?_
        refine je_ltl h (fun t233 h => ?_)
        refine je_lstore C dX6_works_233 235 rfl (Nat.le_of_ble_eq_true rfl) [(6, .long t233), (4, .long t57), (2, .long t11), (0, .ref (G.2.1 + 66)), (1, .int v1)] rfl ?_
        refine je_goto C 407 dX6_works_235 rfl ?_
        refine je_sub [3, 0] [(0, .ref (G.2.1 + 66)), (6, .long t233)] rfl ?_
        exact wX6_works_407 C k66 t233 h
      refine je_iconst C (0) dX6_works_227 228 rfl ic_0 ?_
      cases h
      exact je_zret C dX6_works_228 (Or.inl rfl)
    refine je_ite h (fun hx h => ?_) (fun hn4 h => ?_)
    · refine je_lsw C (60) 238 dX6_works_70 (by decide) hx (by decide +kernel : _ = (168 : Int)) rfl ?_
      refine je_lload C dX6_works_238 240 rfl 0 rfl ?_
      refine je_lload_n C dX6_works_240 241 rfl 1 rfl ?_
      refine je_lcmp C dX6_works_241 242 rfl ?_
      refine je_if_ge C 249 dX6_works_242 245 rfl rfl h (fun h => ?_) (fun h => ?_)
      · refine je_iconst C (0) dX6_works_249 250 rfl ic_0 ?_
        refine je_sub [2] [(0, .ref (G.2.1 + 66))] rfl ?_
        exact wX6_works_250 C k66 (0 : Int32) h
      refine je_iconst C (1) dX6_works_245 246 rfl ic_1 ?_
      refine je_goto C 250 dX6_works_246 rfl ?_
      refine je_sub [2] [(0, .ref (G.2.1 + 66))] rfl ?_
      exact wX6_works_250 C k66 (1 : Int32) h
    refine je_ite h (fun hx h => ?_) (fun hn5 h => ?_)
    · refine je_lsw C (61) 278 dX6_works_70 (by decide) hx (by decide +kernel : _ = (208 : Int)) rfl ?_
      refine je_lload C dX6_works_278 280 rfl 0 rfl ?_
      refine je_lload_n C dX6_works_280 281 rfl 1 rfl ?_
      refine je_lcmp C dX6_works_281 282 rfl ?_
      refine je_if_ne C 289 dX6_works_282 285 rfl rfl h (fun h => ?_) (fun h => ?_)
      · refine je_iconst C (0) dX6_works_289 290 rfl ic_0 ?_
        refine je_sub [2] [(0, .ref (G.2.1 + 66))] rfl ?_
        exact wX6_works_290 C k66 (0 : Int32) h
      refine je_iconst C (1) dX6_works_285 286 rfl ic_1 ?_
      refine je_goto C 290 dX6_works_286 rfl ?_
      refine je_sub [2] [(0, .ref (G.2.1 + 66))] rfl ?_
      exact wX6_works_290 C k66 (1 : Int32) h
    refine je_ite h (fun hx h => ?_) (fun hn6 h => ?_)
    · refine je_lsw C (62) 258 dX6_works_70 (by decide) hx (by decide +kernel : _ = (188 : Int)) rfl ?_
      refine je_lload C dX6_works_258 260 rfl 0 rfl ?_
      refine je_lload_n C dX6_works_260 261 rfl 1 rfl ?_
      refine je_lcmp C dX6_works_261 262 rfl ?_
      refine je_if_le C 269 dX6_works_262 265 rfl rfl h (fun h => ?_) (fun h => ?_)
      · refine je_iconst C (0) dX6_works_269 270 rfl ic_0 ?_
        refine je_sub [2] [(0, .ref (G.2.1 + 66))] rfl ?_
        exact wX6_works_270 C k66 (0 : Int32) h
      refine je_iconst C (1) dX6_works_265 266 rfl ic_1 ?_
      refine je_goto C 270 dX6_works_266 rfl ?_
      refine je_sub [2] [(0, .ref (G.2.1 + 66))] rfl ?_
      exact wX6_works_270 C k66 (1 : Int32) h
    refine je_ite h (fun hx h => ?_) (fun hn7 h => ?_)
    · refine je_lsw C (256) 298 dX6_works_70 (by decide) hx (by decide +kernel : _ = (228 : Int)) rfl ?_
      refine je_lload C dX6_works_298 300 rfl 0 rfl ?_
      refine je_lload_n C dX6_works_300 301 rfl 1 rfl ?_
      refine je_lcmp C dX6_works_301 302 rfl ?_
      refine je_if_gt C 309 dX6_works_302 305 rfl rfl h (fun h => ?_) (fun h => ?_)
      · refine je_iconst C (0) dX6_works_309 310 rfl ic_0 ?_
        refine je_sub [2] [(0, .ref (G.2.1 + 66))] rfl ?_
        exact wX6_works_310 C k66 (0 : Int32) h
      refine je_iconst C (1) dX6_works_305 306 rfl ic_1 ?_
      refine je_goto C 310 dX6_works_306 rfl ?_
      refine je_sub [2] [(0, .ref (G.2.1 + 66))] rfl ?_
      exact wX6_works_310 C k66 (1 : Int32) h
    refine je_ite h (fun hx h => ?_) (fun hn8 h => ?_)
    · refine je_lsw C (257) 338 dX6_works_70 (by decide) hx (by decide +kernel : _ = (268 : Int)) rfl ?_
      refine je_lload C dX6_works_338 340 rfl 0 rfl ?_
      refine je_lload_n C dX6_works_340 341 rfl 1 rfl ?_
      refine je_lcmp C dX6_works_341 342 rfl ?_
      refine je_if_eq C 349 dX6_works_342 345 rfl rfl h (fun h => ?_) (fun h => ?_)
      · refine je_iconst C (0) dX6_works_349 350 rfl ic_0 ?_
        refine je_sub [2] [(0, .ref (G.2.1 + 66))] rfl ?_
        exact wX6_works_350 C k66 (0 : Int32) h
      refine je_iconst C (1) dX6_works_345 346 rfl ic_1 ?_
      refine je_goto C 350 dX6_works_346 rfl ?_
      refine je_sub [2] [(0, .ref (G.2.1 + 66))] rfl ?_
      exact wX6_works_350 C k66 (1 : Int32) h
    refine je_ite h (fun hx h => ?_) (fun hn9 h => ?_)
    · refine je_lsw C (258) 318 dX6_works_70 (by decide) hx (by decide +kernel : _ = (248 : Int)) rfl ?_
      refine je_lload C dX6_works_318 320 rfl 0 rfl ?_
      refine je_lload_n C dX6_works_320 321 rfl 1 rfl ?_
      refine je_lcmp C dX6_works_321 322 rfl ?_
      refine je_if_lt C 329 dX6_works_322 325 rfl rfl h (fun h => ?_) (fun h => ?_)
      · refine je_iconst C (0) dX6_works_329 330 rfl ic_0 ?_
        refine je_sub [2] [(0, .ref (G.2.1 + 66))] rfl ?_
        exact wX6_works_330 C k66 (0 : Int32) h
      refine je_iconst C (1) dX6_works_325 326 rfl ic_1 ?_
      refine je_goto C 330 dX6_works_326 rfl ?_
      refine je_sub [2] [(0, .ref (G.2.1 + 66))] rfl ?_
      exact wX6_works_330 C k66 (1 : Int32) h
    refine je_ite h (fun hx h => ?_) (fun hn10 h => ?_)
    · refine je_lsw C (261) 358 dX6_works_70 (by decide) hx (by decide +kernel : _ = (288 : Int)) rfl ?_
      refine je_lload C dX6_works_358 360 rfl 0 rfl ?_
      refine je_lconst C (0) dX6_works_360 361 rfl rfl ?_
      refine je_lcmp C dX6_works_361 362 rfl ?_
      refine je_if_eq C 375 dX6_works_362 365 rfl rfl h (fun h => ?_) (fun h => ?_)
      · refine je_sub [2] [(0, .ref (G.2.1 + 66))] rfl ?_
        exact wX6_works_375 C k66 h
      refine je_lload_n C dX6_works_365 366 rfl 1 rfl ?_
      refine je_lconst C (0) dX6_works_366 367 rfl rfl ?_
      refine je_lcmp C dX6_works_367 368 rfl ?_
      refine je_if_eq C 375 dX6_works_368 371 rfl rfl h (fun h => ?_) (fun h => ?_)
      · refine je_sub [2] [(0, .ref (G.2.1 + 66))] rfl ?_
        exact wX6_works_375 C k66 h
      refine je_iconst C (1) dX6_works_371 372 rfl ic_1 ?_
      refine je_goto C 376 dX6_works_372 rfl ?_
      refine je_sub [2] [(0, .ref (G.2.1 + 66))] rfl ?_
      exact wX6_works_376 C k66 (1 : Int32) h
    refine je_lswd C 384 dX6_works_70 (by decide) (show Op.lookupswitch.offset [(42, 116), (43, 98), (45, 107), (47, 151), (60, 168), (61, 208), (62, 188), (256, 228), (257, 268), (258, 248), (261, 288)] (314) _ = (314 : Int) by rw [lv_osw hn0 (by decide), lv_osw hn1 (by decide), lv_osw hn2 (by decide), lv_osw hn3 (by decide), lv_osw hn4 (by decide), lv_osw hn5 (by decide), lv_osw hn6 (by decide), lv_osw hn7 (by decide), lv_osw hn8 (by decide), lv_osw hn9 (by decide), lv_osw hn10 (by decide)]; rfl) rfl ?_
    refine je_lload C dX6_works_384 386 rfl 0 rfl ?_
    refine je_lconst C (0) dX6_works_386 387 rfl rfl ?_
    refine je_lcmp C dX6_works_387 388 rfl ?_
    refine je_if_ne C 397 dX6_works_388 391 rfl rfl h (fun h => ?_) (fun h => ?_)
    · refine je_sub [2] [(0, .ref (G.2.1 + 66))] rfl ?_
      exact wX6_works_397 C k66 h
    refine je_lload_n C dX6_works_391 392 rfl 1 rfl ?_
    refine je_lconst C (0) dX6_works_392 393 rfl rfl ?_
    refine je_lcmp C dX6_works_393 394 rfl ?_
    refine je_if_eq C 401 dX6_works_394 397 rfl rfl h (fun h => ?_) (fun h => ?_)
    · refine je_iconst C (0) dX6_works_401 402 rfl ic_0 ?_
      refine je_sub [2] [(0, .ref (G.2.1 + 66))] rfl ?_
      exact wX6_works_402 C k66 (0 : Int32) h
    refine je_sub [2] [(0, .ref (G.2.1 + 66))] rfl ?_
    exact wX6_works_397 C k66 h
  refine je_aload_n C dX6_works_19 20 rfl 1 rfl ?_
  refine gX6_84 C dX6_works_20 23 rfl ?_
  refine je_aload_n C dX6_works_23 24 rfl 1 rfl ?_
  refine gX6_355 C dX6_works_24 27 rfl ?_
  refine je_iconst C (1) dX6_works_27 28 rfl ic_1 ?_
  refine je_isub C dX6_works_28 29 rfl ?_
  refine je_lload_n C dX6_works_29 30 rfl 0 rfl ?_
  refine je_lconst C (0) dX6_works_30 31 rfl rfl ?_
  refine je_lcmp C dX6_works_31 32 rfl ?_
  refine je_if_ne C 39 dX6_works_32 35 rfl rfl h (fun h => ?_) (fun h => ?_)
  · refine je_iconst C (0) dX6_works_39 40 rfl ic_0 ?_
    refine je_sub [1] [(0, .ref (G.2.1 + 66))] rfl ?_
    exact wX6_works_40 C κ (0 : Int32) ((κ.1 66 42) - (1 : Int32)) h
  refine je_iconst C (1) dX6_works_35 36 rfl ic_1 ?_
  refine je_goto C 40 dX6_works_36 rfl ?_
  refine je_sub [1] [(0, .ref (G.2.1 + 66))] rfl ?_
  exact wX6_works_40 C κ (1 : Int32) ((κ.1 66 42) - (1 : Int32)) h
theorem hdX6_works : je_hd yX6_works 1 := ⟨by decide +kernel, by decide +kernel, by decide +kernel⟩
theorem cwX6_372 : GoodIn lw_all (wsV "MinistryDesksModel" 372 "MinistryDesksModel" yX6_works (ws_ yX6_works cX6_works 8 (some .boolean))) := lw_V q2162 q2164 qs128 q169 q2165
theorem gX6_80 {p : Program} {l : Launch} {e : Env} {R : Room} {s : State} {m : MethodId} {args : Array Value} {below : List Frame} {meth : Method} {c : Code} {Q : State → Prop} {G : je_G} {cc : ByteArray} {nL : Nat} {rt : Option FieldType} {sz cells slots pc : Nat} {L : List (Nat × Value)} {st : List Value} {κ : kp_K} {dyn : Nat → Option je_E} (C : Cx p s m args meth c G "MinistryDesksModel" cc nL rt) (d : decode cc pc = .ok (.getfield 80, 3)) (n : Nat) (hn : pc + 3 = n) (kk : Js p l e R s m args below meth c G nL Q (en2 G κ dyn) sz cells slots n L (.ref (G.2.1 + 89) :: st)) : Js p l e R s m args below meth c G nL Q (en2 G κ dyn) sz cells slots pc L (.ref (G.2.1 + 66) :: st) := jk_getR (k := 40) (z := 0) C kd66 rfl in_X6 89 rfl (by decide) q1720 rfl d n hn kk
set_option maxHeartbeats 4000000 in
theorem wX6_goes0_85 {p : Program} {l : Launch} {e : Env} {s : State} {m : MethodId} {args : Array Value} {below : List Frame} {meth : Method} {c : Code} {G : je_G} {dyn : Nat → Option je_E} {sz : Nat} {F : Nat} {r9 : Int32 × kp_K} {k12 : kp_K → Int32 → Int32 → Option (Int32 × kp_K)} (C : Cx p s m args meth c G "MinistryDesksModel" cX6_goes0 3 (some .boolean)) (hk12 : ∀ (kq : kp_K) (q1 : Int32) (q2 : Int32), k12 kq q1 q2 = some r9 → Js p l e ({ frames := 2, cells := 0, slots := 0, locals := 50 } : Room) s m args below meth c G 3 (MQ below (je_Q G (some (.int r9.1)) (en2 G r9.2 dyn) sz) args s 0 0 (je_A G)) (en2 G kq dyn) sz 0 0 12 [(0, .ref (G.2.1 + 66)), (1, .int q1), (2, .int q2)] []) (κ : kp_K) (v1 : Int32) (v2 : Int32) (s0 : Int64) (s1 : Int32) (h : bX6_goes0_85 F k12 κ v1 v2 s0 s1 = some r9) : Js p l e ({ frames := 2, cells := 0, slots := 0, locals := 50 } : Room) s m args below meth c G 3 (MQ below (je_Q G (some (.int r9.1)) (en2 G r9.2 dyn) sz) args s 0 0 (je_A G)) (en2 G κ dyn) sz 0 0 85 [(0, .ref (G.2.1 + 66)), (1, .int v1), (2, .int v2)] [.long s0, .int s1, .ref (G.2.1 + 90)] := by
  unfold bX6_goes0_85 at h
  refine jk_last C kd90 dX6_goes0_85 86 rfl h (fun h => ?_)
  refine jk_lt h (fun k85 h => ?_)
  refine je_aload_n C dX6_goes0_86 87 rfl 0 rfl ?_
  refine je_dup C dX6_goes0_87 88 rfl rfl ?_
  refine gX6_355 C dX6_goes0_88 91 rfl ?_
  refine je_iconst C (1) dX6_goes0_91 92 rfl ic_1 ?_
  refine je_iadd C dX6_goes0_92 93 rfl ?_
  refine sX6_355 C dX6_goes0_93 96 rfl ?_
  refine jk_lt h (fun k93 h => ?_)
  refine je_iinc C (1) dX6_goes0_96 99 rfl 2 rfl ic_1 (Nat.le_of_ble_eq_true rfl) [(2, .int (v2 + (1 : Int32))), (0, .ref (G.2.1 + 66)), (1, .int v1)] rfl ?_
  refine je_goto C 12 dX6_goes0_99 rfl ?_
  refine je_sub [1, 2, 0] [(0, .ref (G.2.1 + 66)), (1, .int v1), (2, .int (v2 + (1 : Int32)))] rfl ?_
  exact hk12 k93 v1 (v2 + (1 : Int32)) h
set_option maxHeartbeats 4000000 in
theorem wX6_goes0_12 {p : Program} {l : Launch} {e : Env} {s : State} {m : MethodId} {args : Array Value} {below : List Frame} {meth : Method} {c : Code} {G : je_G} {dyn : Nat → Option je_E} {sz : Nat} {F : Nat} {r9 : Int32 × kp_K} (C : Cx p s m args meth c G "MinistryDesksModel" cX6_goes0 3 (some .boolean)) : ∀ (n : Nat) (κ : kp_K) (v1 : Int32) (v2 : Int32), bX6_goes0_12 F n κ v1 v2 = some r9 → Js p l e ({ frames := 2, cells := 0, slots := 0, locals := 50 } : Room) s m args below meth c G 3 (MQ below (je_Q G (some (.int r9.1)) (en2 G r9.2 dyn) sz) args s 0 0 (je_A G)) (en2 G κ dyn) sz 0 0 12 [(0, .ref (G.2.1 + 66)), (1, .int v1), (2, .int v2)] [] := by
  intro n
  induction n with
  | zero =>
    intro κ v1 v2 h
    cases h
  | succ n ih =>
    intro κ v1 v2 h
    rw [bX6_goes0_12] at h
    refine je_iload_n C dX6_goes0_12 13 rfl 2 rfl ?_
    refine je_aload_n C dX6_goes0_13 14 rfl 0 rfl ?_
    refine gX6_67 C dX6_goes0_14 17 rfl ?_
    refine je_iload_n C dX6_goes0_17 18 rfl 1 rfl ?_
    refine jk_iald C kd86 dX6_goes0_18 19 rfl h (fun h => ?_)
    refine je_icmp_ge C 102 dX6_goes0_19 22 rfl rfl h (fun h => ?_) (fun h => ?_)
    · refine je_iconst C (1) dX6_goes0_102 103 rfl ic_1 ?_
      cases h
      exact je_zret C dX6_goes0_103 (Or.inr rfl)
    refine je_aload_n C dX6_goes0_22 23 rfl 0 rfl ?_
    refine gX6_70 C dX6_goes0_23 26 rfl ?_
    refine je_iload_n C dX6_goes0_26 27 rfl 2 rfl ?_
    refine jk_iald C kd87 dX6_goes0_27 28 rfl h (fun h => ?_)
    refine je_iconst C (2) dX6_goes0_28 29 rfl ic_2 ?_
    refine je_icmp_ne C 47 dX6_goes0_29 32 rfl rfl h (fun h => ?_) (fun h => ?_)
    · refine je_aload_n C dX6_goes0_47 48 rfl 0 rfl ?_
      refine gX6_84 C dX6_goes0_48 51 rfl ?_
      refine je_aload_n C dX6_goes0_51 52 rfl 0 rfl ?_
      refine gX6_355 C dX6_goes0_52 55 rfl ?_
      refine je_aload_n C dX6_goes0_55 56 rfl 0 rfl ?_
      refine gX6_70 C dX6_goes0_56 59 rfl ?_
      refine je_iload_n C dX6_goes0_59 60 rfl 2 rfl ?_
      refine jk_iald C kd87 dX6_goes0_60 61 rfl h (fun h => ?_)
      refine je_if_ne C 74 dX6_goes0_61 64 rfl rfl h (fun h => ?_) (fun h => ?_)
      · refine je_aload_n C dX6_goes0_74 75 rfl 0 rfl ?_
        refine gX6_80 C dX6_goes0_75 78 rfl ?_
        refine je_aload_n C dX6_goes0_78 79 rfl 0 rfl ?_
        refine gX6_73 C dX6_goes0_79 82 rfl ?_
        refine je_iload_n C dX6_goes0_82 83 rfl 2 rfl ?_
        refine jk_iald C kd88 dX6_goes0_83 84 rfl h (fun h => ?_)
        refine je_lti h (fun i84 h => ?_)
        refine jk_lald C kd89 dX6_goes0_84 85 rfl h (fun h => ?_)
        exact wX6_goes0_85 C ih κ v1 v2 (κ.2.1 89 i84.toNatClampNeg) (κ.1 66 42) h
      refine je_aload_n C dX6_goes0_64 65 rfl 0 rfl ?_
      refine gX6_73 C dX6_goes0_65 68 rfl ?_
      refine je_iload_n C dX6_goes0_68 69 rfl 2 rfl ?_
      refine jk_iald C kd88 dX6_goes0_69 70 rfl h (fun h => ?_)
      refine je_i2l C dX6_goes0_70 71 rfl ?_
      refine je_goto C 85 dX6_goes0_71 rfl ?_
      exact wX6_goes0_85 C ih κ v1 v2 ((κ.1 88 v2.toNatClampNeg).toInt64) (κ.1 66 42) h
    refine je_aload_n C dX6_goes0_32 33 rfl 0 rfl ?_
    refine je_aload_n C dX6_goes0_33 34 rfl 0 rfl ?_
    refine gX6_73 C dX6_goes0_34 37 rfl ?_
    refine je_iload_n C dX6_goes0_37 38 rfl 2 rfl ?_
    refine jk_iald C kd88 dX6_goes0_38 39 rfl h (fun h => ?_)
    obtain ⟨q39, hg, h⟩ := p_cl_inv h
    refine je_callVi (As := [.int (κ.1 88 v2.toNatClampNeg)]) (rest := []) C (metX6_works hg) (en2_at kd66) rfl hdX6_works rfl cwX6_372 rfl ⟨Nat.le_of_ble_eq_true rfl, Nat.le_of_ble_eq_true rfl⟩ (Nat.le_of_ble_eq_true rfl) dX6_goes0_39 42 rfl ⟨Nat.le_refl _, Nat.le_refl _⟩ ?_
    refine je_lti h (fun t39 h => ?_)
    refine jk_lt h (fun k39 h => ?_)
    refine je_if_ne C 96 dX6_goes0_42 45 rfl rfl h (fun h => ?_) (fun h => ?_)
    · refine je_iinc C (1) dX6_goes0_96 99 rfl 2 rfl ic_1 (Nat.le_of_ble_eq_true rfl) [(2, .int (v2 + (1 : Int32))), (0, .ref (G.2.1 + 66)), (1, .int v1)] rfl ?_
      refine je_goto C 12 dX6_goes0_99 rfl ?_
      refine je_sub [1, 2, 0] [(0, .ref (G.2.1 + 66)), (1, .int v1), (2, .int (v2 + (1 : Int32)))] rfl ?_
      exact ih k39 v1 (v2 + (1 : Int32)) h
    refine je_iconst C (0) dX6_goes0_45 46 rfl ic_0 ?_
    cases h
    exact je_zret C dX6_goes0_46 (Or.inl rfl)
set_option maxHeartbeats 4000000 in
theorem metX6_goes0 {l : Launch} {G : je_G} {dyn : Nat → Option je_E} {sz : Nat} {F : Nat} {κ : kp_K} {v1 : Int32} {r9 : Int32 × kp_K} (h : pX6_goes0 F κ v1 = some r9) : MetS l G yX6_goes0 cX6_goes0 3 (some .boolean) 2 50 0 0 [.ref (G.2.1 + 66), .int v1] (en2 G κ dyn) sz (some (.int r9.1)) (en2 G r9.2 dyn) sz := by
  refine je_met "MinistryDesksModel" rfl (by decide +kernel) (Nat.le_of_ble_eq_true rfl) [(0, .ref (G.2.1 + 66)), (1, .int v1)] rfl (fun p e s m args below meth c C => ?_)
  unfold pX6_goes0 at h
  refine je_aload_n C dX6_goes0_0 1 rfl 0 rfl ?_
  refine je_iconst C (0) dX6_goes0_1 2 rfl ic_0 ?_
  refine sX6_355 C dX6_goes0_2 5 rfl ?_
  refine jk_lt h (fun k2 h => ?_)
  refine je_aload_n C dX6_goes0_5 6 rfl 0 rfl ?_
  refine gX6_64 C dX6_goes0_6 9 rfl ?_
  refine je_iload_n C dX6_goes0_9 10 rfl 1 rfl ?_
  refine jk_iald C kd85 dX6_goes0_10 11 rfl h (fun h => ?_)
  refine je_lti h (fun t11 h => ?_)
  refine je_istore_n C dX6_goes0_11 12 rfl (Nat.le_of_ble_eq_true rfl) [(2, .int t11), (0, .ref (G.2.1 + 66)), (1, .int v1)] rfl ?_
  refine je_sub [1, 2, 0] [(0, .ref (G.2.1 + 66)), (1, .int v1), (2, .int t11)] rfl ?_
  exact wX6_goes0_12 C F k2 v1 t11 h
theorem hdX6_askedOf : je_hd yX6_askedOf 3 := ⟨by decide +kernel, by decide +kernel, by decide +kernel⟩
theorem hdX6_goes0 : je_hd yX6_goes0 1 := ⟨by decide +kernel, by decide +kernel, by decide +kernel⟩
theorem hdX6_isTold : je_hd yX6_isTold 1 := ⟨by decide +kernel, by decide +kernel, by decide +kernel⟩
theorem hdX6_othersOf : je_hd yX6_othersOf 3 := ⟨by decide +kernel, by decide +kernel, by decide +kernel⟩
theorem cwX6_385 : GoodIn lw_all (wsV "MinistryDesksModel" 385 "MinistryDesksModel" yX6_isTold (ws_ yX6_isTold cX6_isTold 2 (some .boolean))) := lw_V q2143 q2145 qs124 q169 q2146
theorem cwX6_388 : GoodIn lw_all (wsV "MinistryDesksModel" 388 "MinistryDesksModel" yX6_othersOf (ws_ yX6_othersOf cX6_othersOf 6 (some .int))) := lw_V q2147 q2149 qs125 q169 q2150
theorem cwX6_391 : GoodIn lw_all (wsV "MinistryDesksModel" 391 "MinistryDesksModel" yX6_askedOf (ws_ yX6_askedOf cX6_askedOf 6 (some .int))) := lw_V q2151 q2153 qs126 q169 q2154
theorem cwX6_394 : GoodIn lw_all (wsV "MinistryDesksModel" 394 "MinistryDesksModel" yX6_goes0 (ws_ yX6_goes0 cX6_goes0 3 (some .boolean))) := lw_V q2158 q2160 qs127 q169 q2161
set_option maxHeartbeats 4000000 in
theorem wX6_lawOf_113 {p : Program} {l : Launch} {e : Env} {s : State} {m : MethodId} {args : Array Value} {below : List Frame} {meth : Method} {c : Code} {G : je_G} {dyn : Nat → Option je_E} {sz : Nat} {F : Nat} {r9 : Int64 × kp_K} (C : Cx p s m args meth c G "MinistryDesksModel" cX6_lawOf 9 (some .long)) (κ : kp_K) (v1 : Int32) (s0 : Int32) (s1 : Int32) (h : bX6_lawOf_113 F κ v1 s0 s1 = some r9) : Js p l e ({ frames := 3, cells := 0, slots := 0, locals := 72 } : Room) s m args below meth c G 9 (MQ below (je_Q G (some (.long r9.1)) (en2 G r9.2 dyn) sz) args s 0 0 (je_A G)) (en2 G κ dyn) sz 0 0 113 [(0, .ref (G.2.1 + 66)), (1, .int v1)] [.int s0, .int s1, .ref (G.2.1 + 89)] := by
  unfold bX6_lawOf_113 at h
  obtain ⟨t113, hg, h⟩ := p_cl_inv h
  refine je_callSl (As := [.int s0]) (rest := [.int s1, .ref (G.2.1 + 89)]) C (metX6_is hg) hdX6_is cwX6_358 rfl ⟨Nat.le_of_ble_eq_true rfl, Nat.le_of_ble_eq_true rfl⟩ (Nat.le_of_ble_eq_true rfl) dX6_lawOf_113 116 rfl ⟨Nat.le_refl _, Nat.le_refl _⟩ ?_
  refine jk_last C kd89 dX6_lawOf_116 117 rfl h (fun h => ?_)
  refine jk_lt h (fun k116 h => ?_)
  refine je_aload_n C dX6_lawOf_117 118 rfl 0 rfl ?_
  refine je_iload_n C dX6_lawOf_118 119 rfl 1 rfl ?_
  obtain ⟨q119, hg, h⟩ := p_cl_inv h
  refine je_callVi (As := [.int v1]) (rest := []) C (metX6_goes0 hg) (en2_at kd66) rfl hdX6_goes0 rfl cwX6_394 rfl ⟨Nat.le_of_ble_eq_true rfl, Nat.le_of_ble_eq_true rfl⟩ (Nat.le_of_ble_eq_true rfl) dX6_lawOf_119 122 rfl ⟨Nat.le_refl _, Nat.le_refl _⟩ ?_
  refine je_lti h (fun t119 h => ?_)
  refine jk_lt h (fun k119 h => ?_)
  refine je_if_eq C 134 dX6_lawOf_122 125 rfl rfl h (fun h => ?_) (fun h => ?_)
  · refine je_lconst C (0) dX6_lawOf_134 135 rfl rfl ?_
    cases h
    exact je_lret C dX6_lawOf_135
  refine je_aload_n C dX6_lawOf_125 126 rfl 0 rfl ?_
  refine gX6_84 C dX6_lawOf_126 129 rfl ?_
  refine je_iconst C (0) dX6_lawOf_129 130 rfl ic_0 ?_
  refine jk_lald C kd90 dX6_lawOf_130 131 rfl h (fun h => ?_)
  refine je_goto C 135 dX6_lawOf_131 rfl ?_
  cases h
  exact je_lret C dX6_lawOf_135
set_option maxHeartbeats 4000000 in
theorem wX6_lawOf_36 {p : Program} {l : Launch} {e : Env} {s : State} {m : MethodId} {args : Array Value} {below : List Frame} {meth : Method} {c : Code} {G : je_G} {dyn : Nat → Option je_E} {sz : Nat} {F : Nat} {r9 : Int64 × kp_K} (C : Cx p s m args meth c G "MinistryDesksModel" cX6_lawOf 9 (some .long)) (κ : kp_K) (v1 : Int32) (v2 : Int32) (v3 : Int32) (v4 : Int32) (v5 : Int32) (v6 : Int32) (s0 : Int64) (s1 : Int32) (h : bX6_lawOf_36 F κ v1 v2 v3 v4 v5 v6 s0 s1 = some r9) : Js p l e ({ frames := 3, cells := 0, slots := 0, locals := 72 } : Room) s m args below meth c G 9 (MQ below (je_Q G (some (.long r9.1)) (en2 G r9.2 dyn) sz) args s 0 0 (je_A G)) (en2 G κ dyn) sz 0 0 36 [(0, .ref (G.2.1 + 66)), (1, .int v1), (2, .int v2), (3, .int v3), (4, .int v4), (5, .int v5), (6, .int v6)] [.long s0, .int s1, .ref (G.2.1 + 89)] := by
  unfold bX6_lawOf_36 at h
  refine jk_last C kd89 dX6_lawOf_36 37 rfl h (fun h => ?_)
  refine jk_lt h (fun k36 h => ?_)
  refine je_aload_n C dX6_lawOf_37 38 rfl 0 rfl ?_
  refine gX6_80 C dX6_lawOf_38 41 rfl ?_
  refine je_iconst C (1) dX6_lawOf_41 42 rfl ic_1 ?_
  refine je_iload C dX6_lawOf_42 44 rfl 5 rfl ?_
  refine je_aload_n C dX6_lawOf_44 45 rfl 0 rfl ?_
  refine gX6_87 C dX6_lawOf_45 48 rfl ?_
  refine je_iload_n C dX6_lawOf_48 49 rfl 2 rfl ?_
  refine jk_iald C kd91 dX6_lawOf_49 50 rfl h (fun h => ?_)
  refine je_isub C dX6_lawOf_50 51 rfl ?_
  refine je_i2l C dX6_lawOf_51 52 rfl ?_
  refine jk_last C kd89 dX6_lawOf_52 53 rfl h (fun h => ?_)
  refine jk_lt h (fun k52 h => ?_)
  refine je_aload_n C dX6_lawOf_53 54 rfl 0 rfl ?_
  refine gX6_80 C dX6_lawOf_54 57 rfl ?_
  refine je_iconst C (2) dX6_lawOf_57 58 rfl ic_2 ?_
  refine je_aload_n C dX6_lawOf_58 59 rfl 0 rfl ?_
  refine gX6_28 C dX6_lawOf_59 62 rfl ?_
  refine je_iload C dX6_lawOf_62 64 rfl 4 rfl ?_
  refine jk_iald C kd73 dX6_lawOf_64 65 rfl h (fun h => ?_)
  refine je_i2l C dX6_lawOf_65 66 rfl ?_
  refine jk_last C kd89 dX6_lawOf_66 67 rfl h (fun h => ?_)
  refine jk_lt h (fun k66 h => ?_)
  refine je_aload_n C dX6_lawOf_67 68 rfl 0 rfl ?_
  refine gX6_80 C dX6_lawOf_68 71 rfl ?_
  refine je_iconst C (3) dX6_lawOf_71 72 rfl ic_3 ?_
  refine je_aload_n C dX6_lawOf_72 73 rfl 0 rfl ?_
  refine je_iload_n C dX6_lawOf_73 74 rfl 2 rfl ?_
  refine je_iload_n C dX6_lawOf_74 75 rfl 3 rfl ?_
  refine je_iload C dX6_lawOf_75 77 rfl 4 rfl ?_
  obtain ⟨t77, hg, h⟩ := p_cl_inv h
  refine je_callVi (As := [.int v2, .int v3, .int v4]) (rest := [.int (3 : Int32), .ref (G.2.1 + 89)]) C (metX6_othersOf hg) (en2_at kd66) rfl hdX6_othersOf rfl cwX6_388 rfl ⟨Nat.le_of_ble_eq_true rfl, Nat.le_of_ble_eq_true rfl⟩ (Nat.le_of_ble_eq_true rfl) dX6_lawOf_77 80 rfl ⟨Nat.le_refl _, Nat.le_refl _⟩ ?_
  refine je_i2l C dX6_lawOf_80 81 rfl ?_
  refine jk_last C kd89 dX6_lawOf_81 82 rfl h (fun h => ?_)
  refine jk_lt h (fun k81 h => ?_)
  refine je_aload_n C dX6_lawOf_82 83 rfl 0 rfl ?_
  refine gX6_80 C dX6_lawOf_83 86 rfl ?_
  refine je_iconst C (4) dX6_lawOf_86 87 rfl ic_4 ?_
  refine je_aload_n C dX6_lawOf_87 88 rfl 0 rfl ?_
  refine je_iload_n C dX6_lawOf_88 89 rfl 2 rfl ?_
  refine je_iload_n C dX6_lawOf_89 90 rfl 3 rfl ?_
  refine je_iload C dX6_lawOf_90 92 rfl 4 rfl ?_
  obtain ⟨t92, hg, h⟩ := p_cl_inv h
  refine je_callVi (As := [.int v2, .int v3, .int v4]) (rest := [.int (4 : Int32), .ref (G.2.1 + 89)]) C (metX6_askedOf hg) (en2_at kd66) rfl hdX6_askedOf rfl cwX6_391 rfl ⟨Nat.le_of_ble_eq_true rfl, Nat.le_of_ble_eq_true rfl⟩ (Nat.le_of_ble_eq_true rfl) dX6_lawOf_92 95 rfl ⟨Nat.le_refl _, Nat.le_refl _⟩ ?_
  refine je_i2l C dX6_lawOf_95 96 rfl ?_
  refine jk_last C kd89 dX6_lawOf_96 97 rfl h (fun h => ?_)
  refine jk_lt h (fun k96 h => ?_)
  refine je_aload_n C dX6_lawOf_97 98 rfl 0 rfl ?_
  refine gX6_80 C dX6_lawOf_98 101 rfl ?_
  refine je_iconst C (5) dX6_lawOf_101 102 rfl ic_5 ?_
  refine je_iload C dX6_lawOf_102 104 rfl 6 rfl ?_
  refine je_iconst C (-1) dX6_lawOf_104 105 rfl ic_m1 ?_
  refine je_icmp_ne C 112 dX6_lawOf_105 108 rfl rfl h (fun h => ?_) (fun h => ?_)
  · refine je_iconst C (0) dX6_lawOf_112 113 rfl ic_0 ?_
    refine je_sub [0, 1] [(0, .ref (G.2.1 + 66)), (1, .int v1)] rfl ?_
    exact wX6_lawOf_113 C k96 v1 (0 : Int32) (5 : Int32) h
  refine je_iconst C (1) dX6_lawOf_108 109 rfl ic_1 ?_
  refine je_goto C 113 dX6_lawOf_109 rfl ?_
  refine je_sub [0, 1] [(0, .ref (G.2.1 + 66)), (1, .int v1)] rfl ?_
  exact wX6_lawOf_113 C k96 v1 (1 : Int32) (5 : Int32) h
set_option maxHeartbeats 4000000 in
theorem metX6_lawOf {l : Launch} {G : je_G} {dyn : Nat → Option je_E} {sz : Nat} {F : Nat} {κ : kp_K} {v1 : Int32} {v2 : Int32} {v3 : Int32} {v4 : Int32} {v5 : Int32} {v6 : Int32} {v7 : Int64} {r9 : Int64 × kp_K} (h : pX6_lawOf F κ v1 v2 v3 v4 v5 v6 v7 = some r9) : MetS l G yX6_lawOf cX6_lawOf 9 (some .long) 3 72 0 0 [.ref (G.2.1 + 66), .int v1, .int v2, .int v3, .int v4, .int v5, .int v6, .long v7] (en2 G κ dyn) sz (some (.long r9.1)) (en2 G r9.2 dyn) sz := by
  refine je_met "MinistryDesksModel" rfl (by decide +kernel) (Nat.le_of_ble_eq_true rfl) [(0, .ref (G.2.1 + 66)), (1, .int v1), (2, .int v2), (3, .int v3), (4, .int v4), (5, .int v5), (6, .int v6), (7, .long v7)] rfl (fun p e s m args below meth c C => ?_)
  unfold pX6_lawOf at h
  refine je_aload_n C dX6_lawOf_0 1 rfl 0 rfl ?_
  refine je_iload_n C dX6_lawOf_1 2 rfl 1 rfl ?_
  obtain ⟨t2, hg, h⟩ := p_cl_inv h
  refine je_callVi (As := [.int v1]) (rest := []) C (metX6_isTold hg) (en2_at kd66) rfl hdX6_isTold rfl cwX6_385 rfl ⟨Nat.le_of_ble_eq_true rfl, Nat.le_of_ble_eq_true rfl⟩ (Nat.le_of_ble_eq_true rfl) dX6_lawOf_2 5 rfl ⟨Nat.le_refl _, Nat.le_refl _⟩ ?_
  refine je_if_ne C 11 dX6_lawOf_5 8 rfl rfl h (fun h => ?_) (fun h => ?_)
  · refine je_aload_n C dX6_lawOf_11 12 rfl 0 rfl ?_
    refine gX6_80 C dX6_lawOf_12 15 rfl ?_
    refine je_iconst C (0) dX6_lawOf_15 16 rfl ic_0 ?_
    refine je_iload C dX6_lawOf_16 18 rfl 6 rfl ?_
    refine je_iconst C (-1) dX6_lawOf_18 19 rfl ic_m1 ?_
    refine je_icmp_ne C 26 dX6_lawOf_19 22 rfl rfl h (fun h => ?_) (fun h => ?_)
    · refine je_aload_n C dX6_lawOf_26 27 rfl 0 rfl ?_
      refine gX6_87 C dX6_lawOf_27 30 rfl ?_
      refine je_iload_n C dX6_lawOf_30 31 rfl 2 rfl ?_
      refine jk_iald C kd91 dX6_lawOf_31 32 rfl h (fun h => ?_)
      refine je_iload C dX6_lawOf_32 34 rfl 6 rfl ?_
      refine je_isub C dX6_lawOf_34 35 rfl ?_
      refine je_i2l C dX6_lawOf_35 36 rfl ?_
      refine je_sub [0, 1, 2, 3, 4, 5, 6] [(0, .ref (G.2.1 + 66)), (1, .int v1), (2, .int v2), (3, .int v3), (4, .int v4), (5, .int v5), (6, .int v6)] rfl ?_
      exact wX6_lawOf_36 C κ v1 v2 v3 v4 v5 v6 (((κ.1 91 v2.toNatClampNeg) - v6).toInt64) (0 : Int32) h
    refine je_lconst C (0) dX6_lawOf_22 23 rfl rfl ?_
    refine je_goto C 36 dX6_lawOf_23 rfl ?_
    refine je_sub [0, 1, 2, 3, 4, 5, 6] [(0, .ref (G.2.1 + 66)), (1, .int v1), (2, .int v2), (3, .int v3), (4, .int v4), (5, .int v5), (6, .int v6)] rfl ?_
    exact wX6_lawOf_36 C κ v1 v2 v3 v4 v5 v6 (0 : Int64) (0 : Int32) h
  refine je_lload C dX6_lawOf_8 10 rfl 7 rfl ?_
  cases h
  exact je_lret C dX6_lawOf_10
theorem hdX6_lawOf : je_hd yX6_lawOf 7 := ⟨by decide +kernel, by decide +kernel, by decide +kernel⟩
theorem cwX6_397 : GoodIn lw_all (wsV "MinistryDesksModel" 397 "MinistryDesksModel" yX6_lawOf (ws_ yX6_lawOf cX6_lawOf 9 (some .long))) := lw_V q2139 q2141 qs123 q169 q2142
theorem gX6_352 {p : Program} {l : Launch} {e : Env} {R : Room} {s : State} {m : MethodId} {args : Array Value} {below : List Frame} {meth : Method} {c : Code} {Q : State → Prop} {G : je_G} {cc : ByteArray} {nL : Nat} {rt : Option FieldType} {sz cells slots pc : Nat} {L : List (Nat × Value)} {st : List Value} {κ : kp_K} {dyn : Nat → Option je_E} (C : Cx p s m args meth c G "MinistryDesksModel" cc nL rt) (d : decode cc pc = .ok (.getfield 352, 3)) (n : Nat) (hn : pc + 3 = n) (kk : Js p l e R s m args below meth c G nL Q (en2 G κ dyn) sz cells slots n L (.int (κ.1 66 39) :: st)) : Js p l e R s m args below meth c G nL Q (en2 G κ dyn) sz cells slots pc L (.ref (G.2.1 + 66) :: st) := jk_getI (k := 39) C kd66 rfl in_X6 rfl (by decide) q1719 rfl d n hn kk
set_option maxHeartbeats 4000000 in
theorem metX6_keepOf {l : Launch} {G : je_G} {dyn : Nat → Option je_E} {sz : Nat} {F : Nat} {κ : kp_K} {v1 : Int32} {v2 : Int32} {v3 : Int32} {v4 : Int32} {v5 : Int32} {r9 : Int64 × kp_K} (h : pX6_keepOf F κ v1 v2 v3 v4 v5 = some r9) : MetS l G yX6_keepOf cX6_keepOf 6 (some .long) 4 100 0 0 [.ref (G.2.1 + 66), .int v1, .int v2, .int v3, .int v4, .int v5] (en2 G κ dyn) sz (some (.long r9.1)) (en2 G r9.2 dyn) sz := by
  refine je_met "MinistryDesksModel" rfl (by decide +kernel) (Nat.le_of_ble_eq_true rfl) [(0, .ref (G.2.1 + 66)), (1, .int v1), (2, .int v2), (3, .int v3), (4, .int v4), (5, .int v5)] rfl (fun p e s m args below meth c C => ?_)
  unfold pX6_keepOf at h
  refine je_aload_n C dX6_keepOf_0 1 rfl 0 rfl ?_
  refine je_aload_n C dX6_keepOf_1 2 rfl 0 rfl ?_
  refine gX6_352 C dX6_keepOf_2 5 rfl ?_
  refine je_iload_n C dX6_keepOf_5 6 rfl 1 rfl ?_
  refine je_iload_n C dX6_keepOf_6 7 rfl 2 rfl ?_
  refine je_iload_n C dX6_keepOf_7 8 rfl 3 rfl ?_
  refine je_iload C dX6_keepOf_8 10 rfl 4 rfl ?_
  refine je_iload C dX6_keepOf_10 12 rfl 5 rfl ?_
  refine je_iload C dX6_keepOf_12 14 rfl 4 rfl ?_
  refine je_aload_n C dX6_keepOf_14 15 rfl 0 rfl ?_
  refine gX6_87 C dX6_keepOf_15 18 rfl ?_
  refine je_iload_n C dX6_keepOf_18 19 rfl 1 rfl ?_
  refine jk_iald C kd91 dX6_keepOf_19 20 rfl h (fun h => ?_)
  refine je_isub C dX6_keepOf_20 21 rfl ?_
  refine je_i2l C dX6_keepOf_21 22 rfl ?_
  obtain ⟨q22, hg, h⟩ := p_cl_inv h
  refine je_callVl (As := [.int (κ.1 66 39), .int v1, .int v2, .int v3, .int v4, .int v5, .long ((v4 - (κ.1 91 v1.toNatClampNeg)).toInt64)]) (rest := []) C (metX6_lawOf hg) (en2_at kd66) rfl hdX6_lawOf rfl cwX6_397 rfl ⟨Nat.le_of_ble_eq_true rfl, Nat.le_of_ble_eq_true rfl⟩ (Nat.le_of_ble_eq_true rfl) dX6_keepOf_22 25 rfl ⟨Nat.le_refl _, Nat.le_refl _⟩ ?_
  refine je_ltl h (fun t22 h => ?_)
  refine jk_lt h (fun k22 h => ?_)
  cases h
  exact je_lret C dX6_keepOf_25
theorem hdX6_keepOf : je_hd yX6_keepOf 5 := ⟨by decide +kernel, by decide +kernel, by decide +kernel⟩
theorem cwX6_423 : GoodIn lw_all (wsV "MinistryDesksModel" 423 "MinistryDesksModel" yX6_keepOf (ws_ yX6_keepOf cX6_keepOf 6 (some .long))) := lw_V q2135 q2137 qs122 q169 q2138
set_option maxHeartbeats 4000000 in
theorem wX6_leastOf_78 {p : Program} {l : Launch} {e : Env} {s : State} {m : MethodId} {args : Array Value} {below : List Frame} {meth : Method} {c : Code} {G : je_G} {dyn : Nat → Option je_E} {sz : Nat} {F : Nat} {r9 : Int32 × kp_K} {k9 : kp_K → Int32 → Int32 → Int32 → Int32 → Int32 → Int64 → Int32 → Option (Int32 × kp_K)} (C : Cx p s m args meth c G "MinistryDesksModel" cX6_leastOf 12 (some .int)) (hk9 : ∀ (kq : kp_K) (q1 : Int32) (q2 : Int32) (q3 : Int32) (q4 : Int32) (q5 : Int32) (q6 : Int64) (q8 : Int32), k9 kq q1 q2 q3 q4 q5 q6 q8 = some r9 → Js p l e ({ frames := 5, cells := 0, slots := 0, locals := 125 } : Room) s m args below meth c G 12 (MQ below (je_Q G (some (.int r9.1)) (en2 G r9.2 dyn) sz) args s 0 0 (je_A G)) (en2 G kq dyn) sz 0 0 9 [(0, .ref (G.2.1 + 66)), (1, .int q1), (2, .int q2), (3, .int q3), (4, .int q4), (5, .int q5), (6, .long q6), (8, .int q8)] []) (κ : kp_K) (v1 : Int32) (v2 : Int32) (v3 : Int32) (v4 : Int32) (v8 : Int32) (v10 : Int64) (h : bX6_leastOf_78 F k9 κ v1 v2 v3 v4 v8 v10 = some r9) : Js p l e ({ frames := 5, cells := 0, slots := 0, locals := 125 } : Room) s m args below meth c G 12 (MQ below (je_Q G (some (.int r9.1)) (en2 G r9.2 dyn) sz) args s 0 0 (je_A G)) (en2 G κ dyn) sz 0 0 78 [(0, .ref (G.2.1 + 66)), (1, .int v1), (2, .int v2), (3, .int v3), (4, .int v4), (8, .int v8), (10, .long v10)] [] := by
  unfold bX6_leastOf_78 at h
  refine je_iload C dX6_leastOf_78 80 rfl 5 rfl ?_
  refine je_istore C dX6_leastOf_80 82 rfl (Nat.le_of_ble_eq_true rfl) [(5, .int v8), (0, .ref (G.2.1 + 66)), (1, .int v1), (2, .int v2), (3, .int v3), (4, .int v4), (8, .int v8), (10, .long v10)] rfl ?_
  refine je_lload C dX6_leastOf_82 84 rfl 7 rfl ?_
  refine je_lstore C dX6_leastOf_84 86 rfl (Nat.le_of_ble_eq_true rfl) [(6, .long v10), (5, .int v8), (0, .ref (G.2.1 + 66)), (1, .int v1), (2, .int v2), (3, .int v3), (4, .int v4), (8, .int v8), (10, .long v10)] rfl ?_
  refine je_iinc C (1) dX6_leastOf_86 89 rfl 7 rfl ic_1 (Nat.le_of_ble_eq_true rfl) [(8, .int (v8 + (1 : Int32))), (6, .long v10), (5, .int v8), (0, .ref (G.2.1 + 66)), (1, .int v1), (2, .int v2), (3, .int v3), (4, .int v4), (10, .long v10)] rfl ?_
  refine je_goto C 9 dX6_leastOf_89 rfl ?_
  refine je_sub [3, 4, 5, 6, 7, 2, 1, 0] [(0, .ref (G.2.1 + 66)), (1, .int v1), (2, .int v2), (3, .int v3), (4, .int v4), (5, .int v8), (6, .long v10), (8, .int (v8 + (1 : Int32)))] rfl ?_
  exact hk9 κ v1 v2 v3 v4 v8 v10 (v8 + (1 : Int32)) h
set_option maxHeartbeats 4000000 in
theorem wX6_leastOf_9 {p : Program} {l : Launch} {e : Env} {s : State} {m : MethodId} {args : Array Value} {below : List Frame} {meth : Method} {c : Code} {G : je_G} {dyn : Nat → Option je_E} {sz : Nat} {F : Nat} {r9 : Int32 × kp_K} (C : Cx p s m args meth c G "MinistryDesksModel" cX6_leastOf 12 (some .int)) : ∀ (n : Nat) (κ : kp_K) (v1 : Int32) (v2 : Int32) (v3 : Int32) (v4 : Int32) (v5 : Int32) (v6 : Int64) (v8 : Int32), bX6_leastOf_9 F n κ v1 v2 v3 v4 v5 v6 v8 = some r9 → Js p l e ({ frames := 5, cells := 0, slots := 0, locals := 125 } : Room) s m args below meth c G 12 (MQ below (je_Q G (some (.int r9.1)) (en2 G r9.2 dyn) sz) args s 0 0 (je_A G)) (en2 G κ dyn) sz 0 0 9 [(0, .ref (G.2.1 + 66)), (1, .int v1), (2, .int v2), (3, .int v3), (4, .int v4), (5, .int v5), (6, .long v6), (8, .int v8)] [] := by
  intro n
  induction n with
  | zero =>
    intro κ v1 v2 v3 v4 v5 v6 v8 h
    cases h
  | succ n ih =>
    intro κ v1 v2 v3 v4 v5 v6 v8 h
    rw [bX6_leastOf_9] at h
    refine je_iload C dX6_leastOf_9 11 rfl 7 rfl ?_
    refine je_aload_n C dX6_leastOf_11 12 rfl 0 rfl ?_
    refine gX6_90 C dX6_leastOf_12 15 rfl ?_
    refine je_iconst C (4) dX6_leastOf_15 16 rfl ic_4 ?_
    refine je_iload_n C dX6_leastOf_16 17 rfl 1 rfl ?_
    refine je_imul C dX6_leastOf_17 18 rfl ?_
    refine je_iload_n C dX6_leastOf_18 19 rfl 2 rfl ?_
    refine je_iadd C dX6_leastOf_19 20 rfl ?_
    refine je_lti h (fun i20 h => ?_)
    refine jk_iald C kd92 dX6_leastOf_20 21 rfl h (fun h => ?_)
    refine je_icmp_ge C 92 dX6_leastOf_21 24 rfl rfl h (fun h => ?_) (fun h => ?_)
    · refine je_aload_n C dX6_leastOf_92 93 rfl 0 rfl ?_
      refine je_iload_n C dX6_leastOf_93 94 rfl 1 rfl ?_
      refine je_iload_n C dX6_leastOf_94 95 rfl 2 rfl ?_
      refine je_iload_n C dX6_leastOf_95 96 rfl 3 rfl ?_
      refine je_iload C dX6_leastOf_96 98 rfl 4 rfl ?_
      refine je_iconst C (-1) dX6_leastOf_98 99 rfl ic_m1 ?_
      obtain ⟨q99, hg, h⟩ := p_cl_inv h
      refine je_callVl (As := [.int v1, .int v2, .int v3, .int v4, .int (-1 : Int32)]) (rest := []) C (metX6_keepOf hg) (en2_at kd66) rfl hdX6_keepOf rfl cwX6_423 rfl ⟨Nat.le_of_ble_eq_true rfl, Nat.le_of_ble_eq_true rfl⟩ (Nat.le_of_ble_eq_true rfl) dX6_leastOf_99 102 rfl ⟨Nat.le_refl _, Nat.le_refl _⟩ ?_
      refine je_ltl h (fun t99 h => ?_)
      refine jk_lt h (fun k99 h => ?_)
      refine je_lload C dX6_leastOf_102 104 rfl 6 rfl ?_
      refine je_lcmp C dX6_leastOf_104 105 rfl ?_
      refine je_if_ge C 112 dX6_leastOf_105 108 rfl rfl h (fun h => ?_) (fun h => ?_)
      · refine je_iload C dX6_leastOf_112 114 rfl 5 rfl ?_
        cases h
        exact je_iret C dX6_leastOf_114
      refine je_iconst C (-1) dX6_leastOf_108 109 rfl ic_m1 ?_
      refine je_goto C 114 dX6_leastOf_109 rfl ?_
      cases h
      exact je_iret C dX6_leastOf_114
    refine je_iload_n C dX6_leastOf_24 25 rfl 1 rfl ?_
    refine je_iload_n C dX6_leastOf_25 26 rfl 2 rfl ?_
    refine je_iload C dX6_leastOf_26 28 rfl 7 rfl ?_
    obtain ⟨t28, hg, h⟩ := p_cl_inv h
    refine je_callSi (As := [.int v1, .int v2, .int v8]) (rest := []) C (metX6_slot hg) hdX6_slot cwX6_375 rfl ⟨Nat.le_of_ble_eq_true rfl, Nat.le_of_ble_eq_true rfl⟩ (Nat.le_of_ble_eq_true rfl) dX6_leastOf_28 31 rfl ⟨Nat.le_refl _, Nat.le_refl _⟩ ?_
    refine je_istore C dX6_leastOf_31 33 rfl (Nat.le_of_ble_eq_true rfl) [(9, .int t28), (0, .ref (G.2.1 + 66)), (1, .int v1), (2, .int v2), (3, .int v3), (4, .int v4), (5, .int v5), (6, .long v6), (8, .int v8)] rfl ?_
    refine je_aload_n C dX6_leastOf_33 34 rfl 1 rfl ?_
    refine je_iload_n C dX6_leastOf_34 35 rfl 2 rfl ?_
    refine je_iload_n C dX6_leastOf_35 36 rfl 3 rfl ?_
    refine je_aload_n C dX6_leastOf_36 37 rfl 1 rfl ?_
    refine gX6_93 C dX6_leastOf_37 40 rfl ?_
    refine je_iload C dX6_leastOf_40 42 rfl 0 rfl ?_
    refine jk_iald C kd93 dX6_leastOf_42 43 rfl h (fun h => ?_)
    refine je_aload_n C dX6_leastOf_43 44 rfl 1 rfl ?_
    refine gX6_96 C dX6_leastOf_44 47 rfl ?_
    refine je_iload C dX6_leastOf_47 49 rfl 0 rfl ?_
    refine jk_iald C kd94 dX6_leastOf_49 50 rfl h (fun h => ?_)
    refine je_aload_n C dX6_leastOf_50 51 rfl 1 rfl ?_
    refine gX6_99 C dX6_leastOf_51 54 rfl ?_
    refine je_iload C dX6_leastOf_54 56 rfl 0 rfl ?_
    refine jk_iald C kd95 dX6_leastOf_56 57 rfl h (fun h => ?_)
    obtain ⟨q57, hg, h⟩ := p_cl_inv h
    refine je_callVl (As := [.int v1, .int v2, .int (κ.1 93 t28.toNatClampNeg), .int (κ.1 94 t28.toNatClampNeg), .int (κ.1 95 t28.toNatClampNeg)]) (rest := []) C (metX6_keepOf hg) (en2_at kd66) rfl hdX6_keepOf rfl cwX6_423 rfl ⟨Nat.le_of_ble_eq_true rfl, Nat.le_of_ble_eq_true rfl⟩ (Nat.le_of_ble_eq_true rfl) dX6_leastOf_57 60 rfl ⟨Nat.le_refl _, Nat.le_refl _⟩ ?_
    refine je_ltl h (fun t57 h => ?_)
    refine jk_lt h (fun k57 h => ?_)
    refine je_lstore C dX6_leastOf_60 62 rfl (Nat.le_of_ble_eq_true rfl) [(10, .long t57), (9, .int t28), (0, .ref (G.2.1 + 66)), (1, .int v1), (2, .int v2), (3, .int v3), (4, .int v4), (5, .int v5), (6, .long v6), (8, .int v8)] rfl ?_
    refine je_iload C dX6_leastOf_62 64 rfl 9 rfl ?_
    refine je_if_le C 78 dX6_leastOf_64 67 rfl rfl h (fun h => ?_) (fun h => ?_)
    · refine je_sub [2, 3, 4, 5, 6, 9, 0] [(0, .ref (G.2.1 + 66)), (1, .int v1), (2, .int v2), (3, .int v3), (4, .int v4), (8, .int v8), (10, .long t57)] rfl ?_
      exact wX6_leastOf_78 C ih k57 v1 v2 v3 v4 v8 t57 h
    refine je_lload C dX6_leastOf_67 69 rfl 0 rfl ?_
    refine je_lload C dX6_leastOf_69 71 rfl 8 rfl ?_
    refine je_lcmp C dX6_leastOf_71 72 rfl ?_
    refine je_if_lt C 78 dX6_leastOf_72 75 rfl rfl h (fun h => ?_) (fun h => ?_)
    · refine je_sub [2, 3, 4, 5, 6, 9, 0] [(0, .ref (G.2.1 + 66)), (1, .int v1), (2, .int v2), (3, .int v3), (4, .int v4), (8, .int v8), (10, .long t57)] rfl ?_
      exact wX6_leastOf_78 C ih k57 v1 v2 v3 v4 v8 t57 h
    refine je_goto C 86 dX6_leastOf_75 rfl ?_
    refine je_iinc C (1) dX6_leastOf_86 89 rfl 9 rfl ic_1 (Nat.le_of_ble_eq_true rfl) [(8, .int (v8 + (1 : Int32))), (10, .long t57), (9, .int t28), (0, .ref (G.2.1 + 66)), (1, .int v1), (2, .int v2), (3, .int v3), (4, .int v4), (5, .int v5), (6, .long v6)] rfl ?_
    refine je_goto C 9 dX6_leastOf_89 rfl ?_
    refine je_sub [3, 4, 5, 6, 7, 8, 9, 0] [(0, .ref (G.2.1 + 66)), (1, .int v1), (2, .int v2), (3, .int v3), (4, .int v4), (5, .int v5), (6, .long v6), (8, .int (v8 + (1 : Int32)))] rfl ?_
    exact ih k57 v1 v2 v3 v4 v5 v6 (v8 + (1 : Int32)) h
set_option maxHeartbeats 4000000 in
theorem metX6_leastOf {l : Launch} {G : je_G} {dyn : Nat → Option je_E} {sz : Nat} {F : Nat} {κ : kp_K} {v1 : Int32} {v2 : Int32} {v3 : Int32} {v4 : Int32} {r9 : Int32 × kp_K} (h : pX6_leastOf F κ v1 v2 v3 v4 = some r9) : MetS l G yX6_leastOf cX6_leastOf 12 (some .int) 5 125 0 0 [.ref (G.2.1 + 66), .int v1, .int v2, .int v3, .int v4] (en2 G κ dyn) sz (some (.int r9.1)) (en2 G r9.2 dyn) sz := by
  refine je_met "MinistryDesksModel" rfl (by decide +kernel) (Nat.le_of_ble_eq_true rfl) [(0, .ref (G.2.1 + 66)), (1, .int v1), (2, .int v2), (3, .int v3), (4, .int v4)] rfl (fun p e s m args below meth c C => ?_)
  unfold pX6_leastOf at h
  refine je_iconst C (0) dX6_leastOf_0 1 rfl ic_0 ?_
  refine je_istore C dX6_leastOf_1 3 rfl (Nat.le_of_ble_eq_true rfl) [(5, .int (0 : Int32)), (0, .ref (G.2.1 + 66)), (1, .int v1), (2, .int v2), (3, .int v3), (4, .int v4)] rfl ?_
  refine je_lconst C (0) dX6_leastOf_3 4 rfl rfl ?_
  refine je_lstore C dX6_leastOf_4 6 rfl (Nat.le_of_ble_eq_true rfl) [(6, .long (0 : Int64)), (5, .int (0 : Int32)), (0, .ref (G.2.1 + 66)), (1, .int v1), (2, .int v2), (3, .int v3), (4, .int v4)] rfl ?_
  refine je_iconst C (0) dX6_leastOf_6 7 rfl ic_0 ?_
  refine je_istore C dX6_leastOf_7 9 rfl (Nat.le_of_ble_eq_true rfl) [(8, .int (0 : Int32)), (6, .long (0 : Int64)), (5, .int (0 : Int32)), (0, .ref (G.2.1 + 66)), (1, .int v1), (2, .int v2), (3, .int v3), (4, .int v4)] rfl ?_
  refine je_sub [3, 4, 5, 6, 7, 2, 1, 0] [(0, .ref (G.2.1 + 66)), (1, .int v1), (2, .int v2), (3, .int v3), (4, .int v4), (5, .int (0 : Int32)), (6, .long (0 : Int64)), (8, .int (0 : Int32))] rfl ?_
  exact wX6_leastOf_9 C F κ v1 v2 v3 v4 (0 : Int32) (0 : Int64) (0 : Int32) h
theorem hdX6_drops : je_hd yX6_drops 3 := ⟨by decide +kernel, by decide +kernel, by decide +kernel⟩
theorem hdX6_leastOf : je_hd yX6_leastOf 4 := ⟨by decide +kernel, by decide +kernel, by decide +kernel⟩
theorem hdX6_lineOf : je_hd yX6_lineOf 3 := ⟨by decide +kernel, by decide +kernel, by decide +kernel⟩
theorem hdX6_notes : je_hd yX6_notes 4 := ⟨by decide +kernel, by decide +kernel, by decide +kernel⟩
theorem hdX6_roomOf : je_hd yX6_roomOf 1 := ⟨by decide +kernel, by decide +kernel, by decide +kernel⟩
theorem hdX6_sets : je_hd yX6_sets 5 := ⟨by decide +kernel, by decide +kernel, by decide +kernel⟩
theorem cwX6_401 : GoodIn lw_all (wsV "MinistryDesksModel" 401 "MinistryDesksModel" yX6_lineOf (ws_ yX6_lineOf cX6_lineOf 5 (some .int))) := lw_V q2119 q2121 qs118 q169 q2122
theorem cwX6_404 : GoodIn lw_all (wsV "MinistryDesksModel" 404 "MinistryDesksModel" yX6_sets (ws_ yX6_sets cX6_sets 6 none)) := lw_V q2123 q2125 qs119 q169 q2126
theorem cwX6_408 : GoodIn lw_all (wsV "MinistryDesksModel" 408 "MinistryDesksModel" yX6_roomOf (ws_ yX6_roomOf cX6_roomOf 2 (some .int))) := lw_V q2127 q2129 qs120 q169 q2130
theorem cwX6_411 : GoodIn lw_all (wsV "MinistryDesksModel" 411 "MinistryDesksModel" yX6_leastOf (ws_ yX6_leastOf cX6_leastOf 12 (some .int))) := lw_V q2131 q2133 qs121 q169 q2134
theorem cwX6_415 : GoodIn lw_all (wsV "MinistryDesksModel" 415 "MinistryDesksModel" yX6_notes (ws_ yX6_notes cX6_notes 6 none)) := lw_V q2103 q2105 qs114 q169 q2106
theorem cwX6_419 : GoodIn lw_all (wsV "MinistryDesksModel" 419 "MinistryDesksModel" yX6_drops (ws_ yX6_drops cX6_drops 5 none)) := lw_V q2107 q2109 qs115 q169 q2110
theorem gX6_108 {p : Program} {l : Launch} {e : Env} {R : Room} {s : State} {m : MethodId} {args : Array Value} {below : List Frame} {meth : Method} {c : Code} {Q : State → Prop} {G : je_G} {cc : ByteArray} {nL : Nat} {rt : Option FieldType} {sz cells slots pc : Nat} {L : List (Nat × Value)} {st : List Value} {κ : kp_K} {dyn : Nat → Option je_E} (C : Cx p s m args meth c G "MinistryDesksModel" cc nL rt) (d : decode cc pc = .ok (.getfield 108, 3)) (n : Nat) (hn : pc + 3 = n) (kk : Js p l e R s m args below meth c G nL Q (en2 G κ dyn) sz cells slots n L (.ref (G.2.1 + 98) :: st)) : Js p l e R s m args below meth c G nL Q (en2 G κ dyn) sz cells slots pc L (.ref (G.2.1 + 66) :: st) := jk_getR (k := 50) (z := 0) C kd66 rfl in_X6 98 rfl (by decide) q1730 rfl d n hn kk
set_option maxHeartbeats 4000000 in
theorem wX6_arrives_112 {p : Program} {l : Launch} {e : Env} {s : State} {m : MethodId} {args : Array Value} {below : List Frame} {meth : Method} {c : Code} {G : je_G} {dyn : Nat → Option je_E} {sz : Nat} {F : Nat} {r9 : kp_K} (C : Cx p s m args meth c G "MinistryDesksModel" cX6_arrives 8 none) (κ : kp_K) (v1 : Int32) (v2 : Int32) (v3 : Int32) (v4 : Int32) (v5 : Int32) (s0 : Int32) (h : bX6_arrives_112 F κ v1 v2 v3 v4 v5 s0 = some r9) : Js p l e ({ frames := 6, cells := 0, slots := 0, locals := 156 } : Room) s m args below meth c G 8 (MQ below (je_Q G none (en2 G r9 dyn) sz) args s 0 0 (je_A G)) (en2 G κ dyn) sz 0 0 112 [(0, .ref (G.2.1 + 66)), (1, .int v1), (2, .int v2), (3, .int v3), (4, .int v4), (5, .int v5)] [.int s0] := by
  unfold bX6_arrives_112 at h
  refine je_istore C dX6_arrives_112 114 rfl (Nat.le_of_ble_eq_true rfl) [(7, .int s0), (0, .ref (G.2.1 + 66)), (1, .int v1), (2, .int v2), (3, .int v3), (4, .int v4), (5, .int v5)] rfl ?_
  refine je_iload C dX6_arrives_114 116 rfl 0 rfl ?_
  refine je_iconst C (-1) dX6_arrives_116 117 rfl ic_m1 ?_
  refine je_icmp_ne C 129 dX6_arrives_117 120 rfl rfl h (fun h => ?_) (fun h => ?_)
  · refine je_aload_n C dX6_arrives_129 130 rfl 1 rfl ?_
    refine je_iload_n C dX6_arrives_130 131 rfl 2 rfl ?_
    refine je_iload_n C dX6_arrives_131 132 rfl 3 rfl ?_
    refine je_aload_n C dX6_arrives_132 133 rfl 1 rfl ?_
    refine gX6_93 C dX6_arrives_133 136 rfl ?_
    refine je_iload_n C dX6_arrives_136 137 rfl 2 rfl ?_
    refine je_iload_n C dX6_arrives_137 138 rfl 3 rfl ?_
    refine je_iload C dX6_arrives_138 140 rfl 0 rfl ?_
    obtain ⟨t140, hg, h⟩ := p_cl_inv h
    refine je_callSi (As := [.int v1, .int v2, .int s0]) (rest := [.ref (G.2.1 + 93), .int v2, .int v1, .ref (G.2.1 + 66)]) C (metX6_slot hg) hdX6_slot cwX6_375 rfl ⟨Nat.le_of_ble_eq_true rfl, Nat.le_of_ble_eq_true rfl⟩ (Nat.le_of_ble_eq_true rfl) dX6_arrives_140 143 rfl ⟨Nat.le_refl _, Nat.le_refl _⟩ ?_
    refine jk_iald C kd93 dX6_arrives_143 144 rfl h (fun h => ?_)
    refine je_iconst C (1) dX6_arrives_144 145 rfl ic_1 ?_
    obtain ⟨k145, hg, h⟩ := p_cl_inv h
    refine je_callVv (As := [.int v1, .int v2, .int (κ.1 93 t140.toNatClampNeg), .int (1 : Int32)]) (rest := []) C (metX6_notes hg) (en2_at kd66) rfl hdX6_notes rfl cwX6_415 rfl ⟨Nat.le_of_ble_eq_true rfl, Nat.le_of_ble_eq_true rfl⟩ (Nat.le_of_ble_eq_true rfl) dX6_arrives_145 148 rfl ⟨Nat.le_refl _, Nat.le_refl _⟩ ?_
    refine je_aload_n C dX6_arrives_148 149 rfl 1 rfl ?_
    refine je_iload_n C dX6_arrives_149 150 rfl 2 rfl ?_
    refine je_iload_n C dX6_arrives_150 151 rfl 3 rfl ?_
    refine je_iload C dX6_arrives_151 153 rfl 0 rfl ?_
    obtain ⟨k153, hg, h⟩ := p_cl_inv h
    refine je_callVv (As := [.int v1, .int v2, .int s0]) (rest := []) C (metX6_drops hg) (en2_at kd66) rfl hdX6_drops rfl cwX6_419 rfl ⟨Nat.le_of_ble_eq_true rfl, Nat.le_of_ble_eq_true rfl⟩ (Nat.le_of_ble_eq_true rfl) dX6_arrives_153 156 rfl ⟨Nat.le_refl _, Nat.le_refl _⟩ ?_
    refine je_aload_n C dX6_arrives_156 157 rfl 1 rfl ?_
    refine je_iload_n C dX6_arrives_157 158 rfl 2 rfl ?_
    refine je_iload_n C dX6_arrives_158 159 rfl 3 rfl ?_
    refine je_aload_n C dX6_arrives_159 160 rfl 1 rfl ?_
    refine gX6_90 C dX6_arrives_160 163 rfl ?_
    refine je_iload C dX6_arrives_163 165 rfl 6 rfl ?_
    refine jk_iald C kd92 dX6_arrives_165 166 rfl h (fun h => ?_)
    refine je_iload_n C dX6_arrives_166 167 rfl 4 rfl ?_
    refine je_iload C dX6_arrives_167 169 rfl 5 rfl ?_
    obtain ⟨k169, hg, h⟩ := p_cl_inv h
    refine je_callVv (As := [.int v1, .int v2, .int (k153.1 92 v5.toNatClampNeg), .int v3, .int v4]) (rest := []) C (metX6_sets hg) (en2_at kd66) rfl hdX6_sets rfl cwX6_404 rfl ⟨Nat.le_of_ble_eq_true rfl, Nat.le_of_ble_eq_true rfl⟩ (Nat.le_of_ble_eq_true rfl) dX6_arrives_169 172 rfl ⟨Nat.le_refl _, Nat.le_refl _⟩ ?_
    refine je_aload_n C dX6_arrives_172 173 rfl 1 rfl ?_
    refine gX6_90 C dX6_arrives_173 176 rfl ?_
    refine je_iload C dX6_arrives_176 178 rfl 6 rfl ?_
    refine je_dup2 C dX6_arrives_178 179 rfl rfl rfl ?_
    refine jk_iald C kd92 dX6_arrives_179 180 rfl h (fun h => ?_)
    refine je_iconst C (1) dX6_arrives_180 181 rfl ic_1 ?_
    refine je_iadd C dX6_arrives_181 182 rfl ?_
    refine jk_iast C kd92 dX6_arrives_182 183 rfl h (fun h => ?_)
    refine jk_lt h (fun k182 h => ?_)
    refine je_aload_n C dX6_arrives_183 184 rfl 1 rfl ?_
    refine gX6_108 C dX6_arrives_184 187 rfl ?_
    refine je_iload C dX6_arrives_187 189 rfl 6 rfl ?_
    refine je_iconst C (1) dX6_arrives_189 190 rfl ic_1 ?_
    refine jk_zast C kd98 dX6_arrives_190 191 rfl (Or.inr rfl) h (fun h => ?_)
    refine jk_lt h (fun k190 h => ?_)
    cases h
    exact je_vret C dX6_arrives_191
  refine je_aload_n C dX6_arrives_120 121 rfl 1 rfl ?_
  refine je_iload_n C dX6_arrives_121 122 rfl 2 rfl ?_
  refine je_iload_n C dX6_arrives_122 123 rfl 3 rfl ?_
  refine je_iload_n C dX6_arrives_123 124 rfl 4 rfl ?_
  refine je_iconst C (2) dX6_arrives_124 125 rfl ic_2 ?_
  obtain ⟨k125, hg, h⟩ := p_cl_inv h
  refine je_callVv (As := [.int v1, .int v2, .int v3, .int (2 : Int32)]) (rest := []) C (metX6_notes hg) (en2_at kd66) rfl hdX6_notes rfl cwX6_415 rfl ⟨Nat.le_of_ble_eq_true rfl, Nat.le_of_ble_eq_true rfl⟩ (Nat.le_of_ble_eq_true rfl) dX6_arrives_125 128 rfl ⟨Nat.le_refl _, Nat.le_refl _⟩ ?_
  cases h
  exact je_vret C dX6_arrives_128
set_option maxHeartbeats 4000000 in
theorem metX6_arrives {l : Launch} {G : je_G} {dyn : Nat → Option je_E} {sz : Nat} {F : Nat} {κ : kp_K} {v1 : Int32} {v2 : Int32} {v3 : Int32} {v4 : Int32} {r9 : kp_K} (h : pX6_arrives F κ v1 v2 v3 v4 = some r9) : MetS l G yX6_arrives cX6_arrives 8 none 6 156 0 0 [.ref (G.2.1 + 66), .int v1, .int v2, .int v3, .int v4] (en2 G κ dyn) sz none (en2 G r9 dyn) sz := by
  refine je_met "MinistryDesksModel" rfl (by decide +kernel) (Nat.le_of_ble_eq_true rfl) [(0, .ref (G.2.1 + 66)), (1, .int v1), (2, .int v2), (3, .int v3), (4, .int v4)] rfl (fun p e s m args below meth c C => ?_)
  unfold pX6_arrives at h
  refine je_iconst C (4) dX6_arrives_0 1 rfl ic_4 ?_
  refine je_iload_n C dX6_arrives_1 2 rfl 1 rfl ?_
  refine je_imul C dX6_arrives_2 3 rfl ?_
  refine je_iload_n C dX6_arrives_3 4 rfl 2 rfl ?_
  refine je_iadd C dX6_arrives_4 5 rfl ?_
  refine je_lti h (fun t5 h => ?_)
  refine je_istore C dX6_arrives_5 7 rfl (Nat.le_of_ble_eq_true rfl) [(5, .int t5), (0, .ref (G.2.1 + 66)), (1, .int v1), (2, .int v2), (3, .int v3), (4, .int v4)] rfl ?_
  refine je_aload_n C dX6_arrives_7 8 rfl 1 rfl ?_
  refine je_iload_n C dX6_arrives_8 9 rfl 2 rfl ?_
  refine je_iload_n C dX6_arrives_9 10 rfl 3 rfl ?_
  refine je_iload_n C dX6_arrives_10 11 rfl 4 rfl ?_
  obtain ⟨t11, hg, h⟩ := p_cl_inv h
  refine je_callVi (As := [.int v1, .int v2, .int v3]) (rest := []) C (metX6_lineOf hg) (en2_at kd66) rfl hdX6_lineOf rfl cwX6_401 rfl ⟨Nat.le_of_ble_eq_true rfl, Nat.le_of_ble_eq_true rfl⟩ (Nat.le_of_ble_eq_true rfl) dX6_arrives_11 14 rfl ⟨Nat.le_refl _, Nat.le_refl _⟩ ?_
  refine je_istore C dX6_arrives_14 16 rfl (Nat.le_of_ble_eq_true rfl) [(6, .int t11), (5, .int t5), (0, .ref (G.2.1 + 66)), (1, .int v1), (2, .int v2), (3, .int v3), (4, .int v4)] rfl ?_
  refine je_iload C dX6_arrives_16 18 rfl 0 rfl ?_
  refine je_iconst C (-1) dX6_arrives_18 19 rfl ic_m1 ?_
  refine je_icmp_eq C 34 dX6_arrives_19 22 rfl rfl h (fun h => ?_) (fun h => ?_)
  · refine je_aload_n C dX6_arrives_34 35 rfl 2 rfl ?_
    refine gX6_90 C dX6_arrives_35 38 rfl ?_
    refine je_iload C dX6_arrives_38 40 rfl 1 rfl ?_
    refine jk_iald C kd92 dX6_arrives_40 41 rfl h (fun h => ?_)
    refine je_aload_n C dX6_arrives_41 42 rfl 2 rfl ?_
    refine je_iload_n C dX6_arrives_42 43 rfl 4 rfl ?_
    obtain ⟨t43, hg, h⟩ := p_cl_inv h
    refine je_callVi (As := [.int v2]) (rest := [.int (κ.1 92 t5.toNatClampNeg)]) C (metX6_roomOf hg) (en2_at kd66) rfl hdX6_roomOf rfl cwX6_408 rfl ⟨Nat.le_of_ble_eq_true rfl, Nat.le_of_ble_eq_true rfl⟩ (Nat.le_of_ble_eq_true rfl) dX6_arrives_43 46 rfl ⟨Nat.le_refl _, Nat.le_refl _⟩ ?_
    refine je_icmp_ge C 77 dX6_arrives_46 49 rfl rfl h (fun h => ?_) (fun h => ?_)
    · refine je_aload_n C dX6_arrives_77 78 rfl 2 rfl ?_
      refine gX6_108 C dX6_arrives_78 81 rfl ?_
      refine je_iload C dX6_arrives_81 83 rfl 1 rfl ?_
      refine jk_zald C kd98 dX6_arrives_83 84 rfl h (fun h => ?_)
      refine je_if_eq C 91 dX6_arrives_84 87 rfl rfl h (fun h => ?_) (fun h => ?_)
      · refine je_aload_n C dX6_arrives_91 92 rfl 2 rfl ?_
        refine gX6_346 C dX6_arrives_92 95 rfl ?_
        refine je_iconst C (3) dX6_arrives_95 96 rfl ic_3 ?_
        refine je_icmp_ne C 103 dX6_arrives_96 99 rfl rfl h (fun h => ?_) (fun h => ?_)
        · refine je_aload_n C dX6_arrives_103 104 rfl 2 rfl ?_
          refine je_iload_n C dX6_arrives_104 105 rfl 3 rfl ?_
          refine je_iload_n C dX6_arrives_105 106 rfl 4 rfl ?_
          refine je_iload_n C dX6_arrives_106 107 rfl 5 rfl ?_
          refine je_iload C dX6_arrives_107 109 rfl 6 rfl ?_
          obtain ⟨q109, hg, h⟩ := p_cl_inv h
          refine je_callVi (As := [.int v1, .int v2, .int v3, .int v4]) (rest := []) C (metX6_leastOf hg) (en2_at kd66) rfl hdX6_leastOf rfl cwX6_411 rfl ⟨Nat.le_of_ble_eq_true rfl, Nat.le_of_ble_eq_true rfl⟩ (Nat.le_of_ble_eq_true rfl) dX6_arrives_109 112 rfl ⟨Nat.le_refl _, Nat.le_refl _⟩ ?_
          refine je_lti h (fun t109 h => ?_)
          refine jk_lt h (fun k109 h => ?_)
          refine je_sub [2, 3, 4, 5, 6, 1] [(0, .ref (G.2.1 + 66)), (1, .int v1), (2, .int v2), (3, .int v3), (4, .int v4), (5, .int t5)] rfl ?_
          exact wX6_arrives_112 C k109 v1 v2 v3 v4 t5 t109 h
        refine je_iconst C (0) dX6_arrives_99 100 rfl ic_0 ?_
        refine je_goto C 112 dX6_arrives_100 rfl ?_
        refine je_sub [2, 3, 4, 5, 6, 1] [(0, .ref (G.2.1 + 66)), (1, .int v1), (2, .int v2), (3, .int v3), (4, .int v4), (5, .int t5)] rfl ?_
        exact wX6_arrives_112 C κ v1 v2 v3 v4 t5 (0 : Int32) h
      refine je_iconst C (-1) dX6_arrives_87 88 rfl ic_m1 ?_
      refine je_goto C 112 dX6_arrives_88 rfl ?_
      refine je_sub [2, 3, 4, 5, 6, 1] [(0, .ref (G.2.1 + 66)), (1, .int v1), (2, .int v2), (3, .int v3), (4, .int v4), (5, .int t5)] rfl ?_
      exact wX6_arrives_112 C κ v1 v2 v3 v4 t5 (-1 : Int32) h
    refine je_aload_n C dX6_arrives_49 50 rfl 2 rfl ?_
    refine je_iload_n C dX6_arrives_50 51 rfl 3 rfl ?_
    refine je_iload_n C dX6_arrives_51 52 rfl 4 rfl ?_
    refine je_aload_n C dX6_arrives_52 53 rfl 2 rfl ?_
    refine gX6_90 C dX6_arrives_53 56 rfl ?_
    refine je_iload C dX6_arrives_56 58 rfl 1 rfl ?_
    refine jk_iald C kd92 dX6_arrives_58 59 rfl h (fun h => ?_)
    refine je_iload_n C dX6_arrives_59 60 rfl 5 rfl ?_
    refine je_iload C dX6_arrives_60 62 rfl 6 rfl ?_
    obtain ⟨k62, hg, h⟩ := p_cl_inv h
    refine je_callVv (As := [.int v1, .int v2, .int (κ.1 92 t5.toNatClampNeg), .int v3, .int v4]) (rest := []) C (metX6_sets hg) (en2_at kd66) rfl hdX6_sets rfl cwX6_404 rfl ⟨Nat.le_of_ble_eq_true rfl, Nat.le_of_ble_eq_true rfl⟩ (Nat.le_of_ble_eq_true rfl) dX6_arrives_62 65 rfl ⟨Nat.le_refl _, Nat.le_refl _⟩ ?_
    refine je_aload_n C dX6_arrives_65 66 rfl 2 rfl ?_
    refine gX6_90 C dX6_arrives_66 69 rfl ?_
    refine je_iload C dX6_arrives_69 71 rfl 1 rfl ?_
    refine je_dup2 C dX6_arrives_71 72 rfl rfl rfl ?_
    refine jk_iald C kd92 dX6_arrives_72 73 rfl h (fun h => ?_)
    refine je_iconst C (1) dX6_arrives_73 74 rfl ic_1 ?_
    refine je_iadd C dX6_arrives_74 75 rfl ?_
    refine jk_iast C kd92 dX6_arrives_75 76 rfl h (fun h => ?_)
    refine jk_lt h (fun k75 h => ?_)
    cases h
    exact je_vret C dX6_arrives_76
  refine je_aload_n C dX6_arrives_22 23 rfl 2 rfl ?_
  refine je_iload_n C dX6_arrives_23 24 rfl 3 rfl ?_
  refine je_iload_n C dX6_arrives_24 25 rfl 4 rfl ?_
  refine je_iload C dX6_arrives_25 27 rfl 0 rfl ?_
  refine je_iload_n C dX6_arrives_27 28 rfl 5 rfl ?_
  refine je_iload C dX6_arrives_28 30 rfl 6 rfl ?_
  obtain ⟨k30, hg, h⟩ := p_cl_inv h
  refine je_callVv (As := [.int v1, .int v2, .int t11, .int v3, .int v4]) (rest := []) C (metX6_sets hg) (en2_at kd66) rfl hdX6_sets rfl cwX6_404 rfl ⟨Nat.le_of_ble_eq_true rfl, Nat.le_of_ble_eq_true rfl⟩ (Nat.le_of_ble_eq_true rfl) dX6_arrives_30 33 rfl ⟨Nat.le_refl _, Nat.le_refl _⟩ ?_
  cases h
  exact je_vret C dX6_arrives_33
