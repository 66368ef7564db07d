/-! the system: walks of its methods: printed by gen -/
set_option maxRecDepth 100000
theorem ic_m8 : Int32.ofInt (-8) = (-8 : Int32) := by decide +kernel
theorem gX1_100 {p : Program} {l : Launch} {e : Env} {R : Room} {s : State} {m : MethodId} {args : Array Value} {below : List Frame} {meth : Method} {c : Code} {Q : State → Prop} {G : je_G} {cc : ByteArray} {nL : Nat} {rt : Option FieldType} {sz cells slots pc : Nat} {L : List (Nat × Value)} {st : List Value} {κ : kp_K} {dyn : Nat → Option je_E} (C : Cx p s m args meth c G "MinistryDesks" cc nL rt) (d : decode cc pc = .ok (.getfield 100, 3)) (n : Nat) (hn : pc + 3 = n) (kk : Js p l e R s m args below meth c G nL Q (en2 G κ dyn) sz cells slots n L (.int (κ.1 0 1) :: st)) : Js p l e R s m args below meth c G nL Q (en2 G κ dyn) sz cells slots pc L (.ref (G.2.1 + 0) :: st) := jk_getI (k := 1) C kd0 rfl in_X1 rfl (by decide) q441 rfl d n hn kk
theorem gX1_11 {p : Program} {l : Launch} {e : Env} {R : Room} {s : State} {m : MethodId} {args : Array Value} {below : List Frame} {meth : Method} {c : Code} {Q : State → Prop} {G : je_G} {cc : ByteArray} {nL : Nat} {rt : Option FieldType} {sz cells slots pc : Nat} {L : List (Nat × Value)} {st : List Value} {κ : kp_K} {dyn : Nat → Option je_E} (C : Cx p s m args meth c G "MinistryDesks" cc nL rt) (d : decode cc pc = .ok (.getfield 11, 3)) (n : Nat) (hn : pc + 3 = n) (kk : Js p l e R s m args below meth c G nL Q (en2 G κ dyn) sz cells slots n L (.ref (G.2.1 + 1) :: st)) : Js p l e R s m args below meth c G nL Q (en2 G κ dyn) sz cells slots pc L (.ref (G.2.1 + 0) :: st) := jk_getR (k := 0) (z := 0) C kd0 rfl in_X1 1 rfl (by decide) q439 rfl d n hn kk
theorem sX1_100 {p : Program} {l : Launch} {e : Env} {R : Room} {s : State} {m : MethodId} {args : Array Value} {below : List Frame} {meth : Method} {c : Code} {Q : State → Prop} {G : je_G} {cc : ByteArray} {nL : Nat} {rt : Option FieldType} {sz cells slots pc : Nat} {L : List (Nat × Value)} {st : List Value} {κ : kp_K} {dyn : Nat → Option je_E} (C : Cx p s m args meth c G "MinistryDesks" cc nL rt) {v : Int32} (d : decode cc pc = .ok (.putfield 100, 3)) (n : Nat) (hn : pc + 3 = n) (kk : Js p l e R s m args below meth c G nL Q (en2 G (s_i κ 0 1 v) dyn) sz cells slots n L st) : Js p l e R s m args below meth c G nL Q (en2 G κ dyn) sz cells slots pc L (.int v :: .ref (G.2.1 + 0) :: st) := jk_putI (k := 1) C kd0 rfl in_X1 tyX1 tyX1_ok nmX1 rfl (by decide) q441 rfl rfl rfl d n hn kk
set_option maxHeartbeats 4000000 in
theorem wX1_four_3 {p : Program} {l : Launch} {e : Env} {s : State} {m : MethodId} {args : Array Value} {below : List Frame} {meth : Method} {c : Code} {G : je_G} {dyn : Nat → Option je_E} {sz : Nat} {F : Nat} {r9 : kp_K} (C : Cx p s m args meth c G "MinistryDesks" cX1_four 3 none) : ∀ (n : Nat) (κ : kp_K) (v1 : Int32) (v2 : Int32), bX1_four_3 F n κ v1 v2 = some r9 → Js p l e ({ frames := 0, cells := 0, slots := 0, locals := 0 } : Room) s m args below meth c G 3 (MQ below (je_Q G none (en2 G r9 dyn) sz) args s 0 0 (je_A G)) (en2 G κ dyn) sz 0 0 3 [(0, .ref (G.2.1 + 0)), (1, .int v1), (2, .int v2)] [] := by
  intro n
  induction n with
  | zero =>
    intro κ v1 v2 h
    cases h
  | succ n ih =>
    intro κ v1 v2 h
    rw [bX1_four_3] at h
    refine je_iload_n C dX1_four_3 4 rfl 2 rfl ?_
    refine je_if_lt C 36 dX1_four_4 7 rfl rfl h (fun h => ?_) (fun h => ?_)
    · cases h
      exact je_vret C dX1_four_36
    refine je_aload_n C dX1_four_7 8 rfl 0 rfl ?_
    refine gX1_11 C dX1_four_8 11 rfl ?_
    refine je_aload_n C dX1_four_11 12 rfl 0 rfl ?_
    refine gX1_100 C dX1_four_12 15 rfl ?_
    refine je_iload_n C dX1_four_15 16 rfl 1 rfl ?_
    refine je_iload_n C dX1_four_16 17 rfl 2 rfl ?_
    refine je_ishr C dX1_four_17 18 rfl ?_
    refine je_i2b C dX1_four_18 19 rfl ?_
    refine jk_bast C kd1 dX1_four_19 20 rfl h (fun h => ?_)
    refine jk_lt h (fun k19 h => ?_)
    refine je_aload_n C dX1_four_20 21 rfl 0 rfl ?_
    refine je_dup C dX1_four_21 22 rfl rfl ?_
    refine gX1_100 C dX1_four_22 25 rfl ?_
    refine je_iconst C (1) dX1_four_25 26 rfl ic_1 ?_
    refine je_iadd C dX1_four_26 27 rfl ?_
    refine sX1_100 C dX1_four_27 30 rfl ?_
    refine jk_lt h (fun k27 h => ?_)
    refine je_iinc C (-8) dX1_four_30 33 rfl 2 rfl ic_m8 (Nat.le_of_ble_eq_true rfl) [(2, .int (v2 + (-8 : Int32))), (0, .ref (G.2.1 + 0)), (1, .int v1)] rfl ?_
    refine je_goto C 3 dX1_four_33 rfl ?_
    refine je_sub [1, 2, 0] [(0, .ref (G.2.1 + 0)), (1, .int v1), (2, .int (v2 + (-8 : Int32)))] rfl ?_
    exact ih k27 v1 (v2 + (-8 : Int32)) h
set_option maxHeartbeats 4000000 in
theorem metX1_four {l : Launch} {G : je_G} {dyn : Nat → Option je_E} {sz : Nat} {F : Nat} {κ : kp_K} {v1 : Int32} {r9 : kp_K} (h : pX1_four F κ v1 = some r9) : MetS l G yX1_four cX1_four 3 none 0 0 0 0 [.ref (G.2.1 + 0), .int v1] (en2 G κ dyn) sz none (en2 G r9 dyn) sz := by
  refine je_met "MinistryDesks" rfl (by decide +kernel) (Nat.le_of_ble_eq_true rfl) [(0, .ref (G.2.1 + 0)), (1, .int v1)] rfl (fun p e s m args below meth c C => ?_)
  unfold pX1_four at h
  refine je_bipush C (24) dX1_four_0 2 rfl bp_24 ?_
  refine je_istore_n C dX1_four_2 3 rfl (Nat.le_of_ble_eq_true rfl) [(2, .int (24 : Int32)), (0, .ref (G.2.1 + 0)), (1, .int v1)] rfl ?_
  refine je_sub [1, 2, 0] [(0, .ref (G.2.1 + 0)), (1, .int v1), (2, .int (24 : Int32))] rfl ?_
  exact wX1_four_3 C F κ v1 (24 : Int32) h
theorem sp_900 : (Int16.ofInt (900)).toInt32 = (900 : Int32) := by decide +kernel
theorem hdX1_four : je_hd yX1_four 1 := ⟨by decide +kernel, by decide +kernel, by decide +kernel⟩
theorem cwX1_103 : GoodIn lw_all (wsV "MinistryDesks" 103 "MinistryDesks" yX1_four (ws_ yX1_four cX1_four 3 none)) := lw_V q531 q533 qs0 q161 q534
set_option maxHeartbeats 4000000 in
theorem metX1_feed {l : Launch} {G : je_G} {dyn : Nat → Option je_E} {sz : Nat} {F : Nat} {κ : kp_K} {v1 : Int32} {v2 : Int32} {v3 : Int32} {v4 : Int32} {v5 : Int32} {r9 : Int32 × kp_K} (h : pX1_feed F κ v1 v2 v3 v4 v5 = some r9) : MetS l G yX1_feed cX1_feed 6 (some .int) 1 22 0 0 [.ref (G.2.1 + 0), .int v1, .int v2, .int v3, .int v4, .int v5] (en2 G κ dyn) sz (some (.int r9.1)) (en2 G r9.2 dyn) sz := by
  refine je_met "MinistryDesks" rfl (by decide +kernel) (Nat.le_of_ble_eq_true rfl) [(0, .ref (G.2.1 + 0)), (1, .int v1), (2, .int v2), (3, .int v3), (4, .int v4), (5, .int v5)] rfl (fun p e s m args below meth c C => ?_)
  unfold pX1_feed at h
  refine je_aload_n C dX1_feed_0 1 rfl 0 rfl ?_
  refine gX1_100 C dX1_feed_1 4 rfl ?_
  refine je_bipush C (20) dX1_feed_4 6 rfl bp_20 ?_
  refine je_iadd C dX1_feed_6 7 rfl ?_
  refine je_sipush C (900) dX1_feed_7 10 rfl sp_900 ?_
  refine je_icmp_le C 15 dX1_feed_10 13 rfl rfl h (fun h => ?_) (fun h => ?_)
  · refine je_aload_n C dX1_feed_15 16 rfl 0 rfl ?_
    refine je_iload_n C dX1_feed_16 17 rfl 1 rfl ?_
    obtain ⟨k17, hg, h⟩ := p_cl_inv h
    refine je_callVv (As := [.int v1]) (rest := []) C (metX1_four hg) (en2_at kd0) rfl hdX1_four rfl cwX1_103 rfl ⟨Nat.le_of_ble_eq_true rfl, Nat.le_of_ble_eq_true rfl⟩ (Nat.le_of_ble_eq_true rfl) dX1_feed_17 20 rfl ⟨Nat.le_refl _, Nat.le_refl _⟩ ?_
    refine je_aload_n C dX1_feed_20 21 rfl 0 rfl ?_
    refine je_iload_n C dX1_feed_21 22 rfl 2 rfl ?_
    obtain ⟨k22, hg, h⟩ := p_cl_inv h
    refine je_callVv (As := [.int v2]) (rest := []) C (metX1_four hg) (en2_at kd0) rfl hdX1_four rfl cwX1_103 rfl ⟨Nat.le_of_ble_eq_true rfl, Nat.le_of_ble_eq_true rfl⟩ (Nat.le_of_ble_eq_true rfl) dX1_feed_22 25 rfl ⟨Nat.le_refl _, Nat.le_refl _⟩ ?_
    refine je_aload_n C dX1_feed_25 26 rfl 0 rfl ?_
    refine je_iload_n C dX1_feed_26 27 rfl 3 rfl ?_
    obtain ⟨k27, hg, h⟩ := p_cl_inv h
    refine je_callVv (As := [.int v3]) (rest := []) C (metX1_four hg) (en2_at kd0) rfl hdX1_four rfl cwX1_103 rfl ⟨Nat.le_of_ble_eq_true rfl, Nat.le_of_ble_eq_true rfl⟩ (Nat.le_of_ble_eq_true rfl) dX1_feed_27 30 rfl ⟨Nat.le_refl _, Nat.le_refl _⟩ ?_
    refine je_aload_n C dX1_feed_30 31 rfl 0 rfl ?_
    refine je_iload C dX1_feed_31 33 rfl 4 rfl ?_
    obtain ⟨k33, hg, h⟩ := p_cl_inv h
    refine je_callVv (As := [.int v4]) (rest := []) C (metX1_four hg) (en2_at kd0) rfl hdX1_four rfl cwX1_103 rfl ⟨Nat.le_of_ble_eq_true rfl, Nat.le_of_ble_eq_true rfl⟩ (Nat.le_of_ble_eq_true rfl) dX1_feed_33 36 rfl ⟨Nat.le_refl _, Nat.le_refl _⟩ ?_
    refine je_aload_n C dX1_feed_36 37 rfl 0 rfl ?_
    refine je_iload C dX1_feed_37 39 rfl 5 rfl ?_
    obtain ⟨k39, hg, h⟩ := p_cl_inv h
    refine je_callVv (As := [.int v5]) (rest := []) C (metX1_four hg) (en2_at kd0) rfl hdX1_four rfl cwX1_103 rfl ⟨Nat.le_of_ble_eq_true rfl, Nat.le_of_ble_eq_true rfl⟩ (Nat.le_of_ble_eq_true rfl) dX1_feed_39 42 rfl ⟨Nat.le_refl _, Nat.le_refl _⟩ ?_
    refine je_aload_n C dX1_feed_42 43 rfl 0 rfl ?_
    refine gX1_100 C dX1_feed_43 46 rfl ?_
    cases h
    exact je_iret C dX1_feed_46
  refine je_iconst C (-1) dX1_feed_13 14 rfl ic_m1 ?_
  cases h
  exact je_iret C dX1_feed_14
set_option maxHeartbeats 4000000 in
theorem metX1_isIn {l : Launch} {G : je_G} {σ : Nat → Option je_E} {sz : Nat} {v0 : Int32} {v1 : Int32} {v2 : Int32} {r9 : Int32} (h : pX1_isIn v0 v1 v2 = some r9) : MetS l G yX1_isIn cX1_isIn 3 (some .boolean) 0 0 0 0 [.int v0, .int v1, .int v2] σ sz (some (.int r9)) σ sz := by
  refine je_met "MinistryDesks" rfl (by decide +kernel) (Nat.le_of_ble_eq_true rfl) [(0, .int v0), (1, .int v1), (2, .int v2)] rfl (fun p e s m args below meth c C => ?_)
  unfold pX1_isIn at h
  refine je_iload_n C dX1_isIn_0 1 rfl 0 rfl ?_
  refine je_iload_n C dX1_isIn_1 2 rfl 1 rfl ?_
  refine je_icmp_lt C 14 dX1_isIn_2 5 rfl rfl h (fun h => ?_) (fun h => ?_)
  · refine je_iconst C (0) dX1_isIn_14 15 rfl ic_0 ?_
    cases h
    exact je_zret C dX1_isIn_15 (Or.inl rfl)
  refine je_iload_n C dX1_isIn_5 6 rfl 0 rfl ?_
  refine je_iload_n C dX1_isIn_6 7 rfl 2 rfl ?_
  refine je_icmp_gt C 14 dX1_isIn_7 10 rfl rfl h (fun h => ?_) (fun h => ?_)
  · refine je_iconst C (0) dX1_isIn_14 15 rfl ic_0 ?_
    cases h
    exact je_zret C dX1_isIn_15 (Or.inl rfl)
  refine je_iconst C (1) dX1_isIn_10 11 rfl ic_1 ?_
  refine je_goto C 15 dX1_isIn_11 rfl ?_
  cases h
  exact je_zret C dX1_isIn_15 (Or.inr rfl)
theorem gX1_111 {p : Program} {l : Launch} {e : Env} {R : Room} {s : State} {m : MethodId} {args : Array Value} {below : List Frame} {meth : Method} {c : Code} {Q : State → Prop} {G : je_G} {cc : ByteArray} {nL : Nat} {rt : Option FieldType} {sz cells slots pc : Nat} {L : List (Nat × Value)} {st : List Value} {κ : kp_K} {dyn : Nat → Option je_E} (C : Cx p s m args meth c G "MinistryDesks" cc nL rt) (d : decode cc pc = .ok (.getfield 111, 3)) (n : Nat) (hn : pc + 3 = n) (kk : Js p l e R s m args below meth c G nL Q (en2 G κ dyn) sz cells slots n L (.int (κ.1 0 2) :: st)) : Js p l e R s m args below meth c G nL Q (en2 G κ dyn) sz cells slots pc L (.ref (G.2.1 + 0) :: st) := jk_getI (k := 2) C kd0 rfl in_X1 rfl (by decide) q442 rfl d n hn kk
theorem gX1_15 {p : Program} {l : Launch} {e : Env} {R : Room} {s : State} {m : MethodId} {args : Array Value} {below : List Frame} {meth : Method} {c : Code} {Q : State → Prop} {G : je_G} {cc : ByteArray} {nL : Nat} {rt : Option FieldType} {sz cells slots pc : Nat} {L : List (Nat × Value)} {st : List Value} {κ : kp_K} {dyn : Nat → Option je_E} (C : Cx p s m args meth c G "MinistryDesks" cc nL rt) (d : decode cc pc = .ok (.getfield 15, 3)) (n : Nat) (hn : pc + 3 = n) (kk : Js p l e R s m args below meth c G nL Q (en2 G κ dyn) sz cells slots n L (.int (κ.1 0 3) :: st)) : Js p l e R s m args below meth c G nL Q (en2 G κ dyn) sz cells slots pc L (.ref (G.2.1 + 0) :: st) := jk_getI (k := 3) C kd0 rfl in_X1 rfl (by decide) q443 rfl d n hn kk
set_option maxHeartbeats 4000000 in
theorem metX1_fault {l : Launch} {G : je_G} {dyn : Nat → Option je_E} {sz : Nat} {κ : kp_K} {v1 : Int32} {r9 : Int32} (h : pX1_fault κ v1 = some r9) : MetS l G yX1_fault cX1_fault 2 (some .int) 0 0 0 0 [.ref (G.2.1 + 0), .int v1] (en2 G κ dyn) sz (some (.int r9)) (en2 G κ dyn) sz := by
  refine je_met "MinistryDesks" rfl (by decide +kernel) (Nat.le_of_ble_eq_true rfl) [(0, .ref (G.2.1 + 0)), (1, .int v1)] rfl (fun p e s m args below meth c C => ?_)
  unfold pX1_fault at h
  refine je_iload_n C dX1_fault_0 1 rfl 1 rfl ?_
  refine je_if_ne C 11 dX1_fault_1 4 rfl rfl h (fun h => ?_) (fun h => ?_)
  · refine je_iload_n C dX1_fault_11 12 rfl 1 rfl ?_
    refine je_iconst C (1) dX1_fault_12 13 rfl ic_1 ?_
    refine je_icmp_ne C 23 dX1_fault_13 16 rfl rfl h (fun h => ?_) (fun h => ?_)
    · refine je_iconst C (-1) dX1_fault_23 24 rfl ic_m1 ?_
      cases h
      exact je_iret C dX1_fault_24
    refine je_aload_n C dX1_fault_16 17 rfl 0 rfl ?_
    refine gX1_15 C dX1_fault_17 20 rfl ?_
    refine je_goto C 24 dX1_fault_20 rfl ?_
    cases h
    exact je_iret C dX1_fault_24
  refine je_aload_n C dX1_fault_4 5 rfl 0 rfl ?_
  refine gX1_111 C dX1_fault_5 8 rfl ?_
  refine je_goto C 24 dX1_fault_8 rfl ?_
  cases h
  exact je_iret C dX1_fault_24
theorem cwX2_37 : GoodIn lw_all (wsV "MinistryDesks$House" 37 "java/util/ArrayList" yJ2_size (ws_ yJ2_size cJ2_size 1 (some .int))) := lw_V q818 q803 q804 q165 q805
theorem cwX2_41 : GoodIn lw_all (wsV "MinistryDesks$House" 41 "java/util/ArrayList" yJ2_get (ws_ yJ2_get cJ2_get 2 (some (.object "java/lang/Object")))) := lw_V q819 q820 q821 q165 q822
set_option maxHeartbeats 4000000 in
theorem wX2_desk_2 {p : Program} {l : Launch} {e : Env} {s : State} {m : MethodId} {args : Array Value} {below : List Frame} {meth : Method} {c : Code} {G : je_G} {dyn : Nat → Option je_E} {sz : Nat} {F : Nat} {hb : Nat} {hu : hd_T} {κ : kp_K} {r9 : Int32} (C : Cx p s m args meth c G "MinistryDesks$House" cX2_desk 3 (some .int)) (hH : HouseRep G dyn hb hu) : ∀ (n : Nat) (v1 : Int32) (v2 : Int32), bX2_desk_2 F hb hu n κ v1 v2 = some r9 → Js p l e ({ frames := 4, cells := 0, slots := 0, locals := 120 } : Room) s m args below meth c G 3 (MQ below (je_Q G (some (.int r9)) (en2 G κ dyn) sz) args s 0 0 (je_A G)) (en2 G κ dyn) sz 0 0 2 [(0, .ref (G.2.1 + hb)), (1, .int v1), (2, .int v2)] [] := by
  intro n
  induction n with
  | zero =>
    intro v1 v2 h
    cases h
  | succ n ih =>
    intro v1 v2 h
    rw [bX2_desk_2] at h
    refine je_iload_n C dX2_desk_2 3 rfl 2 rfl ?_
    refine je_aload_n C dX2_desk_3 4 rfl 0 rfl ?_
    refine jh_list C hH (t := 0) (by decide) q244 rfl dX2_desk_4 7 rfl ?_
    refine jh_size (t := 0) (rest := [.int v2]) C hH (by decide) cwX2_37 ⟨Nat.le_of_ble_eq_true rfl, Nat.le_of_ble_eq_true rfl⟩ (Nat.le_of_ble_eq_true rfl) dX2_desk_7 10 rfl ⟨Nat.le_refl _, Nat.le_refl _⟩ ?_
    refine je_icmp_ge C 39 dX2_desk_10 13 rfl rfl h (fun h => ?_) (fun h => ?_)
    · refine je_iconst C (-1) dX2_desk_39 40 rfl ic_m1 ?_
      cases h
      exact je_iret C dX2_desk_40
    refine je_aload_n C dX2_desk_13 14 rfl 0 rfl ?_
    refine jh_list C hH (t := 0) (by decide) q244 rfl dX2_desk_14 17 rfl ?_
    refine je_iload_n C dX2_desk_17 18 rfl 2 rfl ?_
    obtain ⟨hin0_v2, h⟩ := p_ck_inv h
    refine jh_get (t := 0) (rest := []) C hH (by decide) hin0_v2 cwX2_41 ⟨Nat.le_of_ble_eq_true rfl, Nat.le_of_ble_eq_true rfl⟩ (Nat.le_of_ble_eq_true rfl) dX2_desk_18 21 rfl ⟨Nat.le_refl _, Nat.le_refl _⟩ ?_
    refine jh_cast0 C hH hin0_v2 q831 dX2_desk_21 24 rfl ?_
    refine jh_item0N C hH hin0_v2 (k := 0) (by decide) q851 rfl dX2_desk_24 27 rfl ?_
    refine je_iload_n C dX2_desk_27 28 rfl 1 rfl ?_
    refine je_icmp_ne C 33 dX2_desk_28 31 rfl rfl h (fun h => ?_) (fun h => ?_)
    · refine je_iinc C (1) dX2_desk_33 36 rfl 2 rfl ic_1 (Nat.le_of_ble_eq_true rfl) [(2, .int (v2 + (1 : Int32))), (0, .ref (G.2.1 + hb)), (1, .int v1)] rfl ?_
      refine je_goto C 2 dX2_desk_36 rfl ?_
      refine je_sub [1, 2, 0] [(0, .ref (G.2.1 + hb)), (1, .int v1), (2, .int (v2 + (1 : Int32)))] rfl ?_
      exact ih v1 (v2 + (1 : Int32)) h
    refine je_iload_n C dX2_desk_31 32 rfl 2 rfl ?_
    cases h
    exact je_iret C dX2_desk_32
set_option maxHeartbeats 4000000 in
theorem metX2_desk {l : Launch} {G : je_G} {dyn : Nat → Option je_E} {sz : Nat} {F : Nat} {hb : Nat} {hu : hd_T} {κ : kp_K} {v1 : Int32} {r9 : Int32} (hH : HouseRep G dyn hb hu) (h : pX2_desk F hb hu κ v1 = some r9) : MetS l G yX2_desk cX2_desk 3 (some .int) 4 120 0 0 [.ref (G.2.1 + hb), .int v1] (en2 G κ dyn) sz (some (.int r9)) (en2 G κ dyn) sz := by
  refine je_met "MinistryDesks$House" rfl (by decide +kernel) (Nat.le_of_ble_eq_true rfl) [(0, .ref (G.2.1 + hb)), (1, .int v1)] rfl (fun p e s m args below meth c C => ?_)
  unfold pX2_desk at h
  refine je_iconst C (0) dX2_desk_0 1 rfl ic_0 ?_
  refine je_istore_n C dX2_desk_1 2 rfl (Nat.le_of_ble_eq_true rfl) [(2, .int (0 : Int32)), (0, .ref (G.2.1 + hb)), (1, .int v1)] rfl ?_
  refine je_sub [1, 2, 0] [(0, .ref (G.2.1 + hb)), (1, .int v1), (2, .int (0 : Int32))] rfl ?_
  exact wX2_desk_2 C hH F v1 (0 : Int32) h
set_option maxHeartbeats 4000000 in
theorem wX2_fact_2 {p : Program} {l : Launch} {e : Env} {s : State} {m : MethodId} {args : Array Value} {below : List Frame} {meth : Method} {c : Code} {G : je_G} {dyn : Nat → Option je_E} {sz : Nat} {F : Nat} {hb : Nat} {hu : hd_T} {κ : kp_K} {r9 : Int32} (C : Cx p s m args meth c G "MinistryDesks$House" cX2_fact 3 (some .int)) (hH : HouseRep G dyn hb hu) : ∀ (n : Nat) (v1 : Int32) (v2 : Int32), bX2_fact_2 F hb hu n κ v1 v2 = some r9 → Js p l e ({ frames := 4, cells := 0, slots := 0, locals := 120 } : Room) s m args below meth c G 3 (MQ below (je_Q G (some (.int r9)) (en2 G κ dyn) sz) args s 0 0 (je_A G)) (en2 G κ dyn) sz 0 0 2 [(0, .ref (G.2.1 + hb)), (1, .int v1), (2, .int v2)] [] := by
  intro n
  induction n with
  | zero =>
    intro v1 v2 h
    cases h
  | succ n ih =>
    intro v1 v2 h
    rw [bX2_fact_2] at h
    refine je_iload_n C dX2_fact_2 3 rfl 2 rfl ?_
    refine je_aload_n C dX2_fact_3 4 rfl 0 rfl ?_
    refine jh_list C hH (t := 1) (by decide) q248 rfl dX2_fact_4 7 rfl ?_
    refine jh_size (t := 1) (rest := [.int v2]) C hH (by decide) cwX2_37 ⟨Nat.le_of_ble_eq_true rfl, Nat.le_of_ble_eq_true rfl⟩ (Nat.le_of_ble_eq_true rfl) dX2_fact_7 10 rfl ⟨Nat.le_refl _, Nat.le_refl _⟩ ?_
    refine je_icmp_ge C 39 dX2_fact_10 13 rfl rfl h (fun h => ?_) (fun h => ?_)
    · refine je_iconst C (-1) dX2_fact_39 40 rfl ic_m1 ?_
      cases h
      exact je_iret C dX2_fact_40
    refine je_aload_n C dX2_fact_13 14 rfl 0 rfl ?_
    refine jh_list C hH (t := 1) (by decide) q248 rfl dX2_fact_14 17 rfl ?_
    refine je_iload_n C dX2_fact_17 18 rfl 2 rfl ?_
    obtain ⟨hin1_v2, h⟩ := p_ck_inv h
    refine jh_get (t := 1) (rest := []) C hH (by decide) hin1_v2 cwX2_41 ⟨Nat.le_of_ble_eq_true rfl, Nat.le_of_ble_eq_true rfl⟩ (Nat.le_of_ble_eq_true rfl) dX2_fact_18 21 rfl ⟨Nat.le_refl _, Nat.le_refl _⟩ ?_
    refine jh_cast1 C hH hin1_v2 q942 dX2_fact_21 24 rfl ?_
    refine jh_item1N C hH hin1_v2 (k := 0) (by decide) q953 rfl dX2_fact_24 27 rfl ?_
    refine je_iload_n C dX2_fact_27 28 rfl 1 rfl ?_
    refine je_icmp_ne C 33 dX2_fact_28 31 rfl rfl h (fun h => ?_) (fun h => ?_)
    · refine je_iinc C (1) dX2_fact_33 36 rfl 2 rfl ic_1 (Nat.le_of_ble_eq_true rfl) [(2, .int (v2 + (1 : Int32))), (0, .ref (G.2.1 + hb)), (1, .int v1)] rfl ?_
      refine je_goto C 2 dX2_fact_36 rfl ?_
      refine je_sub [1, 2, 0] [(0, .ref (G.2.1 + hb)), (1, .int v1), (2, .int (v2 + (1 : Int32)))] rfl ?_
      exact ih v1 (v2 + (1 : Int32)) h
    refine je_iload_n C dX2_fact_31 32 rfl 2 rfl ?_
    cases h
    exact je_iret C dX2_fact_32
set_option maxHeartbeats 4000000 in
theorem metX2_fact {l : Launch} {G : je_G} {dyn : Nat → Option je_E} {sz : Nat} {F : Nat} {hb : Nat} {hu : hd_T} {κ : kp_K} {v1 : Int32} {r9 : Int32} (hH : HouseRep G dyn hb hu) (h : pX2_fact F hb hu κ v1 = some r9) : MetS l G yX2_fact cX2_fact 3 (some .int) 4 120 0 0 [.ref (G.2.1 + hb), .int v1] (en2 G κ dyn) sz (some (.int r9)) (en2 G κ dyn) sz := by
  refine je_met "MinistryDesks$House" rfl (by decide +kernel) (Nat.le_of_ble_eq_true rfl) [(0, .ref (G.2.1 + hb)), (1, .int v1)] rfl (fun p e s m args below meth c C => ?_)
  unfold pX2_fact at h
  refine je_iconst C (0) dX2_fact_0 1 rfl ic_0 ?_
  refine je_istore_n C dX2_fact_1 2 rfl (Nat.le_of_ble_eq_true rfl) [(2, .int (0 : Int32)), (0, .ref (G.2.1 + hb)), (1, .int v1)] rfl ?_
  refine je_sub [1, 2, 0] [(0, .ref (G.2.1 + hb)), (1, .int v1), (2, .int (0 : Int32))] rfl ?_
  exact wX2_fact_2 C hH F v1 (0 : Int32) h
set_option maxHeartbeats 4000000 in
theorem wX2_may_2 {p : Program} {l : Launch} {e : Env} {s : State} {m : MethodId} {args : Array Value} {below : List Frame} {meth : Method} {c : Code} {G : je_G} {dyn : Nat → Option je_E} {sz : Nat} {F : Nat} {hb : Nat} {hu : hd_T} {κ : kp_K} {r9 : Int32} (C : Cx p s m args meth c G "MinistryDesks$House" cX2_may 3 (some .int)) (hH : HouseRep G dyn hb hu) : ∀ (n : Nat) (v1 : Int32) (v2 : Int32), bX2_may_2 F hb hu n κ v1 v2 = some r9 → Js p l e ({ frames := 4, cells := 0, slots := 0, locals := 120 } : Room) s m args below meth c G 3 (MQ below (je_Q G (some (.int r9)) (en2 G κ dyn) sz) args s 0 0 (je_A G)) (en2 G κ dyn) sz 0 0 2 [(0, .ref (G.2.1 + hb)), (1, .int v1), (2, .int v2)] [] := by
  intro n
  induction n with
  | zero =>
    intro v1 v2 h
    cases h
  | succ n ih =>
    intro v1 v2 h
    rw [bX2_may_2] at h
    refine je_iload_n C dX2_may_2 3 rfl 2 rfl ?_
    refine je_aload_n C dX2_may_3 4 rfl 0 rfl ?_
    refine jh_list C hH (t := 5) (by decide) q262 rfl dX2_may_4 7 rfl ?_
    refine jh_size (t := 5) (rest := [.int v2]) C hH (by decide) cwX2_37 ⟨Nat.le_of_ble_eq_true rfl, Nat.le_of_ble_eq_true rfl⟩ (Nat.le_of_ble_eq_true rfl) dX2_may_7 10 rfl ⟨Nat.le_refl _, Nat.le_refl _⟩ ?_
    refine je_icmp_ge C 39 dX2_may_10 13 rfl rfl h (fun h => ?_) (fun h => ?_)
    · refine je_iconst C (-1) dX2_may_39 40 rfl ic_m1 ?_
      cases h
      exact je_iret C dX2_may_40
    refine je_aload_n C dX2_may_13 14 rfl 0 rfl ?_
    refine jh_list C hH (t := 5) (by decide) q262 rfl dX2_may_14 17 rfl ?_
    refine je_iload_n C dX2_may_17 18 rfl 2 rfl ?_
    obtain ⟨hin5_v2, h⟩ := p_ck_inv h
    refine jh_get (t := 5) (rest := []) C hH (by decide) hin5_v2 cwX2_41 ⟨Nat.le_of_ble_eq_true rfl, Nat.le_of_ble_eq_true rfl⟩ (Nat.le_of_ble_eq_true rfl) dX2_may_18 21 rfl ⟨Nat.le_refl _, Nat.le_refl _⟩ ?_
    refine jh_cast5 C hH hin5_v2 q1146 dX2_may_21 24 rfl ?_
    refine jh_item5N C hH hin5_v2 (k := 0) (by decide) q1154 rfl dX2_may_24 27 rfl ?_
    refine je_iload_n C dX2_may_27 28 rfl 1 rfl ?_
    refine je_icmp_ne C 33 dX2_may_28 31 rfl rfl h (fun h => ?_) (fun h => ?_)
    · refine je_iinc C (1) dX2_may_33 36 rfl 2 rfl ic_1 (Nat.le_of_ble_eq_true rfl) [(2, .int (v2 + (1 : Int32))), (0, .ref (G.2.1 + hb)), (1, .int v1)] rfl ?_
      refine je_goto C 2 dX2_may_36 rfl ?_
      refine je_sub [1, 2, 0] [(0, .ref (G.2.1 + hb)), (1, .int v1), (2, .int (v2 + (1 : Int32)))] rfl ?_
      exact ih v1 (v2 + (1 : Int32)) h
    refine je_iload_n C dX2_may_31 32 rfl 2 rfl ?_
    cases h
    exact je_iret C dX2_may_32
set_option maxHeartbeats 4000000 in
theorem metX2_may {l : Launch} {G : je_G} {dyn : Nat → Option je_E} {sz : Nat} {F : Nat} {hb : Nat} {hu : hd_T} {κ : kp_K} {v1 : Int32} {r9 : Int32} (hH : HouseRep G dyn hb hu) (h : pX2_may F hb hu κ v1 = some r9) : MetS l G yX2_may cX2_may 3 (some .int) 4 120 0 0 [.ref (G.2.1 + hb), .int v1] (en2 G κ dyn) sz (some (.int r9)) (en2 G κ dyn) sz := by
  refine je_met "MinistryDesks$House" rfl (by decide +kernel) (Nat.le_of_ble_eq_true rfl) [(0, .ref (G.2.1 + hb)), (1, .int v1)] rfl (fun p e s m args below meth c C => ?_)
  unfold pX2_may at h
  refine je_iconst C (0) dX2_may_0 1 rfl ic_0 ?_
  refine je_istore_n C dX2_may_1 2 rfl (Nat.le_of_ble_eq_true rfl) [(2, .int (0 : Int32)), (0, .ref (G.2.1 + hb)), (1, .int v1)] rfl ?_
  refine je_sub [1, 2, 0] [(0, .ref (G.2.1 + hb)), (1, .int v1), (2, .int (0 : Int32))] rfl ?_
  exact wX2_may_2 C hH F v1 (0 : Int32) h
theorem hdX2_desk : je_hd yX2_desk 1 := ⟨by decide +kernel, by decide +kernel, by decide +kernel⟩
theorem hdX2_fact : je_hd yX2_fact 1 := ⟨by decide +kernel, by decide +kernel, by decide +kernel⟩
theorem hdX2_may : je_hd yX2_may 1 := ⟨by decide +kernel, by decide +kernel, by decide +kernel⟩
theorem cwX1_146 : GoodIn lw_all (wsV "MinistryDesks" 146 "MinistryDesks$House" yX2_desk (ws_ yX2_desk cX2_desk 3 (some .int))) := lw_V q1170 q815 q816 q162 q817
theorem cwX1_150 : GoodIn lw_all (wsV "MinistryDesks" 150 "MinistryDesks$House" yX2_fact (ws_ yX2_fact cX2_fact 3 (some .int))) := lw_V q1171 q939 q940 q162 q941
theorem cwX1_153 : GoodIn lw_all (wsV "MinistryDesks" 153 "MinistryDesks$House" yX2_may (ws_ yX2_may cX2_may 3 (some .int))) := lw_V q1172 q1143 q1144 q162 q1145
theorem gX1_22 {p : Program} {l : Launch} {e : Env} {R : Room} {s : State} {m : MethodId} {args : Array Value} {below : List Frame} {meth : Method} {c : Code} {Q : State → Prop} {G : je_G} {cc : ByteArray} {nL : Nat} {rt : Option FieldType} {sz cells slots pc : Nat} {L : List (Nat × Value)} {st : List Value} {κ : kp_K} {dyn : Nat → Option je_E} {hb : Nat} (C : Cx p s m args meth c G "MinistryDesks" cc nL rt) (hx : κ.2.2 0 4 = some hb) (d : decode cc pc = .ok (.getfield 22, 3)) (n : Nat) (hn : pc + 3 = n) (kk : Js p l e R s m args below meth c G nL Q (en2 G κ dyn) sz cells slots n L (.ref (G.2.1 + hb) :: st)) : Js p l e R s m args below meth c G nL Q (en2 G κ dyn) sz cells slots pc L (.ref (G.2.1 + 0) :: st) := jk_getO (k := 4) C kd0 rfl in_X1 rfl (by decide) q444 rfl d n hn (by rw [hx]; exact kk)
set_option maxHeartbeats 4000000 in
theorem metX1_named {l : Launch} {G : je_G} {dyn : Nat → Option je_E} {sz : Nat} {F : Nat} {hb : Nat} {hu : hd_T} {κ : kp_K} {v1 : Int32} {v2 : Int32} {r9 : Int32} (hH : HouseRep G dyn hb hu) (h : pX1_named F hb hu κ v1 v2 = some r9) : MetS l G yX1_named cX1_named 3 (some .int) 5 142 0 0 [.ref (G.2.1 + 0), .int v1, .int v2] (en2 G κ dyn) sz (some (.int r9)) (en2 G κ dyn) sz := by
  refine je_met "MinistryDesks" rfl (by decide +kernel) (Nat.le_of_ble_eq_true rfl) [(0, .ref (G.2.1 + 0)), (1, .int v1), (2, .int v2)] rfl (fun p e s m args below meth c C => ?_)
  unfold pX1_named at h
  refine je_iload_n C dX1_named_0 1 rfl 1 rfl ?_
  refine je_if_ne C 15 dX1_named_1 4 rfl rfl h (fun h => ?_) (fun h => ?_)
  · refine je_iload_n C dX1_named_15 16 rfl 1 rfl ?_
    refine je_iconst C (1) dX1_named_16 17 rfl ic_1 ?_
    refine je_icmp_ne C 31 dX1_named_17 20 rfl rfl h (fun h => ?_) (fun h => ?_)
    · refine je_iload_n C dX1_named_31 32 rfl 1 rfl ?_
      refine je_iconst C (2) dX1_named_32 33 rfl ic_2 ?_
      refine je_icmp_ne C 47 dX1_named_33 36 rfl rfl h (fun h => ?_) (fun h => ?_)
      · refine je_iconst C (-1) dX1_named_47 48 rfl ic_m1 ?_
        cases h
        exact je_iret C dX1_named_48
      refine je_aload_n C dX1_named_36 37 rfl 0 rfl ?_
      obtain ⟨hx, h⟩ := p_hs_inv h
      refine gX1_22 C hx dX1_named_37 40 rfl ?_
      refine je_iload_n C dX1_named_40 41 rfl 2 rfl ?_
      obtain ⟨t41, hg, h⟩ := p_cl_inv h
      obtain ⟨W0, hv0⟩ := jh_obj hH
      refine je_callVi (As := [.int v2]) (rest := []) C (metX2_may hH hg) (hv0 _) rfl hdX2_may rfl cwX1_153 rfl ⟨Nat.le_of_ble_eq_true rfl, Nat.le_of_ble_eq_true rfl⟩ (Nat.le_of_ble_eq_true rfl) dX1_named_41 44 rfl ⟨Nat.le_refl _, Nat.le_refl _⟩ ?_
      refine je_goto C 48 dX1_named_44 rfl ?_
      cases h
      exact je_iret C dX1_named_48
    refine je_aload_n C dX1_named_20 21 rfl 0 rfl ?_
    obtain ⟨hx, h⟩ := p_hs_inv h
    refine gX1_22 C hx dX1_named_21 24 rfl ?_
    refine je_iload_n C dX1_named_24 25 rfl 2 rfl ?_
    obtain ⟨t25, hg, h⟩ := p_cl_inv h
    obtain ⟨W0, hv0⟩ := jh_obj hH
    refine je_callVi (As := [.int v2]) (rest := []) C (metX2_fact hH hg) (hv0 _) rfl hdX2_fact rfl cwX1_150 rfl ⟨Nat.le_of_ble_eq_true rfl, Nat.le_of_ble_eq_true rfl⟩ (Nat.le_of_ble_eq_true rfl) dX1_named_25 28 rfl ⟨Nat.le_refl _, Nat.le_refl _⟩ ?_
    refine je_goto C 48 dX1_named_28 rfl ?_
    cases h
    exact je_iret C dX1_named_48
  refine je_aload_n C dX1_named_4 5 rfl 0 rfl ?_
  obtain ⟨hx, h⟩ := p_hs_inv h
  refine gX1_22 C hx dX1_named_5 8 rfl ?_
  refine je_iload_n C dX1_named_8 9 rfl 2 rfl ?_
  obtain ⟨t9, hg, h⟩ := p_cl_inv h
  obtain ⟨W0, hv0⟩ := jh_obj hH
  refine je_callVi (As := [.int v2]) (rest := []) C (metX2_desk hH hg) (hv0 _) rfl hdX2_desk rfl cwX1_146 rfl ⟨Nat.le_of_ble_eq_true rfl, Nat.le_of_ble_eq_true rfl⟩ (Nat.le_of_ble_eq_true rfl) dX1_named_9 12 rfl ⟨Nat.le_refl _, Nat.le_refl _⟩ ?_
  refine je_goto C 48 dX1_named_12 rfl ?_
  cases h
  exact je_iret C dX1_named_48
theorem gX3_9 {p : Program} {l : Launch} {e : Env} {R : Room} {s : State} {m : MethodId} {args : Array Value} {below : List Frame} {meth : Method} {c : Code} {Q : State → Prop} {G : je_G} {cc : ByteArray} {nL : Nat} {rt : Option FieldType} {sz cells slots pc : Nat} {L : List (Nat × Value)} {st : List Value} {κ : kp_K} {dyn : Nat → Option je_E} (C : Cx p s m args meth c G "MinistryDesks$Scene" cc nL rt) (d : decode cc pc = .ok (.getfield 9, 3)) (n : Nat) (hn : pc + 3 = n) (kk : Js p l e R s m args below meth c G nL Q (en2 G κ dyn) sz cells slots n L (.ref (G.2.1 + 10) :: st)) : Js p l e R s m args below meth c G nL Q (en2 G κ dyn) sz cells slots pc L (.ref (G.2.1 + 9) :: st) := jk_getR (k := 0) (z := 0) C kd9 rfl in_X3 10 rfl (by decide) q309 rfl d n hn kk
set_option maxHeartbeats 4000000 in
theorem metX3_lay {l : Launch} {G : je_G} {dyn : Nat → Option je_E} {sz : Nat} {κ : kp_K} {v1 : Int32} {v2 : Int32} {v3 : Int32} {v4 : Int32} {v5 : Int32} {v6 : Int32} {r9 : kp_K} (h : pX3_lay κ v1 v2 v3 v4 v5 v6 = some r9) : MetS l G yX3_lay cX3_lay 7 none 0 0 0 0 [.ref (G.2.1 + 9), .int v1, .int v2, .int v3, .int v4, .int v5, .int v6] (en2 G κ dyn) sz none (en2 G r9 dyn) sz := by
  refine je_met "MinistryDesks$Scene" rfl (by decide +kernel) (Nat.le_of_ble_eq_true rfl) [(0, .ref (G.2.1 + 9)), (1, .int v1), (2, .int v2), (3, .int v3), (4, .int v4), (5, .int v5), (6, .int v6)] rfl (fun p e s m args below meth c C => ?_)
  unfold pX3_lay at h
  refine je_aload_n C dX3_lay_0 1 rfl 0 rfl ?_
  refine gX3_9 C dX3_lay_1 4 rfl ?_
  refine je_iconst C (0) dX3_lay_4 5 rfl ic_0 ?_
  refine je_iload_n C dX3_lay_5 6 rfl 1 rfl ?_
  refine je_i2l C dX3_lay_6 7 rfl ?_
  refine jk_last C kd10 dX3_lay_7 8 rfl h (fun h => ?_)
  refine jk_lt h (fun k7 h => ?_)
  refine je_aload_n C dX3_lay_8 9 rfl 0 rfl ?_
  refine gX3_9 C dX3_lay_9 12 rfl ?_
  refine je_iconst C (1) dX3_lay_12 13 rfl ic_1 ?_
  refine je_iload_n C dX3_lay_13 14 rfl 2 rfl ?_
  refine je_i2l C dX3_lay_14 15 rfl ?_
  refine jk_last C kd10 dX3_lay_15 16 rfl h (fun h => ?_)
  refine jk_lt h (fun k15 h => ?_)
  refine je_aload_n C dX3_lay_16 17 rfl 0 rfl ?_
  refine gX3_9 C dX3_lay_17 20 rfl ?_
  refine je_iconst C (2) dX3_lay_20 21 rfl ic_2 ?_
  refine je_iload_n C dX3_lay_21 22 rfl 3 rfl ?_
  refine je_i2l C dX3_lay_22 23 rfl ?_
  refine jk_last C kd10 dX3_lay_23 24 rfl h (fun h => ?_)
  refine jk_lt h (fun k23 h => ?_)
  refine je_aload_n C dX3_lay_24 25 rfl 0 rfl ?_
  refine gX3_9 C dX3_lay_25 28 rfl ?_
  refine je_iconst C (3) dX3_lay_28 29 rfl ic_3 ?_
  refine je_iload C dX3_lay_29 31 rfl 4 rfl ?_
  refine je_i2l C dX3_lay_31 32 rfl ?_
  refine jk_last C kd10 dX3_lay_32 33 rfl h (fun h => ?_)
  refine jk_lt h (fun k32 h => ?_)
  refine je_aload_n C dX3_lay_33 34 rfl 0 rfl ?_
  refine gX3_9 C dX3_lay_34 37 rfl ?_
  refine je_iconst C (4) dX3_lay_37 38 rfl ic_4 ?_
  refine je_iload C dX3_lay_38 40 rfl 5 rfl ?_
  refine je_i2l C dX3_lay_40 41 rfl ?_
  refine jk_last C kd10 dX3_lay_41 42 rfl h (fun h => ?_)
  refine jk_lt h (fun k41 h => ?_)
  refine je_aload_n C dX3_lay_42 43 rfl 0 rfl ?_
  refine gX3_9 C dX3_lay_43 46 rfl ?_
  refine je_iconst C (5) dX3_lay_46 47 rfl ic_5 ?_
  refine je_iload C dX3_lay_47 49 rfl 6 rfl ?_
  refine je_i2l C dX3_lay_49 50 rfl ?_
  refine jk_last C kd10 dX3_lay_50 51 rfl h (fun h => ?_)
  refine jk_lt h (fun k50 h => ?_)
  refine je_aload_n C dX3_lay_51 52 rfl 0 rfl ?_
  refine je_iconst C (0) dX3_lay_52 53 rfl ic_0 ?_
  refine sX3_15 C (Or.inl rfl) dX3_lay_53 56 rfl ?_
  refine jk_lt h (fun k53 h => ?_)
  cases h
  exact je_vret C dX3_lay_56
theorem hdX1_isIn : je_hd yX1_isIn 3 := ⟨by decide +kernel, by decide +kernel, by decide +kernel⟩
theorem hdX3_lay : je_hd yX3_lay 6 := ⟨by decide +kernel, by decide +kernel, by decide +kernel⟩
theorem cwX1_107 : GoodIn lw_all (va_wsS "MinistryDesks" 107 yX1_isIn (ws_ yX1_isIn cX1_isIn 3 (some .boolean))) := lw_S q540 q541 q161 q542
theorem cwX1_194 : GoodIn lw_all (wsV "MinistryDesks" 194 "MinistryDesks$Scene" yX3_lay (ws_ yX3_lay cX3_lay 7 none)) := lw_V q1178 q1179 q1180 q166 q1181
theorem gX1_186 {p : Program} {l : Launch} {e : Env} {R : Room} {s : State} {m : MethodId} {args : Array Value} {below : List Frame} {meth : Method} {c : Code} {Q : State → Prop} {G : je_G} {cc : ByteArray} {nL : Nat} {rt : Option FieldType} {sz cells slots pc : Nat} {L : List (Nat × Value)} {st : List Value} {κ : kp_K} {dyn : Nat → Option je_E} (C : Cx p s m args meth c G "MinistryDesks" cc nL rt) (d : decode cc pc = .ok (.getfield 186, 3)) (n : Nat) (hn : pc + 3 = n) (kk : Js p l e R s m args below meth c G nL Q (en2 G κ dyn) sz cells slots n L (.int (κ.1 9 1) :: st)) : Js p l e R s m args below meth c G nL Q (en2 G κ dyn) sz cells slots pc L (.ref (G.2.1 + 9) :: st) := jk_getIN (k := 1) C kd9 rfl in_X3 rfl (by decide) q313 rfl d n hn kk
theorem gX1_29 {p : Program} {l : Launch} {e : Env} {R : Room} {s : State} {m : MethodId} {args : Array Value} {below : List Frame} {meth : Method} {c : Code} {Q : State → Prop} {G : je_G} {cc : ByteArray} {nL : Nat} {rt : Option FieldType} {sz cells slots pc : Nat} {L : List (Nat × Value)} {st : List Value} {κ : kp_K} {dyn : Nat → Option je_E} (C : Cx p s m args meth c G "MinistryDesks" cc nL rt) (d : decode cc pc = .ok (.getfield 29, 3)) (n : Nat) (hn : pc + 3 = n) (kk : Js p l e R s m args below meth c G nL Q (en2 G κ dyn) sz cells slots n L (.ref (G.2.1 + 9) :: st)) : Js p l e R s m args below meth c G nL Q (en2 G κ dyn) sz cells slots pc L (.ref (G.2.1 + 0) :: st) := jk_getR (k := 5) (z := 0) C kd0 rfl in_X1 9 rfl (by decide) q446 rfl d n hn kk
set_option maxHeartbeats 4000000 in
theorem wX1_law_83 {p : Program} {l : Launch} {e : Env} {s : State} {m : MethodId} {args : Array Value} {below : List Frame} {meth : Method} {c : Code} {G : je_G} {dyn : Nat → Option je_E} {sz : Nat} {hb : Nat} {hu : hd_T} {r9 : Int64 × kp_K} (C : Cx p s m args meth c G "MinistryDesks" cX1_law 10 (some .long)) (hH : HouseRep G dyn hb hu) (κ : kp_K) (v2 : Int32) (v3 : Int32) (v4 : Int32) (v5 : Int32) (o6 : Option Nat) (s0 : Int32) (h : bX1_law_83 hb hu κ v2 v3 v4 v5 o6 s0 = some r9) : Js p l e ({ frames := 201, cells := 0, slots := 0, locals := 6000 } : Room) s m args below meth c G 10 (MQ below (je_Q G (some (.long r9.1)) (en2 G r9.2 dyn) sz) args s 0 0 (je_A G)) (en2 G κ dyn) sz 0 0 83 [(0, .ref (G.2.1 + 0)), (2, .int v2), (3, .int v3), (4, .int v4), (5, .int v5), (6, va_rf (Option.map (fun q => G.2.1 + q) o6))] [.int s0] := by
  unfold bX1_law_83 at h
  refine je_istore C dX1_law_83 85 rfl (Nat.le_of_ble_eq_true rfl) [(7, .int s0), (0, .ref (G.2.1 + 0)), (2, .int v2), (3, .int v3), (4, .int v4), (5, .int v5), (6, va_rf (Option.map (fun q => G.2.1 + q) o6))] (by cases o6 <;> rfl) ?_
  refine je_aloadR C dX1_law_85 87 rfl 6 rfl ?_
  refine je_ifnullM C 95 dX1_law_87 90 rfl rfl h (fun h => ?_) (fun h => ?_)
  · refine je_ldc2 C q1177 dX1_law_95 98 rfl ?_
    cases h
    exact je_lret C dX1_law_98
  refine je_iload C dX1_law_90 92 rfl 0 rfl ?_
  refine je_if_ne C 99 dX1_law_92 95 rfl rfl h (fun h => ?_) (fun h => ?_)
  · refine je_aload_n C dX1_law_99 100 rfl 1 rfl ?_
    refine gX1_29 C dX1_law_100 103 rfl ?_
    refine je_iload_n C dX1_law_103 104 rfl 2 rfl ?_
    refine je_iload_n C dX1_law_104 105 rfl 3 rfl ?_
    refine je_iload C dX1_law_105 107 rfl 4 rfl ?_
    refine je_iload C dX1_law_107 109 rfl 5 rfl ?_
    refine je_iconst C (0) dX1_law_109 110 rfl ic_0 ?_
    refine je_iconst C (0) dX1_law_110 111 rfl ic_0 ?_
    obtain ⟨k111, hg, h⟩ := p_cl_inv h
    refine je_callVv (As := [.int v2, .int v3, .int v4, .int v5, .int (0 : Int32), .int (0 : Int32)]) (rest := []) C (metX3_lay hg) (en2_at kd9) rfl hdX3_lay rfl cwX1_194 rfl ⟨Nat.le_of_ble_eq_true rfl, Nat.le_of_ble_eq_true rfl⟩ (Nat.le_of_ble_eq_true rfl) dX1_law_111 114 rfl ⟨Nat.le_refl _, Nat.le_refl _⟩ ?_
    refine je_aloadR C dX1_law_114 116 rfl 6 rfl ?_
    refine je_aload_n C dX1_law_116 117 rfl 1 rfl ?_
    refine gX1_29 C dX1_law_117 120 rfl ?_
    obtain ⟨a120, he, h⟩ := p_so_inv h
    obtain ⟨q120, hg, h⟩ := p_cl_inv h
    refine jn_row (rest := []) C hH he hg q1183 ⟨Nat.le_of_ble_eq_true rfl, Nat.le_of_ble_eq_true rfl⟩ (Nat.le_of_ble_eq_true rfl) dX1_law_120 125 rfl ⟨Nat.le_refl _, Nat.le_refl _⟩ ?_
    refine je_ltl h (fun t120 h => ?_)
    refine jk_lt h (fun k120 h => ?_)
    refine je_lstore C dX1_law_125 127 rfl (Nat.le_of_ble_eq_true rfl) [(8, .long t120), (7, .int s0), (0, .ref (G.2.1 + 0)), (2, .int v2), (3, .int v3), (4, .int v4), (5, .int v5), (6, va_rf (Option.map (fun q => G.2.1 + q) o6))] rfl ?_
    refine je_aload_n C dX1_law_127 128 rfl 2 rfl ?_
    refine gX1_29 C dX1_law_128 131 rfl ?_
    refine gX1_186 C dX1_law_131 134 rfl ?_
    refine je_if_eq C 143 dX1_law_134 137 rfl rfl h (fun h => ?_) (fun h => ?_)
    · refine je_lload C dX1_law_143 145 rfl 0 rfl ?_
      cases h
      exact je_lret C dX1_law_145
    refine je_ldc2 C q1177 dX1_law_137 140 rfl ?_
    refine je_goto C 145 dX1_law_140 rfl ?_
    cases h
    exact je_lret C dX1_law_145
  refine je_ldc2 C q1177 dX1_law_95 98 rfl ?_
  cases h
  exact je_lret C dX1_law_98
set_option maxHeartbeats 4000000 in
theorem wX1_law_82 {p : Program} {l : Launch} {e : Env} {s : State} {m : MethodId} {args : Array Value} {below : List Frame} {meth : Method} {c : Code} {G : je_G} {dyn : Nat → Option je_E} {sz : Nat} {hb : Nat} {hu : hd_T} {r9 : Int64 × kp_K} (C : Cx p s m args meth c G "MinistryDesks" cX1_law 10 (some .long)) (hH : HouseRep G dyn hb hu) (κ : kp_K) (v2 : Int32) (v3 : Int32) (v4 : Int32) (v5 : Int32) (o6 : Option Nat) (h : bX1_law_82 hb hu κ v2 v3 v4 v5 o6 = some r9) : Js p l e ({ frames := 201, cells := 0, slots := 0, locals := 6000 } : Room) s m args below meth c G 10 (MQ below (je_Q G (some (.long r9.1)) (en2 G r9.2 dyn) sz) args s 0 0 (je_A G)) (en2 G κ dyn) sz 0 0 82 [(0, .ref (G.2.1 + 0)), (2, .int v2), (3, .int v3), (4, .int v4), (5, .int v5), (6, va_rf (Option.map (fun q => G.2.1 + q) o6))] [] := by
  unfold bX1_law_82 at h
  refine je_iconst C (0) dX1_law_82 83 rfl ic_0 ?_
  exact wX1_law_83 C hH κ v2 v3 v4 v5 o6 (0 : Int32) h
set_option maxHeartbeats 4000000 in
theorem wX1_law_30 {p : Program} {l : Launch} {e : Env} {s : State} {m : MethodId} {args : Array Value} {below : List Frame} {meth : Method} {c : Code} {G : je_G} {dyn : Nat → Option je_E} {sz : Nat} {hb : Nat} {hu : hd_T} {r9 : Int64 × kp_K} (C : Cx p s m args meth c G "MinistryDesks" cX1_law 10 (some .long)) (hH : HouseRep G dyn hb hu) (κ : kp_K) (v2 : Int32) (v3 : Int32) (v4 : Int32) (v5 : Int32) (s0 : Option Nat) (h : bX1_law_30 hb hu κ v2 v3 v4 v5 s0 = some r9) : Js p l e ({ frames := 201, cells := 0, slots := 0, locals := 6000 } : Room) s m args below meth c G 10 (MQ below (je_Q G (some (.long r9.1)) (en2 G r9.2 dyn) sz) args s 0 0 (je_A G)) (en2 G κ dyn) sz 0 0 30 [(0, .ref (G.2.1 + 0)), (2, .int v2), (3, .int v3), (4, .int v4), (5, .int v5)] [va_rf (Option.map (fun q => G.2.1 + q) s0)] := by
  unfold bX1_law_30 at h
  refine je_astoreR C dX1_law_30 32 rfl (Nat.le_of_ble_eq_true rfl) [(6, va_rf (Option.map (fun q => G.2.1 + q) s0)), (0, .ref (G.2.1 + 0)), (2, .int v2), (3, .int v3), (4, .int v4), (5, .int v5)] rfl ?_
  refine je_iload_n C dX1_law_32 33 rfl 2 rfl ?_
  refine je_iconst C (0) dX1_law_33 34 rfl ic_0 ?_
  refine je_sipush C (999) dX1_law_34 37 rfl sp_999 ?_
  obtain ⟨t37, hg, h⟩ := p_cl_inv h
  refine je_callSi (As := [.int v2, .int (0 : Int32), .int (999 : Int32)]) (rest := []) C (metX1_isIn hg) hdX1_isIn cwX1_107 rfl ⟨Nat.le_of_ble_eq_true rfl, Nat.le_of_ble_eq_true rfl⟩ (Nat.le_of_ble_eq_true rfl) dX1_law_37 40 rfl ⟨Nat.le_refl _, Nat.le_refl _⟩ ?_
  refine je_if_eq C 82 dX1_law_40 43 rfl rfl h (fun h => ?_) (fun h => ?_)
  · refine je_sub [1, 2, 3, 4, 5, 0] [(0, .ref (G.2.1 + 0)), (2, .int v2), (3, .int v3), (4, .int v4), (5, .int v5), (6, va_rf (Option.map (fun q => G.2.1 + q) s0))] rfl ?_
    exact wX1_law_82 C hH κ v2 v3 v4 v5 s0 h
  refine je_iload_n C dX1_law_43 44 rfl 3 rfl ?_
  refine je_iconst C (0) dX1_law_44 45 rfl ic_0 ?_
  refine je_sipush C (999) dX1_law_45 48 rfl sp_999 ?_
  obtain ⟨t48, hg, h⟩ := p_cl_inv h
  refine je_callSi (As := [.int v3, .int (0 : Int32), .int (999 : Int32)]) (rest := []) C (metX1_isIn hg) hdX1_isIn cwX1_107 rfl ⟨Nat.le_of_ble_eq_true rfl, Nat.le_of_ble_eq_true rfl⟩ (Nat.le_of_ble_eq_true rfl) dX1_law_48 51 rfl ⟨Nat.le_refl _, Nat.le_refl _⟩ ?_
  refine je_if_eq C 82 dX1_law_51 54 rfl rfl h (fun h => ?_) (fun h => ?_)
  · refine je_sub [1, 2, 3, 4, 5, 0] [(0, .ref (G.2.1 + 0)), (2, .int v2), (3, .int v3), (4, .int v4), (5, .int v5), (6, va_rf (Option.map (fun q => G.2.1 + q) s0))] rfl ?_
    exact wX1_law_82 C hH κ v2 v3 v4 v5 s0 h
  refine je_iload C dX1_law_54 56 rfl 4 rfl ?_
  refine je_iconst C (0) dX1_law_56 57 rfl ic_0 ?_
  refine je_sipush C (999) dX1_law_57 60 rfl sp_999 ?_
  obtain ⟨t60, hg, h⟩ := p_cl_inv h
  refine je_callSi (As := [.int v4, .int (0 : Int32), .int (999 : Int32)]) (rest := []) C (metX1_isIn hg) hdX1_isIn cwX1_107 rfl ⟨Nat.le_of_ble_eq_true rfl, Nat.le_of_ble_eq_true rfl⟩ (Nat.le_of_ble_eq_true rfl) dX1_law_60 63 rfl ⟨Nat.le_refl _, Nat.le_refl _⟩ ?_
  refine je_if_eq C 82 dX1_law_63 66 rfl rfl h (fun h => ?_) (fun h => ?_)
  · refine je_sub [1, 2, 3, 4, 5, 0] [(0, .ref (G.2.1 + 0)), (2, .int v2), (3, .int v3), (4, .int v4), (5, .int v5), (6, va_rf (Option.map (fun q => G.2.1 + q) s0))] rfl ?_
    exact wX1_law_82 C hH κ v2 v3 v4 v5 s0 h
  refine je_iload C dX1_law_66 68 rfl 5 rfl ?_
  refine je_iconst C (0) dX1_law_68 69 rfl ic_0 ?_
  refine je_sipush C (999) dX1_law_69 72 rfl sp_999 ?_
  obtain ⟨t72, hg, h⟩ := p_cl_inv h
  refine je_callSi (As := [.int v5, .int (0 : Int32), .int (999 : Int32)]) (rest := []) C (metX1_isIn hg) hdX1_isIn cwX1_107 rfl ⟨Nat.le_of_ble_eq_true rfl, Nat.le_of_ble_eq_true rfl⟩ (Nat.le_of_ble_eq_true rfl) dX1_law_72 75 rfl ⟨Nat.le_refl _, Nat.le_refl _⟩ ?_
  refine je_if_eq C 82 dX1_law_75 78 rfl rfl h (fun h => ?_) (fun h => ?_)
  · refine je_sub [1, 2, 3, 4, 5, 0] [(0, .ref (G.2.1 + 0)), (2, .int v2), (3, .int v3), (4, .int v4), (5, .int v5), (6, va_rf (Option.map (fun q => G.2.1 + q) s0))] rfl ?_
    exact wX1_law_82 C hH κ v2 v3 v4 v5 s0 h
  refine je_iconst C (1) dX1_law_78 79 rfl ic_1 ?_
  refine je_goto C 83 dX1_law_79 rfl ?_
  refine je_sub [1, 2, 3, 4, 5, 0] [(0, .ref (G.2.1 + 0)), (2, .int v2), (3, .int v3), (4, .int v4), (5, .int v5), (6, va_rf (Option.map (fun q => G.2.1 + q) s0))] rfl ?_
  exact wX1_law_83 C hH κ v2 v3 v4 v5 s0 (1 : Int32) h
set_option maxHeartbeats 4000000 in
theorem metX1_law {l : Launch} {G : je_G} {dyn : Nat → Option je_E} {sz : Nat} {hb : Nat} {hu : hd_T} {κ : kp_K} {v1 : Int32} {v2 : Int32} {v3 : Int32} {v4 : Int32} {v5 : Int32} {r9 : Int64 × kp_K} (hH : HouseRep G dyn hb hu) (h : pX1_law hb hu κ v1 v2 v3 v4 v5 = some r9) : MetS l G yX1_law cX1_law 10 (some .long) 201 6000 0 0 [.ref (G.2.1 + 0), .int v1, .int v2, .int v3, .int v4, .int v5] (en2 G κ dyn) sz (some (.long r9.1)) (en2 G r9.2 dyn) sz := by
  refine je_met "MinistryDesks" rfl (by decide +kernel) (Nat.le_of_ble_eq_true rfl) [(0, .ref (G.2.1 + 0)), (1, .int v1), (2, .int v2), (3, .int v3), (4, .int v4), (5, .int v5)] rfl (fun p e s m args below meth c C => ?_)
  unfold pX1_law at h
  refine je_iload_n C dX1_law_0 1 rfl 1 rfl ?_
  refine je_if_ne C 14 dX1_law_1 4 rfl rfl h (fun h => ?_) (fun h => ?_)
  · refine je_iload_n C dX1_law_14 15 rfl 1 rfl ?_
    refine je_iconst C (1) dX1_law_15 16 rfl ic_1 ?_
    refine je_icmp_ne C 29 dX1_law_16 19 rfl rfl h (fun h => ?_) (fun h => ?_)
    · refine je_nullR C dX1_law_29 30 rfl ?_
      refine je_sub [0, 2, 3, 4, 5] [(0, .ref (G.2.1 + 0)), (2, .int v2), (3, .int v3), (4, .int v4), (5, .int v5)] rfl ?_
      exact wX1_law_30 C hH κ v2 v3 v4 v5 none h
    refine je_aload_n C dX1_law_19 20 rfl 0 rfl ?_
    obtain ⟨hx, h⟩ := p_hs_inv h
    refine gX1_22 C hx dX1_law_20 23 rfl ?_
    refine jh_refN C hH 7 (by decide) q267 rfl dX1_law_23 26 rfl ?_
    refine je_goto C 30 dX1_law_26 rfl ?_
    refine je_sub [0, 2, 3, 4, 5] [(0, .ref (G.2.1 + 0)), (2, .int v2), (3, .int v3), (4, .int v4), (5, .int v5)] rfl ?_
    exact wX1_law_30 C hH κ v2 v3 v4 v5 (hu.2.2.1 7) h
  refine je_aload_n C dX1_law_4 5 rfl 0 rfl ?_
  obtain ⟨hx, h⟩ := p_hs_inv h
  refine gX1_22 C hx dX1_law_5 8 rfl ?_
  refine jh_refN C hH 6 (by decide) q265 rfl dX1_law_8 11 rfl ?_
  refine je_goto C 30 dX1_law_11 rfl ?_
  refine je_sub [0, 2, 3, 4, 5] [(0, .ref (G.2.1 + 0)), (2, .int v2), (3, .int v3), (4, .int v4), (5, .int v5)] rfl ?_
  exact wX1_law_30 C hH κ v2 v3 v4 v5 (hu.2.2.1 6) h
theorem cwX1_160 : GoodIn lw_all (wsV "MinistryDesks" 160 "java/util/ArrayList" yJ2_size (ws_ yJ2_size cJ2_size 1 (some .int))) := lw_V q1254 q803 q804 q165 q805
set_option maxHeartbeats 4000000 in
theorem metX1_desks {l : Launch} {G : je_G} {dyn : Nat → Option je_E} {sz : Nat} {hb : Nat} {hu : hd_T} {κ : kp_K}  {r9 : Int32} (hH : HouseRep G dyn hb hu) (h : pX1_desks hb hu κ = some r9) : MetS l G yX1_desks cX1_desks 1 (some .int) 4 120 0 0 [.ref (G.2.1 + 0)] (en2 G κ dyn) sz (some (.int r9)) (en2 G κ dyn) sz := by
  refine je_met "MinistryDesks" rfl (by decide +kernel) (Nat.le_of_ble_eq_true rfl) [(0, .ref (G.2.1 + 0))] rfl (fun p e s m args below meth c C => ?_)
  unfold pX1_desks at h
  refine je_aload_n C dX1_desks_0 1 rfl 0 rfl ?_
  obtain ⟨hx, h⟩ := p_hs_inv h
  refine gX1_22 C hx dX1_desks_1 4 rfl ?_
  refine jh_listN C hH (t := 0) (by decide) q246 rfl dX1_desks_4 7 rfl ?_
  refine jh_size (t := 0) (rest := []) C hH (by decide) cwX1_160 ⟨Nat.le_of_ble_eq_true rfl, Nat.le_of_ble_eq_true rfl⟩ (Nat.le_of_ble_eq_true rfl) dX1_desks_7 10 rfl ⟨Nat.le_refl _, Nat.le_refl _⟩ ?_
  cases h
  exact je_iret C dX1_desks_10
theorem hdX1_desks : je_hd yX1_desks 0 := ⟨by decide +kernel, by decide +kernel, by decide +kernel⟩
theorem cwX1_166 : GoodIn lw_all (wsV "MinistryDesks" 166 "MinistryDesks" yX1_desks (ws_ yX1_desks cX1_desks 1 (some .int))) := lw_V q1250 q1252 qs32 q161 q1253
set_option maxHeartbeats 4000000 in
theorem metX1_isDesk {l : Launch} {G : je_G} {dyn : Nat → Option je_E} {sz : Nat} {hb : Nat} {hu : hd_T} {κ : kp_K} {v1 : Int32} {r9 : Int32} (hH : HouseRep G dyn hb hu) (h : pX1_isDesk hb hu κ v1 = some r9) : MetS l G yX1_isDesk cX1_isDesk 2 (some .boolean) 5 140 0 0 [.ref (G.2.1 + 0), .int v1] (en2 G κ dyn) sz (some (.int r9)) (en2 G κ dyn) sz := by
  refine je_met "MinistryDesks" rfl (by decide +kernel) (Nat.le_of_ble_eq_true rfl) [(0, .ref (G.2.1 + 0)), (1, .int v1)] rfl (fun p e s m args below meth c C => ?_)
  unfold pX1_isDesk at h
  refine je_iload_n C dX1_isDesk_0 1 rfl 1 rfl ?_
  refine je_iconst C (0) dX1_isDesk_1 2 rfl ic_0 ?_
  refine je_aload_n C dX1_isDesk_2 3 rfl 0 rfl ?_
  obtain ⟨t3, hg, h⟩ := p_cl_inv h
  refine je_callVi (As := []) (rest := [.int (0 : Int32), .int v1]) C (metX1_desks hH hg) (en2_at kd0) rfl hdX1_desks rfl cwX1_166 rfl ⟨Nat.le_of_ble_eq_true rfl, Nat.le_of_ble_eq_true rfl⟩ (Nat.le_of_ble_eq_true rfl) dX1_isDesk_3 6 rfl ⟨Nat.le_refl _, Nat.le_refl _⟩ ?_
  refine je_iconst C (1) dX1_isDesk_6 7 rfl ic_1 ?_
  refine je_isub C dX1_isDesk_7 8 rfl ?_
  obtain ⟨t8, hg, h⟩ := p_cl_inv h
  refine je_callSi (As := [.int v1, .int (0 : Int32), .int (t3 - (1 : Int32))]) (rest := []) C (metX1_isIn hg) hdX1_isIn cwX1_107 rfl ⟨Nat.le_of_ble_eq_true rfl, Nat.le_of_ble_eq_true rfl⟩ (Nat.le_of_ble_eq_true rfl) dX1_isDesk_8 11 rfl ⟨Nat.le_refl _, Nat.le_refl _⟩ ?_
  obtain ⟨hz, h⟩ := p_cz_inv h
  cases h
  exact je_zret C dX1_isDesk_11 hz
theorem hdX1_isDesk : je_hd yX1_isDesk 1 := ⟨by decide +kernel, by decide +kernel, by decide +kernel⟩
theorem cwX1_198 : GoodIn lw_all (wsV "MinistryDesks" 198 "MinistryDesks" yX1_isDesk (ws_ yX1_isDesk cX1_isDesk 2 (some .boolean))) := lw_V q1246 q1248 qs31 q161 q1249
theorem gX1_48 {p : Program} {l : Launch} {e : Env} {R : Room} {s : State} {m : MethodId} {args : Array Value} {below : List Frame} {meth : Method} {c : Code} {Q : State → Prop} {G : je_G} {cc : ByteArray} {nL : Nat} {rt : Option FieldType} {sz cells slots pc : Nat} {L : List (Nat × Value)} {st : List Value} {κ : kp_K} {dyn : Nat → Option je_E} (C : Cx p s m args meth c G "MinistryDesks" cc nL rt) (d : decode cc pc = .ok (.getfield 48, 3)) (n : Nat) (hn : pc + 3 = n) (kk : Js p l e R s m args below meth c G nL Q (en2 G κ dyn) sz cells slots n L (.ref (G.2.1 + 13) :: st)) : Js p l e R s m args below meth c G nL Q (en2 G κ dyn) sz cells slots pc L (.ref (G.2.1 + 0) :: st) := jk_getR (k := 8) (z := 0) C kd0 rfl in_X1 13 rfl (by decide) q450 rfl d n hn kk
theorem gX1_truth_208 {p : Program} {l : Launch} {e : Env} {R : Room} {s : State} {m : MethodId} {args : Array Value} {below : List Frame} {meth : Method} {c : Code} {Q : State → Prop} {G : je_G} {cc : ByteArray} {nL : Nat} {rt : Option FieldType} {sz cells slots pc : Nat} {L : List (Nat × Value)} {st : List Value} {κ : kp_K} {dyn : Nat → Option je_E} (C : Cx p s m args meth c G "MinistryDesks" cc nL rt) (d : decode cc pc = .ok (.getfield 208, 3)) (n : Nat) (hn : pc + 3 = n) (kk : Js p l e R s m args below meth c G nL Q (en2 G κ dyn) sz cells slots n L (.ref (G.2.1 + 14) :: st)) : Js p l e R s m args below meth c G nL Q (en2 G κ dyn) sz cells slots pc L (.ref (G.2.1 + 13) :: st) := jk_getRN (k := 2) (z := 0) C kd13 rfl in_X5 14 rfl (by decide) q372 rfl d n hn kk
theorem gX1_truth_226 {p : Program} {l : Launch} {e : Env} {R : Room} {s : State} {m : MethodId} {args : Array Value} {below : List Frame} {meth : Method} {c : Code} {Q : State → Prop} {G : je_G} {cc : ByteArray} {nL : Nat} {rt : Option FieldType} {sz cells slots pc : Nat} {L : List (Nat × Value)} {st : List Value} {κ : kp_K} {dyn : Nat → Option je_E} (C : Cx p s m args meth c G "MinistryDesks" cc nL rt) (d : decode cc pc = .ok (.getfield 226, 3)) (n : Nat) (hn : pc + 3 = n) (kk : Js p l e R s m args below meth c G nL Q (en2 G κ dyn) sz cells slots n L (.ref (G.2.1 + 18) :: st)) : Js p l e R s m args below meth c G nL Q (en2 G κ dyn) sz cells slots pc L (.ref (G.2.1 + 13) :: st) := jk_getRN (k := 6) (z := 0) C kd13 rfl in_X5 18 rfl (by decide) q379 rfl d n hn kk
theorem gX1_truth_228 {p : Program} {l : Launch} {e : Env} {R : Room} {s : State} {m : MethodId} {args : Array Value} {below : List Frame} {meth : Method} {c : Code} {Q : State → Prop} {G : je_G} {cc : ByteArray} {nL : Nat} {rt : Option FieldType} {sz cells slots pc : Nat} {L : List (Nat × Value)} {st : List Value} {κ : kp_K} {dyn : Nat → Option je_E} (C : Cx p s m args meth c G "MinistryDesks" cc nL rt) (d : decode cc pc = .ok (.getfield 228, 3)) (n : Nat) (hn : pc + 3 = n) (kk : Js p l e R s m args below meth c G nL Q (en2 G κ dyn) sz cells slots n L (.ref (G.2.1 + 19) :: st)) : Js p l e R s m args below meth c G nL Q (en2 G κ dyn) sz cells slots pc L (.ref (G.2.1 + 13) :: st) := jk_getRN (k := 7) (z := 0) C kd13 rfl in_X5 19 rfl (by decide) q381 rfl d n hn kk
theorem gX1_truth_231 {p : Program} {l : Launch} {e : Env} {R : Room} {s : State} {m : MethodId} {args : Array Value} {below : List Frame} {meth : Method} {c : Code} {Q : State → Prop} {G : je_G} {cc : ByteArray} {nL : Nat} {rt : Option FieldType} {sz cells slots pc : Nat} {L : List (Nat × Value)} {st : List Value} {κ : kp_K} {dyn : Nat → Option je_E} (C : Cx p s m args meth c G "MinistryDesks" cc nL rt) (d : decode cc pc = .ok (.getfield 231, 3)) (n : Nat) (hn : pc + 3 = n) (kk : Js p l e R s m args below meth c G nL Q (en2 G κ dyn) sz cells slots n L (.ref (G.2.1 + 20) :: st)) : Js p l e R s m args below meth c G nL Q (en2 G κ dyn) sz cells slots pc L (.ref (G.2.1 + 13) :: st) := jk_getRN (k := 8) (z := 0) C kd13 rfl in_X5 20 rfl (by decide) q383 rfl d n hn kk
set_option maxHeartbeats 4000000 in
theorem metX1_line {l : Launch} {G : je_G} {dyn : Nat → Option je_E} {sz : Nat} {hb : Nat} {hu : hd_T} {κ : kp_K} {v1 : Int32} {v2 : Int32} {v3 : Int32} {r9 : Int32} (hH : HouseRep G dyn hb hu) (h : pX1_line hb hu κ v1 v2 v3 = some r9) : MetS l G yX1_line cX1_line 5 (some .int) 6 161 0 0 [.ref (G.2.1 + 0), .int v1, .int v2, .int v3] (en2 G κ dyn) sz (some (.int r9)) (en2 G κ dyn) sz := by
  refine je_met "MinistryDesks" rfl (by decide +kernel) (Nat.le_of_ble_eq_true rfl) [(0, .ref (G.2.1 + 0)), (1, .int v1), (2, .int v2), (3, .int v3)] rfl (fun p e s m args below meth c C => ?_)
  unfold pX1_line at h
  refine je_aload_n C dX1_line_0 1 rfl 0 rfl ?_
  refine je_iload_n C dX1_line_1 2 rfl 1 rfl ?_
  obtain ⟨t2, hg, h⟩ := p_cl_inv h
  refine je_callVi (As := [.int v1]) (rest := []) C (metX1_isDesk hH hg) (en2_at kd0) rfl hdX1_isDesk rfl cwX1_198 rfl ⟨Nat.le_of_ble_eq_true rfl, Nat.le_of_ble_eq_true rfl⟩ (Nat.le_of_ble_eq_true rfl) dX1_line_2 5 rfl ⟨Nat.le_refl _, Nat.le_refl _⟩ ?_
  refine je_if_eq C 21 dX1_line_5 8 rfl rfl h (fun h => ?_) (fun h => ?_)
  · refine je_iconst C (-1) dX1_line_21 22 rfl ic_m1 ?_
    cases h
    exact je_iret C dX1_line_22
  refine je_iload_n C dX1_line_8 9 rfl 2 rfl ?_
  refine je_if_lt C 21 dX1_line_9 12 rfl rfl h (fun h => ?_) (fun h => ?_)
  · refine je_iconst C (-1) dX1_line_21 22 rfl ic_m1 ?_
    cases h
    exact je_iret C dX1_line_22
  refine je_iload_n C dX1_line_12 13 rfl 3 rfl ?_
  refine je_iconst C (0) dX1_line_13 14 rfl ic_0 ?_
  refine je_iconst C (2) dX1_line_14 15 rfl ic_2 ?_
  obtain ⟨t15, hg, h⟩ := p_cl_inv h
  refine je_callSi (As := [.int v3, .int (0 : Int32), .int (2 : Int32)]) (rest := []) C (metX1_isIn hg) hdX1_isIn cwX1_107 rfl ⟨Nat.le_of_ble_eq_true rfl, Nat.le_of_ble_eq_true rfl⟩ (Nat.le_of_ble_eq_true rfl) dX1_line_15 18 rfl ⟨Nat.le_refl _, Nat.le_refl _⟩ ?_
  refine je_if_ne C 23 dX1_line_18 21 rfl rfl h (fun h => ?_) (fun h => ?_)
  · refine je_iload_n C dX1_line_23 24 rfl 2 rfl ?_
    refine je_aload_n C dX1_line_24 25 rfl 0 rfl ?_
    refine gX1_48 C dX1_line_25 28 rfl ?_
    refine gX1_truth_208 C dX1_line_28 31 rfl ?_
    refine je_iload_n C dX1_line_31 32 rfl 1 rfl ?_
    refine jk_iald C kd14 dX1_line_32 33 rfl h (fun h => ?_)
    refine je_icmp_lt C 39 dX1_line_33 36 rfl rfl h (fun h => ?_) (fun h => ?_)
    · refine je_bipush C (7) dX1_line_39 41 rfl bp_7 ?_
      refine je_iload_n C dX1_line_41 42 rfl 1 rfl ?_
      refine je_imul C dX1_line_42 43 rfl ?_
      refine je_iload_n C dX1_line_43 44 rfl 2 rfl ?_
      refine je_iadd C dX1_line_44 45 rfl ?_
      refine je_lti h (fun t45 h => ?_)
      refine je_istore C dX1_line_45 47 rfl (Nat.le_of_ble_eq_true rfl) [(4, .int t45), (0, .ref (G.2.1 + 0)), (1, .int v1), (2, .int v2), (3, .int v3)] rfl ?_
      refine je_iload_n C dX1_line_47 48 rfl 4 rfl ?_
      refine je_if_ne C 64 dX1_line_48 51 rfl rfl h (fun h => ?_) (fun h => ?_)
      · refine je_iload_n C dX1_line_64 65 rfl 4 rfl ?_
        refine je_iconst C (1) dX1_line_65 66 rfl ic_1 ?_
        refine je_icmp_ne C 82 dX1_line_66 69 rfl rfl h (fun h => ?_) (fun h => ?_)
        · refine je_aload_n C dX1_line_82 83 rfl 1 rfl ?_
          refine gX1_48 C dX1_line_83 86 rfl ?_
          refine gX1_truth_231 C dX1_line_86 89 rfl ?_
          refine je_iload C dX1_line_89 91 rfl 0 rfl ?_
          refine jk_iald C kd20 dX1_line_91 92 rfl h (fun h => ?_)
          cases h
          exact je_iret C dX1_line_92
        refine je_aload_n C dX1_line_69 70 rfl 1 rfl ?_
        refine gX1_48 C dX1_line_70 73 rfl ?_
        refine gX1_truth_228 C dX1_line_73 76 rfl ?_
        refine je_iload C dX1_line_76 78 rfl 0 rfl ?_
        refine jk_iald C kd19 dX1_line_78 79 rfl h (fun h => ?_)
        refine je_goto C 92 dX1_line_79 rfl ?_
        cases h
        exact je_iret C dX1_line_92
      refine je_aload_n C dX1_line_51 52 rfl 1 rfl ?_
      refine gX1_48 C dX1_line_52 55 rfl ?_
      refine gX1_truth_226 C dX1_line_55 58 rfl ?_
      refine je_iload C dX1_line_58 60 rfl 0 rfl ?_
      refine jk_iald C kd18 dX1_line_60 61 rfl h (fun h => ?_)
      refine je_goto C 92 dX1_line_61 rfl ?_
      cases h
      exact je_iret C dX1_line_92
    refine je_bipush C (-2) dX1_line_36 38 rfl bp_m2 ?_
    cases h
    exact je_iret C dX1_line_38
  refine je_iconst C (-1) dX1_line_21 22 rfl ic_m1 ?_
  cases h
  exact je_iret C dX1_line_22
theorem gX5_run_53 {p : Program} {l : Launch} {e : Env} {R : Room} {s : State} {m : MethodId} {args : Array Value} {below : List Frame} {meth : Method} {c : Code} {Q : State → Prop} {G : je_G} {cc : ByteArray} {nL : Nat} {rt : Option FieldType} {sz cells slots pc : Nat} {L : List (Nat × Value)} {st : List Value} {κ : kp_K} {dyn : Nat → Option je_E} (C : Cx p s m args meth c G "MinistryDesks$Run" cc nL rt) {r : Nat} (hr : r < 3) (d : decode cc pc = .ok (.getfield 53, 3)) (n : Nat) (hn : pc + 3 = n) (kk : Js p l e R s m args below meth c G nL Q (en2 G κ dyn) sz cells slots n L (.ref (G.2.1 + (26 + 14 * r)) :: st)) : Js p l e R s m args below meth c G nL Q (en2 G κ dyn) sz cells slots pc L (.ref (G.2.1 + (13 + 14 * r)) :: st) := jk_getR (k := 15) (z := 0) C (kro hr) rfl in_X5 (26 + 14 * r) rfl (by decide) q391 rfl d n hn kk
theorem gX5_run_60 {p : Program} {l : Launch} {e : Env} {R : Room} {s : State} {m : MethodId} {args : Array Value} {below : List Frame} {meth : Method} {c : Code} {Q : State → Prop} {G : je_G} {cc : ByteArray} {nL : Nat} {rt : Option FieldType} {sz cells slots pc : Nat} {L : List (Nat × Value)} {st : List Value} {κ : kp_K} {dyn : Nat → Option je_E} (C : Cx p s m args meth c G "MinistryDesks$Run" cc nL rt) {r : Nat} (hr : r < 3) (d : decode cc pc = .ok (.getfield 60, 3)) (n : Nat) (hn : pc + 3 = n) (kk : Js p l e R s m args below meth c G nL Q (en2 G κ dyn) sz cells slots n L (.int (κ.1 (13 + 14 * r) 1) :: st)) : Js p l e R s m args below meth c G nL Q (en2 G κ dyn) sz cells slots pc L (.ref (G.2.1 + (13 + 14 * r)) :: st) := jk_getI (k := 1) C (kro hr) rfl in_X5 rfl (by decide) q369 rfl d n hn kk
theorem gX5_run_64 {p : Program} {l : Launch} {e : Env} {R : Room} {s : State} {m : MethodId} {args : Array Value} {below : List Frame} {meth : Method} {c : Code} {Q : State → Prop} {G : je_G} {cc : ByteArray} {nL : Nat} {rt : Option FieldType} {sz cells slots pc : Nat} {L : List (Nat × Value)} {st : List Value} {κ : kp_K} {dyn : Nat → Option je_E} (C : Cx p s m args meth c G "MinistryDesks$Run" cc nL rt) {r : Nat} (hr : r < 3) (d : decode cc pc = .ok (.getfield 64, 3)) (n : Nat) (hn : pc + 3 = n) (kk : Js p l e R s m args below meth c G nL Q (en2 G κ dyn) sz cells slots n L (.int (κ.1 (13 + 14 * r) 16) :: st)) : Js p l e R s m args below meth c G nL Q (en2 G κ dyn) sz cells slots pc L (.ref (G.2.1 + (13 + 14 * r)) :: st) := jk_getI (k := 16) C (kro hr) rfl in_X5 rfl (by decide) q393 rfl d n hn kk
theorem sX5_run_64 {p : Program} {l : Launch} {e : Env} {R : Room} {s : State} {m : MethodId} {args : Array Value} {below : List Frame} {meth : Method} {c : Code} {Q : State → Prop} {G : je_G} {cc : ByteArray} {nL : Nat} {rt : Option FieldType} {sz cells slots pc : Nat} {L : List (Nat × Value)} {st : List Value} {κ : kp_K} {dyn : Nat → Option je_E} (C : Cx p s m args meth c G "MinistryDesks$Run" cc nL rt) {r : Nat} (hr : r < 3) {v : Int32} (d : decode cc pc = .ok (.putfield 64, 3)) (n : Nat) (hn : pc + 3 = n) (kk : Js p l e R s m args below meth c G nL Q (en2 G (s_i κ (13 + 14 * r) 16 v) dyn) sz cells slots n L st) : Js p l e R s m args below meth c G nL Q (en2 G κ dyn) sz cells slots pc L (.int v :: .ref (G.2.1 + (13 + 14 * r)) :: st) := jk_putI (k := 16) C (kro hr) rfl in_X5 tyX5 tyX5_ok nmX5 rfl (by decide) q393 rfl rfl rfl d n hn kk
set_option maxHeartbeats 4000000 in
theorem metX5_goes {l : Launch} {G : je_G} {dyn : Nat → Option je_E} {sz : Nat} {r : Nat} {κ : kp_K} {v1 : Int32} {v2 : Int32} {v3 : Int32} {r9 : kp_K} (hr : r < 3) (h : pX5_goes r κ v1 v2 v3 = some r9) : MetS l G yX5_goes cX5_goes 4 none 0 0 0 0 [.ref (G.2.1 + (13 + 14 * r)), .int v1, .int v2, .int v3] (en2 G κ dyn) sz none (en2 G r9 dyn) sz := by
  refine je_met "MinistryDesks$Run" rfl (by decide +kernel) (Nat.le_of_ble_eq_true rfl) [(0, .ref (G.2.1 + (13 + 14 * r))), (1, .int v1), (2, .int v2), (3, .int v3)] rfl (fun p e s m args below meth c C => ?_)
  unfold pX5_goes at h
  refine je_aload_n C dX5_goes_0 1 rfl 0 rfl ?_
  refine gX5_run_53 C hr dX5_goes_1 4 rfl ?_
  refine je_aload_n C dX5_goes_4 5 rfl 0 rfl ?_
  refine gX5_run_64 C hr dX5_goes_5 8 rfl ?_
  refine je_aload_n C dX5_goes_8 9 rfl 0 rfl ?_
  refine gX5_run_60 C hr dX5_goes_9 12 rfl ?_
  refine je_bipush C (8) dX5_goes_12 14 rfl bp_8 ?_
  refine je_imul C dX5_goes_14 15 rfl ?_
  refine je_iload_n C dX5_goes_15 16 rfl 1 rfl ?_
  refine je_iadd C dX5_goes_16 17 rfl ?_
  refine je_bipush C (8) dX5_goes_17 19 rfl bp_8 ?_
  refine je_imul C dX5_goes_19 20 rfl ?_
  refine je_iload_n C dX5_goes_20 21 rfl 2 rfl ?_
  refine je_iadd C dX5_goes_21 22 rfl ?_
  refine je_iconst C (4) dX5_goes_22 23 rfl ic_4 ?_
  refine je_imul C dX5_goes_23 24 rfl ?_
  refine je_iload_n C dX5_goes_24 25 rfl 3 rfl ?_
  refine je_iadd C dX5_goes_25 26 rfl ?_
  refine jk_iast C (kr13 hr) dX5_goes_26 27 rfl h (fun h => ?_)
  refine jk_lt h (fun k26 h => ?_)
  refine je_aload_n C dX5_goes_27 28 rfl 0 rfl ?_
  refine je_dup C dX5_goes_28 29 rfl rfl ?_
  refine gX5_run_64 C hr dX5_goes_29 32 rfl ?_
  refine je_iconst C (1) dX5_goes_32 33 rfl ic_1 ?_
  refine je_iadd C dX5_goes_33 34 rfl ?_
  refine sX5_run_64 C hr dX5_goes_34 37 rfl ?_
  refine jk_lt h (fun k34 h => ?_)
  cases h
  exact je_vret C dX5_goes_37
theorem gX5_run_15 {p : Program} {l : Launch} {e : Env} {R : Room} {s : State} {m : MethodId} {args : Array Value} {below : List Frame} {meth : Method} {c : Code} {Q : State → Prop} {G : je_G} {cc : ByteArray} {nL : Nat} {rt : Option FieldType} {sz cells slots pc : Nat} {L : List (Nat × Value)} {st : List Value} {κ : kp_K} {dyn : Nat → Option je_E} (C : Cx p s m args meth c G "MinistryDesks$Run" cc nL rt) {r : Nat} (hr : r < 3) (d : decode cc pc = .ok (.getfield 15, 3)) (n : Nat) (hn : pc + 3 = n) (kk : Js p l e R s m args below meth c G nL Q (en2 G κ dyn) sz cells slots n L (.ref (G.2.1 + (14 + 14 * r)) :: st)) : Js p l e R s m args below meth c G nL Q (en2 G κ dyn) sz cells slots pc L (.ref (G.2.1 + (13 + 14 * r)) :: st) := jk_getR (k := 2) (z := 0) C (kro hr) rfl in_X5 (14 + 14 * r) rfl (by decide) q371 rfl d n hn kk
theorem gX5_run_29 {p : Program} {l : Launch} {e : Env} {R : Room} {s : State} {m : MethodId} {args : Array Value} {below : List Frame} {meth : Method} {c : Code} {Q : State → Prop} {G : je_G} {cc : ByteArray} {nL : Nat} {rt : Option FieldType} {sz cells slots pc : Nat} {L : List (Nat × Value)} {st : List Value} {κ : kp_K} {dyn : Nat → Option je_E} (C : Cx p s m args meth c G "MinistryDesks$Run" cc nL rt) {r : Nat} (hr : r < 3) (d : decode cc pc = .ok (.getfield 29, 3)) (n : Nat) (hn : pc + 3 = n) (kk : Js p l e R s m args below meth c G nL Q (en2 G κ dyn) sz cells slots n L (.ref (G.2.1 + (18 + 14 * r)) :: st)) : Js p l e R s m args below meth c G nL Q (en2 G κ dyn) sz cells slots pc L (.ref (G.2.1 + (13 + 14 * r)) :: st) := jk_getR (k := 6) (z := 0) C (kro hr) rfl in_X5 (18 + 14 * r) rfl (by decide) q378 rfl d n hn kk
theorem gX5_run_32 {p : Program} {l : Launch} {e : Env} {R : Room} {s : State} {m : MethodId} {args : Array Value} {below : List Frame} {meth : Method} {c : Code} {Q : State → Prop} {G : je_G} {cc : ByteArray} {nL : Nat} {rt : Option FieldType} {sz cells slots pc : Nat} {L : List (Nat × Value)} {st : List Value} {κ : kp_K} {dyn : Nat → Option je_E} (C : Cx p s m args meth c G "MinistryDesks$Run" cc nL rt) {r : Nat} (hr : r < 3) (d : decode cc pc = .ok (.getfield 32, 3)) (n : Nat) (hn : pc + 3 = n) (kk : Js p l e R s m args below meth c G nL Q (en2 G κ dyn) sz cells slots n L (.ref (G.2.1 + (19 + 14 * r)) :: st)) : Js p l e R s m args below meth c G nL Q (en2 G κ dyn) sz cells slots pc L (.ref (G.2.1 + (13 + 14 * r)) :: st) := jk_getR (k := 7) (z := 0) C (kro hr) rfl in_X5 (19 + 14 * r) rfl (by decide) q380 rfl d n hn kk
theorem gX5_run_35 {p : Program} {l : Launch} {e : Env} {R : Room} {s : State} {m : MethodId} {args : Array Value} {below : List Frame} {meth : Method} {c : Code} {Q : State → Prop} {G : je_G} {cc : ByteArray} {nL : Nat} {rt : Option FieldType} {sz cells slots pc : Nat} {L : List (Nat × Value)} {st : List Value} {κ : kp_K} {dyn : Nat → Option je_E} (C : Cx p s m args meth c G "MinistryDesks$Run" cc nL rt) {r : Nat} (hr : r < 3) (d : decode cc pc = .ok (.getfield 35, 3)) (n : Nat) (hn : pc + 3 = n) (kk : Js p l e R s m args below meth c G nL Q (en2 G κ dyn) sz cells slots n L (.ref (G.2.1 + (20 + 14 * r)) :: st)) : Js p l e R s m args below meth c G nL Q (en2 G κ dyn) sz cells slots pc L (.ref (G.2.1 + (13 + 14 * r)) :: st) := jk_getR (k := 8) (z := 0) C (kro hr) rfl in_X5 (20 + 14 * r) rfl (by decide) q382 rfl d n hn kk
set_option maxHeartbeats 4000000 in
theorem wX5_strike_7 {p : Program} {l : Launch} {e : Env} {s : State} {m : MethodId} {args : Array Value} {below : List Frame} {meth : Method} {c : Code} {G : je_G} {dyn : Nat → Option je_E} {sz : Nat} {F : Nat} {r : Nat} {r9 : kp_K} (C : Cx p s m args meth c G "MinistryDesks$Run" cX5_strike 4 none) (hr : r < 3) : ∀ (n : Nat) (κ : kp_K) (v1 : Int32) (v3 : Int32), bX5_strike_7 F r n κ v1 v3 = some r9 → Js p l e ({ frames := 0, cells := 0, slots := 0, locals := 0 } : Room) s m args below meth c G 4 (MQ below (je_Q G none (en2 G r9 dyn) sz) args s 0 0 (je_A G)) (en2 G κ dyn) sz 0 0 7 [(0, .ref (G.2.1 + (13 + 14 * r))), (1, .int v1), (3, .int v3)] [] := by
  intro n
  induction n with
  | zero =>
    intro κ v1 v3 h
    cases h
  | succ n ih =>
    intro κ v1 v3 h
    rw [bX5_strike_7] at h
    refine je_iload_n C dX5_strike_7 8 rfl 2 rfl ?_
    refine je_bipush C (7) dX5_strike_8 10 rfl bp_7 ?_
    refine je_iload_n C dX5_strike_10 11 rfl 1 rfl ?_
    refine je_imul C dX5_strike_11 12 rfl ?_
    refine je_aload_n C dX5_strike_12 13 rfl 0 rfl ?_
    refine gX5_run_15 C hr dX5_strike_13 16 rfl ?_
    refine je_iload_n C dX5_strike_16 17 rfl 1 rfl ?_
    refine jk_iald C (kr1 hr) dX5_strike_17 18 rfl h (fun h => ?_)
    refine je_iadd C dX5_strike_18 19 rfl ?_
    refine je_iconst C (1) dX5_strike_19 20 rfl ic_1 ?_
    refine je_isub C dX5_strike_20 21 rfl ?_
    refine je_icmp_ge C 72 dX5_strike_21 24 rfl rfl h (fun h => ?_) (fun h => ?_)
    · refine je_aload_n C dX5_strike_72 73 rfl 0 rfl ?_
      refine gX5_run_15 C hr dX5_strike_73 76 rfl ?_
      refine je_iload_n C dX5_strike_76 77 rfl 1 rfl ?_
      refine je_dup2 C dX5_strike_77 78 rfl rfl rfl ?_
      refine jk_iald C (kr1 hr) dX5_strike_78 79 rfl h (fun h => ?_)
      refine je_iconst C (1) dX5_strike_79 80 rfl ic_1 ?_
      refine je_isub C dX5_strike_80 81 rfl ?_
      refine jk_iast C (kr1 hr) dX5_strike_81 82 rfl h (fun h => ?_)
      refine jk_lt h (fun k81 h => ?_)
      cases h
      exact je_vret C dX5_strike_82
    refine je_aload_n C dX5_strike_24 25 rfl 0 rfl ?_
    refine gX5_run_29 C hr dX5_strike_25 28 rfl ?_
    refine je_iload_n C dX5_strike_28 29 rfl 2 rfl ?_
    refine je_aload_n C dX5_strike_29 30 rfl 0 rfl ?_
    refine gX5_run_29 C hr dX5_strike_30 33 rfl ?_
    refine je_iload_n C dX5_strike_33 34 rfl 2 rfl ?_
    refine je_iconst C (1) dX5_strike_34 35 rfl ic_1 ?_
    refine je_iadd C dX5_strike_35 36 rfl ?_
    refine je_lti h (fun i36 h => ?_)
    refine jk_iald C (kr5 hr) dX5_strike_36 37 rfl h (fun h => ?_)
    refine jk_iast C (kr5 hr) dX5_strike_37 38 rfl h (fun h => ?_)
    refine jk_lt h (fun k37 h => ?_)
    refine je_aload_n C dX5_strike_38 39 rfl 0 rfl ?_
    refine gX5_run_32 C hr dX5_strike_39 42 rfl ?_
    refine je_iload_n C dX5_strike_42 43 rfl 2 rfl ?_
    refine je_aload_n C dX5_strike_43 44 rfl 0 rfl ?_
    refine gX5_run_32 C hr dX5_strike_44 47 rfl ?_
    refine je_iload_n C dX5_strike_47 48 rfl 2 rfl ?_
    refine je_iconst C (1) dX5_strike_48 49 rfl ic_1 ?_
    refine je_iadd C dX5_strike_49 50 rfl ?_
    refine je_lti h (fun i50 h => ?_)
    refine jk_iald C (kr6 hr) dX5_strike_50 51 rfl h (fun h => ?_)
    refine jk_iast C (kr6 hr) dX5_strike_51 52 rfl h (fun h => ?_)
    refine jk_lt h (fun k51 h => ?_)
    refine je_aload_n C dX5_strike_52 53 rfl 0 rfl ?_
    refine gX5_run_35 C hr dX5_strike_53 56 rfl ?_
    refine je_iload_n C dX5_strike_56 57 rfl 2 rfl ?_
    refine je_aload_n C dX5_strike_57 58 rfl 0 rfl ?_
    refine gX5_run_35 C hr dX5_strike_58 61 rfl ?_
    refine je_iload_n C dX5_strike_61 62 rfl 2 rfl ?_
    refine je_iconst C (1) dX5_strike_62 63 rfl ic_1 ?_
    refine je_iadd C dX5_strike_63 64 rfl ?_
    refine je_lti h (fun i64 h => ?_)
    refine jk_iald C (kr7 hr) dX5_strike_64 65 rfl h (fun h => ?_)
    refine jk_iast C (kr7 hr) dX5_strike_65 66 rfl h (fun h => ?_)
    refine jk_lt h (fun k65 h => ?_)
    refine je_iinc C (1) dX5_strike_66 69 rfl 2 rfl ic_1 (Nat.le_of_ble_eq_true rfl) [(3, .int (v3 + (1 : Int32))), (0, .ref (G.2.1 + (13 + 14 * r))), (1, .int v1)] rfl ?_
    refine je_goto C 7 dX5_strike_69 rfl ?_
    refine je_sub [1, 2, 0] [(0, .ref (G.2.1 + (13 + 14 * r))), (1, .int v1), (3, .int (v3 + (1 : Int32)))] rfl ?_
    exact ih k65 v1 (v3 + (1 : Int32)) h
set_option maxHeartbeats 4000000 in
theorem metX5_strike {l : Launch} {G : je_G} {dyn : Nat → Option je_E} {sz : Nat} {F : Nat} {r : Nat} {κ : kp_K} {v1 : Int32} {v2 : Int32} {r9 : kp_K} (hr : r < 3) (h : pX5_strike F r κ v1 v2 = some r9) : MetS l G yX5_strike cX5_strike 4 none 0 0 0 0 [.ref (G.2.1 + (13 + 14 * r)), .int v1, .int v2] (en2 G κ dyn) sz none (en2 G r9 dyn) sz := by
  refine je_met "MinistryDesks$Run" rfl (by decide +kernel) (Nat.le_of_ble_eq_true rfl) [(0, .ref (G.2.1 + (13 + 14 * r))), (1, .int v1), (2, .int v2)] rfl (fun p e s m args below meth c C => ?_)
  unfold pX5_strike at h
  refine je_bipush C (7) dX5_strike_0 2 rfl bp_7 ?_
  refine je_iload_n C dX5_strike_2 3 rfl 1 rfl ?_
  refine je_imul C dX5_strike_3 4 rfl ?_
  refine je_iload_n C dX5_strike_4 5 rfl 2 rfl ?_
  refine je_iadd C dX5_strike_5 6 rfl ?_
  refine je_lti h (fun t6 h => ?_)
  refine je_istore_n C dX5_strike_6 7 rfl (Nat.le_of_ble_eq_true rfl) [(3, .int t6), (0, .ref (G.2.1 + (13 + 14 * r))), (1, .int v1), (2, .int v2)] rfl ?_
  refine je_sub [1, 2, 0] [(0, .ref (G.2.1 + (13 + 14 * r))), (1, .int v1), (3, .int t6)] rfl ?_
  exact wX5_strike_7 C hr F κ v1 t6 h
theorem hdX5_goes : je_hd yX5_goes 3 := ⟨by decide +kernel, by decide +kernel, by decide +kernel⟩
theorem hdX5_strike : je_hd yX5_strike 2 := ⟨by decide +kernel, by decide +kernel, by decide +kernel⟩
theorem cwX5_112 : (Cond.methodLinkNest "MinistryDesks$Run" 112 yX1_desks "MinistryDesks" ∈ lw_tbl ∧ Cond.initialized yX1_desks.cls ∈ lw_all) ∧ Cond.code yX1_desks cX1_desks 1 (some .int) ∈ lw_all ∧ Cond.instanceMethod yX1_desks ∈ lw_all ∧ Cond.selects "MinistryDesks" yX1_desks yX1_desks ∈ lw_all := ⟨⟨q1267, q161⟩, q1253, q1252, qs32⟩
theorem cwX5_189 : GoodIn lw_all (wsV "MinistryDesks$Run" 189 "MinistryDesks$Run" yX5_goes (ws_ yX5_goes cX5_goes 4 none)) := lw_V q1268 q1270 qs34 q168 q1271
theorem cwX5_192 : GoodIn lw_all (wsV "MinistryDesks$Run" 192 "MinistryDesks$Run" yX5_strike (ws_ yX5_strike cX5_strike 4 none)) := lw_V q1272 q1274 qs35 q168 q1275
theorem gX5_run_25 {p : Program} {l : Launch} {e : Env} {R : Room} {s : State} {m : MethodId} {args : Array Value} {below : List Frame} {meth : Method} {c : Code} {Q : State → Prop} {G : je_G} {cc : ByteArray} {nL : Nat} {rt : Option FieldType} {sz cells slots pc : Nat} {L : List (Nat × Value)} {st : List Value} {κ : kp_K} {dyn : Nat → Option je_E} (C : Cx p s m args meth c G "MinistryDesks$Run" cc nL rt) {r : Nat} (hr : r < 3) (d : decode cc pc = .ok (.getfield 25, 3)) (n : Nat) (hn : pc + 3 = n) (kk : Js p l e R s m args below meth c G nL Q (en2 G κ dyn) sz cells slots n L (.ref (G.2.1 + (17 + 14 * r)) :: st)) : Js p l e R s m args below meth c G nL Q (en2 G κ dyn) sz cells slots pc L (.ref (G.2.1 + (13 + 14 * r)) :: st) := jk_getR (k := 5) (z := 0) C (kro hr) rfl in_X5 (17 + 14 * r) rfl (by decide) q377 rfl d n hn kk
theorem gX5_run_3 {p : Program} {l : Launch} {e : Env} {R : Room} {s : State} {m : MethodId} {args : Array Value} {below : List Frame} {meth : Method} {c : Code} {Q : State → Prop} {G : je_G} {cc : ByteArray} {nL : Nat} {rt : Option FieldType} {sz cells slots pc : Nat} {L : List (Nat × Value)} {st : List Value} {κ : kp_K} {dyn : Nat → Option je_E} (C : Cx p s m args meth c G "MinistryDesks$Run" cc nL rt) {r : Nat} (hr : r < 3) (d : decode cc pc = .ok (.getfield 3, 3)) (n : Nat) (hn : pc + 3 = n) (kk : Js p l e R s m args below meth c G nL Q (en2 G κ dyn) sz cells slots n L (.ref (G.2.1 + 0) :: st)) : Js p l e R s m args below meth c G nL Q (en2 G κ dyn) sz cells slots pc L (.ref (G.2.1 + (13 + 14 * r)) :: st) := jk_getR (k := 17) (z := 0) C (kro hr) rfl in_X5 0 rfl (by decide) q395 rfl d n hn kk
set_option maxHeartbeats 4000000 in
theorem wX5_dawn_22 {p : Program} {l : Launch} {e : Env} {s : State} {m : MethodId} {args : Array Value} {below : List Frame} {meth : Method} {c : Code} {G : je_G} {dyn : Nat → Option je_E} {sz : Nat} {F : Nat} {hb : Nat} {hu : hd_T} {r : Nat} {r9 : kp_K} {k2 : kp_K → Int32 → Option (kp_K)} (C : Cx p s m args meth c G "MinistryDesks$Run" cX5_dawn 3 none) (hH : HouseRep G dyn hb hu) (hr : r < 3) (hk2 : ∀ (kq : kp_K) (q1 : Int32), k2 kq q1 = some r9 → Js p l e ({ frames := 5, cells := 0, slots := 0, locals := 140 } : Room) s m args below meth c G 3 (MQ below (je_Q G none (en2 G r9 dyn) sz) args s 0 0 (je_A G)) (en2 G kq dyn) sz 0 0 2 [(0, .ref (G.2.1 + (13 + 14 * r))), (1, .int q1)] []) : ∀ (n : Nat) (κ : kp_K) (v1 : Int32) (v2 : Int32), bX5_dawn_22 F hb hu r k2 n κ v1 v2 = some r9 → Js p l e ({ frames := 5, cells := 0, slots := 0, locals := 140 } : Room) s m args below meth c G 3 (MQ below (je_Q G none (en2 G r9 dyn) sz) args s 0 0 (je_A G)) (en2 G κ dyn) sz 0 0 22 [(0, .ref (G.2.1 + (13 + 14 * r))), (1, .int v1), (2, .int v2)] [] := by
  intro n
  induction n with
  | zero =>
    intro κ v1 v2 h
    cases h
  | succ n ih =>
    intro κ v1 v2 h
    rw [bX5_dawn_22] at h
    refine je_iload_n C dX5_dawn_22 23 rfl 2 rfl ?_
    refine je_aload_n C dX5_dawn_23 24 rfl 0 rfl ?_
    refine gX5_run_15 C hr dX5_dawn_24 27 rfl ?_
    refine je_iload_n C dX5_dawn_27 28 rfl 1 rfl ?_
    refine jk_iald C (kr1 hr) dX5_dawn_28 29 rfl h (fun h => ?_)
    refine je_icmp_ge C 82 dX5_dawn_29 32 rfl rfl h (fun h => ?_) (fun h => ?_)
    · refine je_iinc C (1) dX5_dawn_82 85 rfl 1 rfl ic_1 (Nat.le_of_ble_eq_true rfl) [(1, .int (v1 + (1 : Int32))), (0, .ref (G.2.1 + (13 + 14 * r))), (2, .int v2)] rfl ?_
      refine je_goto C 2 dX5_dawn_85 rfl ?_
      refine je_sub [1, 0] [(0, .ref (G.2.1 + (13 + 14 * r))), (1, .int (v1 + (1 : Int32)))] rfl ?_
      exact hk2 κ (v1 + (1 : Int32)) h
    refine je_aload_n C dX5_dawn_32 33 rfl 0 rfl ?_
    refine gX5_run_32 C hr dX5_dawn_33 36 rfl ?_
    refine je_bipush C (7) dX5_dawn_36 38 rfl bp_7 ?_
    refine je_iload_n C dX5_dawn_38 39 rfl 1 rfl ?_
    refine je_imul C dX5_dawn_39 40 rfl ?_
    refine je_iload_n C dX5_dawn_40 41 rfl 2 rfl ?_
    refine je_iadd C dX5_dawn_41 42 rfl ?_
    refine je_lti h (fun i42 h => ?_)
    refine jk_iald C (kr6 hr) dX5_dawn_42 43 rfl h (fun h => ?_)
    refine je_aload_n C dX5_dawn_43 44 rfl 0 rfl ?_
    refine gX5_run_60 C hr dX5_dawn_44 47 rfl ?_
    refine je_icmp_lt C 56 dX5_dawn_47 50 rfl rfl h (fun h => ?_) (fun h => ?_)
    · refine je_aload_n C dX5_dawn_56 57 rfl 0 rfl ?_
      refine je_iload_n C dX5_dawn_57 58 rfl 1 rfl ?_
      refine je_aload_n C dX5_dawn_58 59 rfl 0 rfl ?_
      refine gX5_run_29 C hr dX5_dawn_59 62 rfl ?_
      refine je_bipush C (7) dX5_dawn_62 64 rfl bp_7 ?_
      refine je_iload_n C dX5_dawn_64 65 rfl 1 rfl ?_
      refine je_imul C dX5_dawn_65 66 rfl ?_
      refine je_iload_n C dX5_dawn_66 67 rfl 2 rfl ?_
      refine je_iadd C dX5_dawn_67 68 rfl ?_
      refine je_lti h (fun i68 h => ?_)
      refine jk_iald C (kr5 hr) dX5_dawn_68 69 rfl h (fun h => ?_)
      refine je_iconst C (0) dX5_dawn_69 70 rfl ic_0 ?_
      obtain ⟨k70, hg, h⟩ := p_cl_inv h
      refine je_callVv (As := [.int v1, .int (κ.1 (18 + 14 * r) i68.toNatClampNeg), .int (0 : Int32)]) (rest := []) C (metX5_goes hr hg) (en2_at (kro hr)) rfl hdX5_goes rfl cwX5_189 rfl ⟨Nat.le_of_ble_eq_true rfl, Nat.le_of_ble_eq_true rfl⟩ (Nat.le_of_ble_eq_true rfl) dX5_dawn_70 73 rfl ⟨Nat.le_refl _, Nat.le_refl _⟩ ?_
      refine je_aload_n C dX5_dawn_73 74 rfl 0 rfl ?_
      refine je_iload_n C dX5_dawn_74 75 rfl 1 rfl ?_
      refine je_iload_n C dX5_dawn_75 76 rfl 2 rfl ?_
      obtain ⟨k76, hg, h⟩ := p_cl_inv h
      refine je_callVv (As := [.int v1, .int v2]) (rest := []) C (metX5_strike hr hg) (en2_at (kro hr)) rfl hdX5_strike rfl cwX5_192 rfl ⟨Nat.le_of_ble_eq_true rfl, Nat.le_of_ble_eq_true rfl⟩ (Nat.le_of_ble_eq_true rfl) dX5_dawn_76 79 rfl ⟨Nat.le_refl _, Nat.le_refl _⟩ ?_
      refine je_goto C 22 dX5_dawn_79 rfl ?_
      exact ih k76 v1 v2 h
    refine je_iinc C (1) dX5_dawn_50 53 rfl 2 rfl ic_1 (Nat.le_of_ble_eq_true rfl) [(2, .int (v2 + (1 : Int32))), (0, .ref (G.2.1 + (13 + 14 * r))), (1, .int v1)] rfl ?_
    refine je_goto C 22 dX5_dawn_53 rfl ?_
    refine je_sub [1, 2, 0] [(0, .ref (G.2.1 + (13 + 14 * r))), (1, .int v1), (2, .int (v2 + (1 : Int32)))] rfl ?_
    exact ih κ v1 (v2 + (1 : Int32)) h
set_option maxHeartbeats 4000000 in
theorem wX5_dawn_2 {p : Program} {l : Launch} {e : Env} {s : State} {m : MethodId} {args : Array Value} {below : List Frame} {meth : Method} {c : Code} {G : je_G} {dyn : Nat → Option je_E} {sz : Nat} {F : Nat} {hb : Nat} {hu : hd_T} {r : Nat} {r9 : kp_K} (C : Cx p s m args meth c G "MinistryDesks$Run" cX5_dawn 3 none) (hH : HouseRep G dyn hb hu) (hr : r < 3) : ∀ (n : Nat) (κ : kp_K) (v1 : Int32), bX5_dawn_2 F hb hu r n κ v1 = some r9 → Js p l e ({ frames := 5, cells := 0, slots := 0, locals := 140 } : Room) s m args below meth c G 3 (MQ below (je_Q G none (en2 G r9 dyn) sz) args s 0 0 (je_A G)) (en2 G κ dyn) sz 0 0 2 [(0, .ref (G.2.1 + (13 + 14 * r))), (1, .int v1)] [] := by
  intro n
  induction n with
  | zero =>
    intro κ v1 h
    cases h
  | succ n ih =>
    intro κ v1 h
    rw [bX5_dawn_2] at h
    refine je_iload_n C dX5_dawn_2 3 rfl 1 rfl ?_
    refine je_aload_n C dX5_dawn_3 4 rfl 0 rfl ?_
    refine gX5_run_3 C hr dX5_dawn_4 7 rfl ?_
    obtain ⟨t7, hg, h⟩ := p_cl_inv h
    refine je_callVNi (As := []) (rest := [.int v1]) C (metX1_desks hH hg) (en2_at kd0) rfl hdX1_desks rfl cwX5_112 rfl ⟨Nat.le_of_ble_eq_true rfl, Nat.le_of_ble_eq_true rfl⟩ (Nat.le_of_ble_eq_true rfl) dX5_dawn_7 10 rfl ⟨Nat.le_refl _, Nat.le_refl _⟩ ?_
    refine je_icmp_ge C 88 dX5_dawn_10 13 rfl rfl h (fun h => ?_) (fun h => ?_)
    · cases h
      exact je_vret C dX5_dawn_88
    refine je_aload_n C dX5_dawn_13 14 rfl 0 rfl ?_
    refine gX5_run_25 C hr dX5_dawn_14 17 rfl ?_
    refine je_iload_n C dX5_dawn_17 18 rfl 1 rfl ?_
    refine je_iconst C (0) dX5_dawn_18 19 rfl ic_0 ?_
    refine jk_zast C (kr4 hr) dX5_dawn_19 20 rfl (Or.inl rfl) h (fun h => ?_)
    refine jk_lt h (fun k19 h => ?_)
    refine je_iconst C (0) dX5_dawn_20 21 rfl ic_0 ?_
    refine je_istore_n C dX5_dawn_21 22 rfl (Nat.le_of_ble_eq_true rfl) [(2, .int (0 : Int32)), (0, .ref (G.2.1 + (13 + 14 * r))), (1, .int v1)] rfl ?_
    refine je_sub [1, 2, 0] [(0, .ref (G.2.1 + (13 + 14 * r))), (1, .int v1), (2, .int (0 : Int32))] rfl ?_
    exact wX5_dawn_22 C hH hr ih F k19 v1 (0 : Int32) h
set_option maxHeartbeats 4000000 in
theorem metX5_dawn {l : Launch} {G : je_G} {dyn : Nat → Option je_E} {sz : Nat} {F : Nat} {hb : Nat} {hu : hd_T} {r : Nat} {κ : kp_K}  {r9 : kp_K} (hH : HouseRep G dyn hb hu) (hr : r < 3) (h : pX5_dawn F hb hu r κ = some r9) : MetS l G yX5_dawn cX5_dawn 3 none 5 140 0 0 [.ref (G.2.1 + (13 + 14 * r))] (en2 G κ dyn) sz none (en2 G r9 dyn) sz := by
  refine je_met "MinistryDesks$Run" rfl (by decide +kernel) (Nat.le_of_ble_eq_true rfl) [(0, .ref (G.2.1 + (13 + 14 * r)))] rfl (fun p e s m args below meth c C => ?_)
  unfold pX5_dawn at h
  refine je_iconst C (0) dX5_dawn_0 1 rfl ic_0 ?_
  refine je_istore_n C dX5_dawn_1 2 rfl (Nat.le_of_ble_eq_true rfl) [(1, .int (0 : Int32)), (0, .ref (G.2.1 + (13 + 14 * r)))] rfl ?_
  refine je_sub [1, 0] [(0, .ref (G.2.1 + (13 + 14 * r))), (1, .int (0 : Int32))] rfl ?_
  exact wX5_dawn_2 C hH hr F κ (0 : Int32) h
set_option maxHeartbeats 4000000 in
theorem wX5_lineOf_2 {p : Program} {l : Launch} {e : Env} {s : State} {m : MethodId} {args : Array Value} {below : List Frame} {meth : Method} {c : Code} {G : je_G} {dyn : Nat → Option je_E} {sz : Nat} {F : Nat} {r : Nat} {κ : kp_K} {r9 : Int32} (C : Cx p s m args meth c G "MinistryDesks$Run" cX5_lineOf 4 (some .int)) (hr : r < 3) : ∀ (n : Nat) (v1 : Int32) (v2 : Int32) (v3 : Int32), bX5_lineOf_2 F r n κ v1 v2 v3 = some r9 → Js p l e ({ frames := 0, cells := 0, slots := 0, locals := 0 } : Room) s m args below meth c G 4 (MQ below (je_Q G (some (.int r9)) (en2 G κ dyn) sz) args s 0 0 (je_A G)) (en2 G κ dyn) sz 0 0 2 [(0, .ref (G.2.1 + (13 + 14 * r))), (1, .int v1), (2, .int v2), (3, .int v3)] [] := by
  intro n
  induction n with
  | zero =>
    intro v1 v2 v3 h
    cases h
  | succ n ih =>
    intro v1 v2 v3 h
    rw [bX5_lineOf_2] at h
    refine je_iload_n C dX5_lineOf_2 3 rfl 3 rfl ?_
    refine je_aload_n C dX5_lineOf_3 4 rfl 0 rfl ?_
    refine gX5_run_15 C hr dX5_lineOf_4 7 rfl ?_
    refine je_iload_n C dX5_lineOf_7 8 rfl 1 rfl ?_
    refine jk_iald C (kr1 hr) dX5_lineOf_8 9 rfl h (fun h => ?_)
    refine je_icmp_ge C 35 dX5_lineOf_9 12 rfl rfl h (fun h => ?_) (fun h => ?_)
    · refine je_iconst C (-1) dX5_lineOf_35 36 rfl ic_m1 ?_
      cases h
      exact je_iret C dX5_lineOf_36
    refine je_aload_n C dX5_lineOf_12 13 rfl 0 rfl ?_
    refine gX5_run_29 C hr dX5_lineOf_13 16 rfl ?_
    refine je_bipush C (7) dX5_lineOf_16 18 rfl bp_7 ?_
    refine je_iload_n C dX5_lineOf_18 19 rfl 1 rfl ?_
    refine je_imul C dX5_lineOf_19 20 rfl ?_
    refine je_iload_n C dX5_lineOf_20 21 rfl 3 rfl ?_
    refine je_iadd C dX5_lineOf_21 22 rfl ?_
    refine je_lti h (fun i22 h => ?_)
    refine jk_iald C (kr5 hr) dX5_lineOf_22 23 rfl h (fun h => ?_)
    refine je_iload_n C dX5_lineOf_23 24 rfl 2 rfl ?_
    refine je_icmp_ne C 29 dX5_lineOf_24 27 rfl rfl h (fun h => ?_) (fun h => ?_)
    · refine je_iinc C (1) dX5_lineOf_29 32 rfl 3 rfl ic_1 (Nat.le_of_ble_eq_true rfl) [(3, .int (v3 + (1 : Int32))), (0, .ref (G.2.1 + (13 + 14 * r))), (1, .int v1), (2, .int v2)] rfl ?_
      refine je_goto C 2 dX5_lineOf_32 rfl ?_
      refine je_sub [1, 2, 3, 0] [(0, .ref (G.2.1 + (13 + 14 * r))), (1, .int v1), (2, .int v2), (3, .int (v3 + (1 : Int32)))] rfl ?_
      exact ih v1 v2 (v3 + (1 : Int32)) h
    refine je_iload_n C dX5_lineOf_27 28 rfl 3 rfl ?_
    cases h
    exact je_iret C dX5_lineOf_28
set_option maxHeartbeats 4000000 in
theorem metX5_lineOf {l : Launch} {G : je_G} {dyn : Nat → Option je_E} {sz : Nat} {F : Nat} {r : Nat} {κ : kp_K} {v1 : Int32} {v2 : Int32} {r9 : Int32} (hr : r < 3) (h : pX5_lineOf F r κ v1 v2 = some r9) : MetS l G yX5_lineOf cX5_lineOf 4 (some .int) 0 0 0 0 [.ref (G.2.1 + (13 + 14 * r)), .int v1, .int v2] (en2 G κ dyn) sz (some (.int r9)) (en2 G κ dyn) sz := by
  refine je_met "MinistryDesks$Run" rfl (by decide +kernel) (Nat.le_of_ble_eq_true rfl) [(0, .ref (G.2.1 + (13 + 14 * r))), (1, .int v1), (2, .int v2)] rfl (fun p e s m args below meth c C => ?_)
  unfold pX5_lineOf at h
  refine je_iconst C (0) dX5_lineOf_0 1 rfl ic_0 ?_
  refine je_istore_n C dX5_lineOf_1 2 rfl (Nat.le_of_ble_eq_true rfl) [(3, .int (0 : Int32)), (0, .ref (G.2.1 + (13 + 14 * r))), (1, .int v1), (2, .int v2)] rfl ?_
  refine je_sub [1, 2, 3, 0] [(0, .ref (G.2.1 + (13 + 14 * r))), (1, .int v1), (2, .int v2), (3, .int (0 : Int32))] rfl ?_
  exact wX5_lineOf_2 C hr F v1 v2 (0 : Int32) h
theorem cwX5_87 : GoodIn lw_all (wsV "MinistryDesks$Run" 87 "java/util/ArrayList" yJ2_get (ws_ yJ2_get cJ2_get 2 (some (.object "java/lang/Object")))) := lw_V q1281 q820 q821 q165 q822
theorem gX5_77 {p : Program} {l : Launch} {e : Env} {R : Room} {s : State} {m : MethodId} {args : Array Value} {below : List Frame} {meth : Method} {c : Code} {Q : State → Prop} {G : je_G} {cc : ByteArray} {nL : Nat} {rt : Option FieldType} {sz cells slots pc : Nat} {L : List (Nat × Value)} {st : List Value} {κ : kp_K} {dyn : Nat → Option je_E} {hb : Nat} (C : Cx p s m args meth c G "MinistryDesks$Run" cc nL rt) (hx : κ.2.2 0 4 = some hb) (d : decode cc pc = .ok (.getfield 77, 3)) (n : Nat) (hn : pc + 3 = n) (kk : Js p l e R s m args below meth c G nL Q (en2 G κ dyn) sz cells slots n L (.ref (G.2.1 + hb) :: st)) : Js p l e R s m args below meth c G nL Q (en2 G κ dyn) sz cells slots pc L (.ref (G.2.1 + 0) :: st) := jk_getON (k := 4) C kd0 rfl in_X1 rfl (by decide) q445 rfl d n hn (by rw [hx]; exact kk)
theorem gX5_chg_98 {p : Program} {l : Launch} {e : Env} {R : Room} {s : State} {m : MethodId} {args : Array Value} {below : List Frame} {meth : Method} {c : Code} {Q : State → Prop} {G : je_G} {cc : ByteArray} {nL : Nat} {rt : Option FieldType} {sz cells slots pc : Nat} {L : List (Nat × Value)} {st : List Value} {κ : kp_K} {dyn : Nat → Option je_E} (C : Cx p s m args meth c G "MinistryDesks$Run" cc nL rt) {a : Nat} (ha : a = 11 ∨ a = 12) (d : decode cc pc = .ok (.getfield 98, 3)) (n : Nat) (hn : pc + 3 = n) (kk : Js p l e R s m args below meth c G nL Q (en2 G κ dyn) sz cells slots n L (.int (κ.1 a 3) :: st)) : Js p l e R s m args below meth c G nL Q (en2 G κ dyn) sz cells slots pc L (.ref (G.2.1 + a) :: st) := jk_getIN (k := 3) C (kdc ha) rfl in_X4 rfl (by decide) q336 rfl d n hn kk
theorem gX5_run_56 {p : Program} {l : Launch} {e : Env} {R : Room} {s : State} {m : MethodId} {args : Array Value} {below : List Frame} {meth : Method} {c : Code} {Q : State → Prop} {G : je_G} {cc : ByteArray} {nL : Nat} {rt : Option FieldType} {sz cells slots pc : Nat} {L : List (Nat × Value)} {st : List Value} {κ : kp_K} {dyn : Nat → Option je_E} {x9 : Nat} (C : Cx p s m args meth c G "MinistryDesks$Run" cc nL rt) {r : Nat} (hr : r < 3) (hx : κ.2.2 (13 + 14 * r) 0 = some x9) (d : decode cc pc = .ok (.getfield 56, 3)) (n : Nat) (hn : pc + 3 = n) (kk : Js p l e R s m args below meth c G nL Q (en2 G κ dyn) sz cells slots n L (.ref (G.2.1 + x9) :: st)) : Js p l e R s m args below meth c G nL Q (en2 G κ dyn) sz cells slots pc L (.ref (G.2.1 + (13 + 14 * r)) :: st) := jk_getO (k := 0) C (kro hr) rfl in_X5 rfl (by decide) q368 rfl d n hn (by rw [hx]; exact kk)
set_option maxHeartbeats 4000000 in
theorem metX5_lines {l : Launch} {G : je_G} {dyn : Nat → Option je_E} {sz : Nat} {hb : Nat} {hu : hd_T} {r : Nat} {κ : kp_K} {v1 : Int32} {r9 : Int32} (hH : HouseRep G dyn hb hu) (hr : r < 3) (h : pX5_lines hb hu r κ v1 = some r9) : MetS l G yX5_lines cX5_lines 2 (some .int) 4 120 0 0 [.ref (G.2.1 + (13 + 14 * r)), .int v1] (en2 G κ dyn) sz (some (.int r9)) (en2 G κ dyn) sz := by
  refine je_met "MinistryDesks$Run" rfl (by decide +kernel) (Nat.le_of_ble_eq_true rfl) [(0, .ref (G.2.1 + (13 + 14 * r))), (1, .int v1)] rfl (fun p e s m args below meth c C => ?_)
  unfold pX5_lines at h
  refine je_aload_n C dX5_lines_0 1 rfl 0 rfl ?_
  refine gX5_run_3 C hr dX5_lines_1 4 rfl ?_
  obtain ⟨hx, h⟩ := p_hs_inv h
  refine gX5_77 C hx dX5_lines_4 7 rfl ?_
  refine jh_listN C hH (t := 0) (by decide) q245 rfl dX5_lines_7 10 rfl ?_
  refine je_iload_n C dX5_lines_10 11 rfl 1 rfl ?_
  obtain ⟨hin0_v1, h⟩ := p_ck_inv h
  refine jh_get (t := 0) (rest := []) C hH (by decide) hin0_v1 cwX5_87 ⟨Nat.le_of_ble_eq_true rfl, Nat.le_of_ble_eq_true rfl⟩ (Nat.le_of_ble_eq_true rfl) dX5_lines_11 14 rfl ⟨Nat.le_refl _, Nat.le_refl _⟩ ?_
  refine jh_cast0 C hH hin0_v1 q1295 dX5_lines_14 17 rfl ?_
  refine jh_item0N C hH hin0_v1 (k := 1) (by decide) q853 rfl dX5_lines_17 20 rfl ?_
  refine je_aload_n C dX5_lines_20 21 rfl 0 rfl ?_
  obtain ⟨a21, hx, ha21, h⟩ := p_ch_inv h
  refine gX5_run_56 C hr hx dX5_lines_21 24 rfl ?_
  refine gX5_chg_98 C ha21 dX5_lines_24 27 rfl ?_
  refine je_if_eq C 34 dX5_lines_27 30 rfl rfl h (fun h => ?_) (fun h => ?_)
  · refine je_iconst C (0) dX5_lines_34 35 rfl ic_0 ?_
    refine je_iadd C dX5_lines_35 36 rfl ?_
    cases h
    exact je_iret C dX5_lines_36
  refine je_iconst C (1) dX5_lines_30 31 rfl ic_1 ?_
  refine je_goto C 35 dX5_lines_31 rfl ?_
  refine je_iadd C dX5_lines_35 36 rfl ?_
  cases h
  exact je_iret C dX5_lines_36
set_option maxHeartbeats 4000000 in
theorem metX5_add {l : Launch} {G : je_G} {dyn : Nat → Option je_E} {sz : Nat} {r : Nat} {κ : kp_K} {v1 : Int32} {v2 : Int32} {v3 : Int32} {r9 : kp_K} (hr : r < 3) (h : pX5_add r κ v1 v2 v3 = some r9) : MetS l G yX5_add cX5_add 5 none 0 0 0 0 [.ref (G.2.1 + (13 + 14 * r)), .int v1, .int v2, .int v3] (en2 G κ dyn) sz none (en2 G r9 dyn) sz := by
  refine je_met "MinistryDesks$Run" rfl (by decide +kernel) (Nat.le_of_ble_eq_true rfl) [(0, .ref (G.2.1 + (13 + 14 * r))), (1, .int v1), (2, .int v2), (3, .int v3)] rfl (fun p e s m args below meth c C => ?_)
  unfold pX5_add at h
  refine je_bipush C (7) dX5_add_0 2 rfl bp_7 ?_
  refine je_iload_n C dX5_add_2 3 rfl 1 rfl ?_
  refine je_imul C dX5_add_3 4 rfl ?_
  refine je_aload_n C dX5_add_4 5 rfl 0 rfl ?_
  refine gX5_run_15 C hr dX5_add_5 8 rfl ?_
  refine je_iload_n C dX5_add_8 9 rfl 1 rfl ?_
  refine jk_iald C (kr1 hr) dX5_add_9 10 rfl h (fun h => ?_)
  refine je_iadd C dX5_add_10 11 rfl ?_
  refine je_lti h (fun t11 h => ?_)
  refine je_istore C dX5_add_11 13 rfl (Nat.le_of_ble_eq_true rfl) [(4, .int t11), (0, .ref (G.2.1 + (13 + 14 * r))), (1, .int v1), (2, .int v2), (3, .int v3)] rfl ?_
  refine je_aload_n C dX5_add_13 14 rfl 1 rfl ?_
  refine gX5_run_29 C hr dX5_add_14 17 rfl ?_
  refine je_iload C dX5_add_17 19 rfl 0 rfl ?_
  refine je_iload_n C dX5_add_19 20 rfl 3 rfl ?_
  refine jk_iast C (kr5 hr) dX5_add_20 21 rfl h (fun h => ?_)
  refine jk_lt h (fun k20 h => ?_)
  refine je_aload_n C dX5_add_21 22 rfl 1 rfl ?_
  refine gX5_run_32 C hr dX5_add_22 25 rfl ?_
  refine je_iload C dX5_add_25 27 rfl 0 rfl ?_
  refine je_iload_n C dX5_add_27 28 rfl 4 rfl ?_
  refine jk_iast C (kr6 hr) dX5_add_28 29 rfl h (fun h => ?_)
  refine jk_lt h (fun k28 h => ?_)
  refine je_aload_n C dX5_add_29 30 rfl 1 rfl ?_
  refine gX5_run_35 C hr dX5_add_30 33 rfl ?_
  refine je_iload C dX5_add_33 35 rfl 0 rfl ?_
  refine je_aload_n C dX5_add_35 36 rfl 1 rfl ?_
  refine gX5_run_60 C hr dX5_add_36 39 rfl ?_
  refine jk_iast C (kr7 hr) dX5_add_39 40 rfl h (fun h => ?_)
  refine jk_lt h (fun k39 h => ?_)
  refine je_aload_n C dX5_add_40 41 rfl 1 rfl ?_
  refine gX5_run_15 C hr dX5_add_41 44 rfl ?_
  refine je_iload_n C dX5_add_44 45 rfl 2 rfl ?_
  refine je_dup2 C dX5_add_45 46 rfl rfl rfl ?_
  refine jk_iald C (kr1 hr) dX5_add_46 47 rfl h (fun h => ?_)
  refine je_iconst C (1) dX5_add_47 48 rfl ic_1 ?_
  refine je_iadd C dX5_add_48 49 rfl ?_
  refine jk_iast C (kr1 hr) dX5_add_49 50 rfl h (fun h => ?_)
  refine jk_lt h (fun k49 h => ?_)
  cases h
  exact je_vret C dX5_add_50
theorem cwX1_171 : GoodIn lw_all (wsV "MinistryDesks" 171 "java/util/ArrayList" yJ2_get (ws_ yJ2_get cJ2_get 2 (some (.object "java/lang/Object")))) := lw_V q1316 q820 q821 q165 q822
set_option maxHeartbeats 4000000 in
theorem metX1_worth {l : Launch} {G : je_G} {dyn : Nat → Option je_E} {sz : Nat} {hb : Nat} {hu : hd_T} {κ : kp_K} {v1 : Int32} {r9 : Int32} (hH : HouseRep G dyn hb hu) (h : pX1_worth hb hu κ v1 = some r9) : MetS l G yX1_worth cX1_worth 2 (some .int) 4 120 0 0 [.ref (G.2.1 + 0), .int v1] (en2 G κ dyn) sz (some (.int r9)) (en2 G κ dyn) sz := by
  refine je_met "MinistryDesks" rfl (by decide +kernel) (Nat.le_of_ble_eq_true rfl) [(0, .ref (G.2.1 + 0)), (1, .int v1)] rfl (fun p e s m args below meth c C => ?_)
  unfold pX1_worth at h
  refine je_aload_n C dX1_worth_0 1 rfl 0 rfl ?_
  obtain ⟨hx, h⟩ := p_hs_inv h
  refine gX1_22 C hx dX1_worth_1 4 rfl ?_
  refine jh_listN C hH (t := 1) (by decide) q249 rfl dX1_worth_4 7 rfl ?_
  refine je_iload_n C dX1_worth_7 8 rfl 1 rfl ?_
  obtain ⟨hin1_v1, h⟩ := p_ck_inv h
  refine jh_get (t := 1) (rest := []) C hH (by decide) hin1_v1 cwX1_171 ⟨Nat.le_of_ble_eq_true rfl, Nat.le_of_ble_eq_true rfl⟩ (Nat.le_of_ble_eq_true rfl) dX1_worth_8 11 rfl ⟨Nat.le_refl _, Nat.le_refl _⟩ ?_
  refine jh_cast1 C hH hin1_v1 q1317 dX1_worth_11 14 rfl ?_
  refine jh_item1N C hH hin1_v1 (k := 1) (by decide) q955 rfl dX1_worth_14 17 rfl ?_
  cases h
  exact je_iret C dX1_worth_17
set_option maxHeartbeats 4000000 in
theorem wX5_held_4 {p : Program} {l : Launch} {e : Env} {s : State} {m : MethodId} {args : Array Value} {below : List Frame} {meth : Method} {c : Code} {G : je_G} {dyn : Nat → Option je_E} {sz : Nat} {F : Nat} {r : Nat} {κ : kp_K} {r9 : Int32} (C : Cx p s m args meth c G "MinistryDesks$Run" cX5_held 4 (some .int)) (hr : r < 3) : ∀ (n : Nat) (v1 : Int32) (v2 : Int32) (v3 : Int32), bX5_held_4 F r n κ v1 v2 v3 = some r9 → Js p l e ({ frames := 0, cells := 0, slots := 0, locals := 0 } : Room) s m args below meth c G 4 (MQ below (je_Q G (some (.int r9)) (en2 G κ dyn) sz) args s 0 0 (je_A G)) (en2 G κ dyn) sz 0 0 4 [(0, .ref (G.2.1 + (13 + 14 * r))), (1, .int v1), (2, .int v2), (3, .int v3)] [] := by
  intro n
  induction n with
  | zero =>
    intro v1 v2 v3 h
    cases h
  | succ n ih =>
    intro v1 v2 v3 h
    rw [bX5_held_4] at h
    refine je_iload_n C dX5_held_4 5 rfl 3 rfl ?_
    refine je_aload_n C dX5_held_5 6 rfl 0 rfl ?_
    refine gX5_run_15 C hr dX5_held_6 9 rfl ?_
    refine je_iload_n C dX5_held_9 10 rfl 1 rfl ?_
    refine jk_iald C (kr1 hr) dX5_held_10 11 rfl h (fun h => ?_)
    refine je_icmp_ge C 36 dX5_held_11 14 rfl rfl h (fun h => ?_) (fun h => ?_)
    · refine je_iload_n C dX5_held_36 37 rfl 2 rfl ?_
      cases h
      exact je_iret C dX5_held_37
    refine je_iload_n C dX5_held_14 15 rfl 2 rfl ?_
    refine je_iconst C (1) dX5_held_15 16 rfl ic_1 ?_
    refine je_aload_n C dX5_held_16 17 rfl 0 rfl ?_
    refine gX5_run_29 C hr dX5_held_17 20 rfl ?_
    refine je_bipush C (7) dX5_held_20 22 rfl bp_7 ?_
    refine je_iload_n C dX5_held_22 23 rfl 1 rfl ?_
    refine je_imul C dX5_held_23 24 rfl ?_
    refine je_iload_n C dX5_held_24 25 rfl 3 rfl ?_
    refine je_iadd C dX5_held_25 26 rfl ?_
    refine je_lti h (fun i26 h => ?_)
    refine jk_iald C (kr5 hr) dX5_held_26 27 rfl h (fun h => ?_)
    refine je_ishl C dX5_held_27 28 rfl ?_
    refine je_ior C dX5_held_28 29 rfl ?_
    refine je_lti h (fun t29 h => ?_)
    refine je_istore_n C dX5_held_29 30 rfl (Nat.le_of_ble_eq_true rfl) [(2, .int t29), (0, .ref (G.2.1 + (13 + 14 * r))), (1, .int v1), (3, .int v3)] rfl ?_
    refine je_iinc C (1) dX5_held_30 33 rfl 3 rfl ic_1 (Nat.le_of_ble_eq_true rfl) [(3, .int (v3 + (1 : Int32))), (2, .int t29), (0, .ref (G.2.1 + (13 + 14 * r))), (1, .int v1)] rfl ?_
    refine je_goto C 4 dX5_held_33 rfl ?_
    refine je_sub [2, 3, 1, 0] [(0, .ref (G.2.1 + (13 + 14 * r))), (1, .int v1), (2, .int t29), (3, .int (v3 + (1 : Int32)))] rfl ?_
    exact ih v1 t29 (v3 + (1 : Int32)) h
set_option maxHeartbeats 4000000 in
theorem metX5_held {l : Launch} {G : je_G} {dyn : Nat → Option je_E} {sz : Nat} {F : Nat} {r : Nat} {κ : kp_K} {v1 : Int32} {r9 : Int32} (hr : r < 3) (h : pX5_held F r κ v1 = some r9) : MetS l G yX5_held cX5_held 4 (some .int) 0 0 0 0 [.ref (G.2.1 + (13 + 14 * r)), .int v1] (en2 G κ dyn) sz (some (.int r9)) (en2 G κ dyn) sz := by
  refine je_met "MinistryDesks$Run" rfl (by decide +kernel) (Nat.le_of_ble_eq_true rfl) [(0, .ref (G.2.1 + (13 + 14 * r))), (1, .int v1)] rfl (fun p e s m args below meth c C => ?_)
  unfold pX5_held at h
  refine je_iconst C (0) dX5_held_0 1 rfl ic_0 ?_
  refine je_istore_n C dX5_held_1 2 rfl (Nat.le_of_ble_eq_true rfl) [(2, .int (0 : Int32)), (0, .ref (G.2.1 + (13 + 14 * r))), (1, .int v1)] rfl ?_
  refine je_iconst C (0) dX5_held_2 3 rfl ic_0 ?_
  refine je_istore_n C dX5_held_3 4 rfl (Nat.le_of_ble_eq_true rfl) [(3, .int (0 : Int32)), (2, .int (0 : Int32)), (0, .ref (G.2.1 + (13 + 14 * r))), (1, .int v1)] rfl ?_
  refine je_sub [2, 3, 1, 0] [(0, .ref (G.2.1 + (13 + 14 * r))), (1, .int v1), (2, .int (0 : Int32)), (3, .int (0 : Int32))] rfl ?_
  exact wX5_held_4 C hr F v1 (0 : Int32) (0 : Int32) h
set_option maxHeartbeats 4000000 in
theorem metX1_isOf {l : Launch} {G : je_G} {σ : Nat → Option je_E} {sz : Nat} {v0 : Int32} {v1 : Int32} {r9 : Int32} (h : pX1_isOf v0 v1 = some r9) : MetS l G yX1_isOf cX1_isOf 2 (some .boolean) 0 0 0 0 [.int v0, .int v1] σ sz (some (.int r9)) σ sz := by
  refine je_met "MinistryDesks" rfl (by decide +kernel) (Nat.le_of_ble_eq_true rfl) [(0, .int v0), (1, .int v1)] rfl (fun p e s m args below meth c C => ?_)
  unfold pX1_isOf at h
  refine je_iload_n C dX1_isOf_0 1 rfl 0 rfl ?_
  refine je_iload_n C dX1_isOf_1 2 rfl 1 rfl ?_
  refine je_ishr C dX1_isOf_2 3 rfl ?_
  refine je_iconst C (1) dX1_isOf_3 4 rfl ic_1 ?_
  refine je_iand C dX1_isOf_4 5 rfl ?_
  refine je_iconst C (1) dX1_isOf_5 6 rfl ic_1 ?_
  refine je_icmp_ne C 13 dX1_isOf_6 9 rfl rfl h (fun h => ?_) (fun h => ?_)
  · refine je_iconst C (0) dX1_isOf_13 14 rfl ic_0 ?_
    cases h
    exact je_zret C dX1_isOf_14 (Or.inl rfl)
  refine je_iconst C (1) dX1_isOf_9 10 rfl ic_1 ?_
  refine je_goto C 14 dX1_isOf_10 rfl ?_
  cases h
  exact je_zret C dX1_isOf_14 (Or.inr rfl)
theorem hdX1_isOf : je_hd yX1_isOf 2 := ⟨by decide +kernel, by decide +kernel, by decide +kernel⟩
theorem hdX5_held : je_hd yX5_held 1 := ⟨by decide +kernel, by decide +kernel, by decide +kernel⟩
theorem cwX5_115 : GoodIn lw_all (wsV "MinistryDesks$Run" 115 "MinistryDesks$Run" yX5_held (ws_ yX5_held cX5_held 4 (some .int))) := lw_V q1322 q1323 q1324 q168 q1325
theorem cwX5_119 : (Cond.methodLinkNest "MinistryDesks$Run" 119 yX1_isOf "MinistryDesks" ∈ lw_tbl ∧ Cond.initialized yX1_isOf.cls ∈ lw_all) ∧ Cond.code yX1_isOf cX1_isOf 2 (some .boolean) ∈ lw_all ∧ Cond.static yX1_isOf ∈ lw_all := ⟨⟨q1326, q161⟩, q1328, q1327⟩
theorem gX5_run_38 {p : Program} {l : Launch} {e : Env} {R : Room} {s : State} {m : MethodId} {args : Array Value} {below : List Frame} {meth : Method} {c : Code} {Q : State → Prop} {G : je_G} {cc : ByteArray} {nL : Nat} {rt : Option FieldType} {sz cells slots pc : Nat} {L : List (Nat × Value)} {st : List Value} {κ : kp_K} {dyn : Nat → Option je_E} (C : Cx p s m args meth c G "MinistryDesks$Run" cc nL rt) {r : Nat} (hr : r < 3) (d : decode cc pc = .ok (.getfield 38, 3)) (n : Nat) (hn : pc + 3 = n) (kk : Js p l e R s m args below meth c G nL Q (en2 G κ dyn) sz cells slots n L (.ref (G.2.1 + (21 + 14 * r)) :: st)) : Js p l e R s m args below meth c G nL Q (en2 G κ dyn) sz cells slots pc L (.ref (G.2.1 + (13 + 14 * r)) :: st) := jk_getR (k := 9) (z := 0) C (kro hr) rfl in_X5 (21 + 14 * r) rfl (by decide) q384 rfl d n hn kk
theorem gX5_run_67 {p : Program} {l : Launch} {e : Env} {R : Room} {s : State} {m : MethodId} {args : Array Value} {below : List Frame} {meth : Method} {c : Code} {Q : State → Prop} {G : je_G} {cc : ByteArray} {nL : Nat} {rt : Option FieldType} {sz cells slots pc : Nat} {L : List (Nat × Value)} {st : List Value} {κ : kp_K} {dyn : Nat → Option je_E} (C : Cx p s m args meth c G "MinistryDesks$Run" cc nL rt) {r : Nat} (hr : r < 3) (d : decode cc pc = .ok (.getfield 67, 3)) (n : Nat) (hn : pc + 3 = n) (kk : Js p l e R s m args below meth c G nL Q (en2 G κ dyn) sz cells slots n L (.int (κ.1 (13 + 14 * r) 13) :: st)) : Js p l e R s m args below meth c G nL Q (en2 G κ dyn) sz cells slots pc L (.ref (G.2.1 + (13 + 14 * r)) :: st) := jk_getI (k := 13) C (kro hr) rfl in_X5 rfl (by decide) q388 rfl d n hn kk
set_option maxHeartbeats 4000000 in
theorem wX5_others_58 {p : Program} {l : Launch} {e : Env} {s : State} {m : MethodId} {args : Array Value} {below : List Frame} {meth : Method} {c : Code} {G : je_G} {dyn : Nat → Option je_E} {sz : Nat} {F : Nat} {hb : Nat} {hu : hd_T} {r : Nat} {κ : kp_K} {r9 : Int32} {k5 : kp_K → Int32 → Int32 → Int32 → Int32 → Option (Int32)} (C : Cx p s m args meth c G "MinistryDesks$Run" cX5_others 5 (some .int)) (hH : HouseRep G dyn hb hu) (hr : r < 3) (hk5 : ∀ (q1 : Int32) (q2 : Int32) (q3 : Int32) (q4 : Int32), k5 κ q1 q2 q3 q4 = some r9 → Js p l e ({ frames := 5, cells := 0, slots := 0, locals := 140 } : Room) s m args below meth c G 5 (MQ below (je_Q G (some (.int r9)) (en2 G κ dyn) sz) args s 0 0 (je_A G)) (en2 G κ dyn) sz 0 0 5 [(0, .ref (G.2.1 + (13 + 14 * r))), (1, .int q1), (2, .int q2), (3, .int q3), (4, .int q4)] []) (v1 : Int32) (v2 : Int32) (v4 : Int32) (s0 : Int32) (h : bX5_others_58 F hb hu r k5 κ v1 v2 v4 s0 = some r9) : Js p l e ({ frames := 5, cells := 0, slots := 0, locals := 140 } : Room) s m args below meth c G 5 (MQ below (je_Q G (some (.int r9)) (en2 G κ dyn) sz) args s 0 0 (je_A G)) (en2 G κ dyn) sz 0 0 58 [(0, .ref (G.2.1 + (13 + 14 * r))), (1, .int v1), (2, .int v2), (4, .int v4)] [.int s0] := by
  unfold bX5_others_58 at h
  refine je_iconst C (0) dX5_others_58 59 rfl ic_0 ?_
  refine je_iadd C dX5_others_59 60 rfl ?_
  refine je_lti h (fun t60 h => ?_)
  refine je_istore_n C dX5_others_60 61 rfl (Nat.le_of_ble_eq_true rfl) [(3, .int t60), (0, .ref (G.2.1 + (13 + 14 * r))), (1, .int v1), (2, .int v2), (4, .int v4)] rfl ?_
  refine je_iinc C (1) dX5_others_61 64 rfl 4 rfl ic_1 (Nat.le_of_ble_eq_true rfl) [(4, .int (v4 + (1 : Int32))), (3, .int t60), (0, .ref (G.2.1 + (13 + 14 * r))), (1, .int v1), (2, .int v2)] rfl ?_
  refine je_goto C 5 dX5_others_64 rfl ?_
  refine je_sub [2, 3, 4, 1, 0] [(0, .ref (G.2.1 + (13 + 14 * r))), (1, .int v1), (2, .int v2), (3, .int t60), (4, .int (v4 + (1 : Int32)))] rfl ?_
  exact hk5 v1 v2 t60 (v4 + (1 : Int32)) h
set_option maxHeartbeats 4000000 in
theorem wX5_others_47 {p : Program} {l : Launch} {e : Env} {s : State} {m : MethodId} {args : Array Value} {below : List Frame} {meth : Method} {c : Code} {G : je_G} {dyn : Nat → Option je_E} {sz : Nat} {F : Nat} {hb : Nat} {hu : hd_T} {r : Nat} {κ : kp_K} {r9 : Int32} {k5 : kp_K → Int32 → Int32 → Int32 → Int32 → Option (Int32)} (C : Cx p s m args meth c G "MinistryDesks$Run" cX5_others 5 (some .int)) (hH : HouseRep G dyn hb hu) (hr : r < 3) (hk5 : ∀ (q1 : Int32) (q2 : Int32) (q3 : Int32) (q4 : Int32), k5 κ q1 q2 q3 q4 = some r9 → Js p l e ({ frames := 5, cells := 0, slots := 0, locals := 140 } : Room) s m args below meth c G 5 (MQ below (je_Q G (some (.int r9)) (en2 G κ dyn) sz) args s 0 0 (je_A G)) (en2 G κ dyn) sz 0 0 5 [(0, .ref (G.2.1 + (13 + 14 * r))), (1, .int q1), (2, .int q2), (3, .int q3), (4, .int q4)] []) (v1 : Int32) (v2 : Int32) (v4 : Int32) (s0 : Int32) (s1 : Int32) (h : bX5_others_47 F hb hu r k5 κ v1 v2 v4 s0 s1 = some r9) : Js p l e ({ frames := 5, cells := 0, slots := 0, locals := 140 } : Room) s m args below meth c G 5 (MQ below (je_Q G (some (.int r9)) (en2 G κ dyn) sz) args s 0 0 (je_A G)) (en2 G κ dyn) sz 0 0 47 [(0, .ref (G.2.1 + (13 + 14 * r))), (1, .int v1), (2, .int v2), (4, .int v4)] [.int s0, .int s1] := by
  unfold bX5_others_47 at h
  refine je_iload_n C dX5_others_47 48 rfl 2 rfl ?_
  obtain ⟨t48, hg, h⟩ := p_cl_inv h
  refine je_callSNi (As := [.int s0, .int v2]) (rest := [.int s1]) C (metX1_isOf hg) hdX1_isOf cwX5_119 rfl ⟨Nat.le_of_ble_eq_true rfl, Nat.le_of_ble_eq_true rfl⟩ (Nat.le_of_ble_eq_true rfl) dX5_others_48 51 rfl ⟨Nat.le_refl _, Nat.le_refl _⟩ ?_
  refine je_if_eq C 58 dX5_others_51 54 rfl rfl h (fun h => ?_) (fun h => ?_)
  · exact wX5_others_58 C hH hr hk5 v1 v2 v4 s1 h
  refine je_iconst C (1) dX5_others_54 55 rfl ic_1 ?_
  refine je_goto C 59 dX5_others_55 rfl ?_
  refine je_iadd C dX5_others_59 60 rfl ?_
  refine je_lti h (fun t60 h => ?_)
  refine je_istore_n C dX5_others_60 61 rfl (Nat.le_of_ble_eq_true rfl) [(3, .int t60), (0, .ref (G.2.1 + (13 + 14 * r))), (1, .int v1), (2, .int v2), (4, .int v4)] rfl ?_
  refine je_iinc C (1) dX5_others_61 64 rfl 4 rfl ic_1 (Nat.le_of_ble_eq_true rfl) [(4, .int (v4 + (1 : Int32))), (3, .int t60), (0, .ref (G.2.1 + (13 + 14 * r))), (1, .int v1), (2, .int v2)] rfl ?_
  refine je_goto C 5 dX5_others_64 rfl ?_
  refine je_sub [2, 3, 4, 1, 0] [(0, .ref (G.2.1 + (13 + 14 * r))), (1, .int v1), (2, .int v2), (3, .int t60), (4, .int (v4 + (1 : Int32)))] rfl ?_
  exact hk5 v1 v2 t60 (v4 + (1 : Int32)) h
set_option maxHeartbeats 4000000 in
theorem wX5_others_5 {p : Program} {l : Launch} {e : Env} {s : State} {m : MethodId} {args : Array Value} {below : List Frame} {meth : Method} {c : Code} {G : je_G} {dyn : Nat → Option je_E} {sz : Nat} {F : Nat} {hb : Nat} {hu : hd_T} {r : Nat} {κ : kp_K} {r9 : Int32} (C : Cx p s m args meth c G "MinistryDesks$Run" cX5_others 5 (some .int)) (hH : HouseRep G dyn hb hu) (hr : r < 3) : ∀ (n : Nat) (v1 : Int32) (v2 : Int32) (v3 : Int32) (v4 : Int32), bX5_others_5 F hb hu r n κ v1 v2 v3 v4 = some r9 → Js p l e ({ frames := 5, cells := 0, slots := 0, locals := 140 } : Room) s m args below meth c G 5 (MQ below (je_Q G (some (.int r9)) (en2 G κ dyn) sz) args s 0 0 (je_A G)) (en2 G κ dyn) sz 0 0 5 [(0, .ref (G.2.1 + (13 + 14 * r))), (1, .int v1), (2, .int v2), (3, .int v3), (4, .int v4)] [] := by
  intro n
  induction n with
  | zero =>
    intro v1 v2 v3 v4 h
    cases h
  | succ n ih =>
    intro v1 v2 v3 v4 h
    rw [bX5_others_5] at h
    refine je_iload C dX5_others_5 7 rfl 4 rfl ?_
    refine je_aload_n C dX5_others_7 8 rfl 0 rfl ?_
    refine gX5_run_3 C hr dX5_others_8 11 rfl ?_
    obtain ⟨t11, hg, h⟩ := p_cl_inv h
    refine je_callVNi (As := []) (rest := [.int v4]) C (metX1_desks hH hg) (en2_at kd0) rfl hdX1_desks rfl cwX5_112 rfl ⟨Nat.le_of_ble_eq_true rfl, Nat.le_of_ble_eq_true rfl⟩ (Nat.le_of_ble_eq_true rfl) dX5_others_11 14 rfl ⟨Nat.le_refl _, Nat.le_refl _⟩ ?_
    refine je_icmp_ge C 67 dX5_others_14 17 rfl rfl h (fun h => ?_) (fun h => ?_)
    · refine je_iload_n C dX5_others_67 68 rfl 3 rfl ?_
      cases h
      exact je_iret C dX5_others_68
    refine je_iload_n C dX5_others_17 18 rfl 3 rfl ?_
    refine je_iload C dX5_others_18 20 rfl 4 rfl ?_
    refine je_iload_n C dX5_others_20 21 rfl 1 rfl ?_
    refine je_icmp_eq C 58 dX5_others_21 24 rfl rfl h (fun h => ?_) (fun h => ?_)
    · refine je_sub [0, 1, 2, 4] [(0, .ref (G.2.1 + (13 + 14 * r))), (1, .int v1), (2, .int v2), (4, .int v4)] rfl ?_
      exact wX5_others_58 C hH hr ih v1 v2 v4 v3 h
    refine je_aload_n C dX5_others_24 25 rfl 0 rfl ?_
    refine gX5_run_67 C hr dX5_others_25 28 rfl ?_
    refine je_if_eq C 41 dX5_others_28 31 rfl rfl h (fun h => ?_) (fun h => ?_)
    · refine je_aload_n C dX5_others_41 42 rfl 0 rfl ?_
      refine je_iload C dX5_others_42 44 rfl 4 rfl ?_
      obtain ⟨t44, hg, h⟩ := p_cl_inv h
      refine je_callVi (As := [.int v4]) (rest := [.int v3]) C (metX5_held hr hg) (en2_at (kro hr)) rfl hdX5_held rfl cwX5_115 rfl ⟨Nat.le_of_ble_eq_true rfl, Nat.le_of_ble_eq_true rfl⟩ (Nat.le_of_ble_eq_true rfl) dX5_others_44 47 rfl ⟨Nat.le_refl _, Nat.le_refl _⟩ ?_
      refine je_sub [0, 1, 2, 4] [(0, .ref (G.2.1 + (13 + 14 * r))), (1, .int v1), (2, .int v2), (4, .int v4)] rfl ?_
      exact wX5_others_47 C hH hr ih v1 v2 v4 t44 v3 h
    refine je_aload_n C dX5_others_31 32 rfl 0 rfl ?_
    refine gX5_run_38 C hr dX5_others_32 35 rfl ?_
    refine je_iload C dX5_others_35 37 rfl 4 rfl ?_
    refine jk_iald C (kr8 hr) dX5_others_37 38 rfl h (fun h => ?_)
    refine je_goto C 47 dX5_others_38 rfl ?_
    refine je_sub [0, 1, 2, 4] [(0, .ref (G.2.1 + (13 + 14 * r))), (1, .int v1), (2, .int v2), (4, .int v4)] rfl ?_
    exact wX5_others_47 C hH hr ih v1 v2 v4 (κ.1 (21 + 14 * r) v4.toNatClampNeg) v3 h
set_option maxHeartbeats 4000000 in
theorem metX5_others {l : Launch} {G : je_G} {dyn : Nat → Option je_E} {sz : Nat} {F : Nat} {hb : Nat} {hu : hd_T} {r : Nat} {κ : kp_K} {v1 : Int32} {v2 : Int32} {r9 : Int32} (hH : HouseRep G dyn hb hu) (hr : r < 3) (h : pX5_others F hb hu r κ v1 v2 = some r9) : MetS l G yX5_others cX5_others 5 (some .int) 5 140 0 0 [.ref (G.2.1 + (13 + 14 * r)), .int v1, .int v2] (en2 G κ dyn) sz (some (.int r9)) (en2 G κ dyn) sz := by
  refine je_met "MinistryDesks$Run" rfl (by decide +kernel) (Nat.le_of_ble_eq_true rfl) [(0, .ref (G.2.1 + (13 + 14 * r))), (1, .int v1), (2, .int v2)] rfl (fun p e s m args below meth c C => ?_)
  unfold pX5_others at h
  refine je_iconst C (0) dX5_others_0 1 rfl ic_0 ?_
  refine je_istore_n C dX5_others_1 2 rfl (Nat.le_of_ble_eq_true rfl) [(3, .int (0 : Int32)), (0, .ref (G.2.1 + (13 + 14 * r))), (1, .int v1), (2, .int v2)] rfl ?_
  refine je_iconst C (0) dX5_others_2 3 rfl ic_0 ?_
  refine je_istore C dX5_others_3 5 rfl (Nat.le_of_ble_eq_true rfl) [(4, .int (0 : Int32)), (3, .int (0 : Int32)), (0, .ref (G.2.1 + (13 + 14 * r))), (1, .int v1), (2, .int v2)] rfl ?_
  refine je_sub [2, 3, 4, 1, 0] [(0, .ref (G.2.1 + (13 + 14 * r))), (1, .int v1), (2, .int v2), (3, .int (0 : Int32)), (4, .int (0 : Int32))] rfl ?_
  exact wX5_others_5 C hH hr F v1 v2 (0 : Int32) (0 : Int32) h
theorem cwX5_126 : GoodIn lw_all (wsV "MinistryDesks$Run" 126 "java/util/ArrayList" yJ2_size (ws_ yJ2_size cJ2_size 1 (some .int))) := lw_V q1280 q803 q804 q165 q805
set_option maxHeartbeats 4000000 in
theorem wX5_asked_78 {p : Program} {l : Launch} {e : Env} {s : State} {m : MethodId} {args : Array Value} {below : List Frame} {meth : Method} {c : Code} {G : je_G} {dyn : Nat → Option je_E} {sz : Nat} {F : Nat} {hb : Nat} {hu : hd_T} {r : Nat} {κ : kp_K} {r9 : Int32} {k5 : kp_K → Int32 → Int32 → Int32 → Int32 → Option (Int32)} (C : Cx p s m args meth c G "MinistryDesks$Run" cX5_asked 6 (some .int)) (hH : HouseRep G dyn hb hu) (hr : r < 3) (hk5 : ∀ (q1 : Int32) (q2 : Int32) (q3 : Int32) (q4 : Int32), k5 κ q1 q2 q3 q4 = some r9 → Js p l e ({ frames := 4, cells := 0, slots := 0, locals := 120 } : Room) s m args below meth c G 6 (MQ below (je_Q G (some (.int r9)) (en2 G κ dyn) sz) args s 0 0 (je_A G)) (en2 G κ dyn) sz 0 0 5 [(0, .ref (G.2.1 + (13 + 14 * r))), (1, .int q1), (2, .int q2), (3, .int q3), (4, .int q4)] []) (v1 : Int32) (v2 : Int32) (v4 : Int32) (s0 : Int32) (h : bX5_asked_78 F hb hu r k5 κ v1 v2 v4 s0 = some r9) : Js p l e ({ frames := 4, cells := 0, slots := 0, locals := 120 } : Room) s m args below meth c G 6 (MQ below (je_Q G (some (.int r9)) (en2 G κ dyn) sz) args s 0 0 (je_A G)) (en2 G κ dyn) sz 0 0 78 [(0, .ref (G.2.1 + (13 + 14 * r))), (1, .int v1), (2, .int v2), (4, .int v4)] [.int s0] := by
  unfold bX5_asked_78 at h
  refine je_iconst C (0) dX5_asked_78 79 rfl ic_0 ?_
  refine je_iadd C dX5_asked_79 80 rfl ?_
  refine je_lti h (fun t80 h => ?_)
  refine je_istore_n C dX5_asked_80 81 rfl (Nat.le_of_ble_eq_true rfl) [(3, .int t80), (0, .ref (G.2.1 + (13 + 14 * r))), (1, .int v1), (2, .int v2), (4, .int v4)] rfl ?_
  refine je_iinc C (1) dX5_asked_81 84 rfl 4 rfl ic_1 (Nat.le_of_ble_eq_true rfl) [(4, .int (v4 + (1 : Int32))), (3, .int t80), (0, .ref (G.2.1 + (13 + 14 * r))), (1, .int v1), (2, .int v2)] rfl ?_
  refine je_goto C 5 dX5_asked_84 rfl ?_
  refine je_sub [2, 3, 4, 1, 0] [(0, .ref (G.2.1 + (13 + 14 * r))), (1, .int v1), (2, .int v2), (3, .int t80), (4, .int (v4 + (1 : Int32)))] rfl ?_
  exact hk5 v1 v2 t80 (v4 + (1 : Int32)) h
set_option maxHeartbeats 4000000 in
theorem wX5_asked_5 {p : Program} {l : Launch} {e : Env} {s : State} {m : MethodId} {args : Array Value} {below : List Frame} {meth : Method} {c : Code} {G : je_G} {dyn : Nat → Option je_E} {sz : Nat} {F : Nat} {hb : Nat} {hu : hd_T} {r : Nat} {κ : kp_K} {r9 : Int32} (C : Cx p s m args meth c G "MinistryDesks$Run" cX5_asked 6 (some .int)) (hH : HouseRep G dyn hb hu) (hr : r < 3) : ∀ (n : Nat) (v1 : Int32) (v2 : Int32) (v3 : Int32) (v4 : Int32), bX5_asked_5 F hb hu r n κ v1 v2 v3 v4 = some r9 → Js p l e ({ frames := 4, cells := 0, slots := 0, locals := 120 } : Room) s m args below meth c G 6 (MQ below (je_Q G (some (.int r9)) (en2 G κ dyn) sz) args s 0 0 (je_A G)) (en2 G κ dyn) sz 0 0 5 [(0, .ref (G.2.1 + (13 + 14 * r))), (1, .int v1), (2, .int v2), (3, .int v3), (4, .int v4)] [] := by
  intro n
  induction n with
  | zero =>
    intro v1 v2 v3 v4 h
    cases h
  | succ n ih =>
    intro v1 v2 v3 v4 h
    rw [bX5_asked_5] at h
    refine je_iload C dX5_asked_5 7 rfl 4 rfl ?_
    refine je_aload_n C dX5_asked_7 8 rfl 0 rfl ?_
    refine gX5_run_3 C hr dX5_asked_8 11 rfl ?_
    obtain ⟨hx, h⟩ := p_hs_inv h
    refine gX5_77 C hx dX5_asked_11 14 rfl ?_
    refine jh_listN C hH (t := 3) (by decide) q256 rfl dX5_asked_14 17 rfl ?_
    refine jh_size (t := 3) (rest := [.int v4]) C hH (by decide) cwX5_126 ⟨Nat.le_of_ble_eq_true rfl, Nat.le_of_ble_eq_true rfl⟩ (Nat.le_of_ble_eq_true rfl) dX5_asked_17 20 rfl ⟨Nat.le_refl _, Nat.le_refl _⟩ ?_
    refine je_icmp_ge C 87 dX5_asked_20 23 rfl rfl h (fun h => ?_) (fun h => ?_)
    · refine je_iload_n C dX5_asked_87 88 rfl 3 rfl ?_
      cases h
      exact je_iret C dX5_asked_88
    refine je_aload_n C dX5_asked_23 24 rfl 0 rfl ?_
    refine gX5_run_3 C hr dX5_asked_24 27 rfl ?_
    obtain ⟨hx, h⟩ := p_hs_inv h
    refine gX5_77 C hx dX5_asked_27 30 rfl ?_
    refine jh_listN C hH (t := 3) (by decide) q256 rfl dX5_asked_30 33 rfl ?_
    refine je_iload C dX5_asked_33 35 rfl 4 rfl ?_
    obtain ⟨hin3_v4, h⟩ := p_ck_inv h
    refine jh_get (t := 3) (rest := []) C hH (by decide) hin3_v4 cwX5_87 ⟨Nat.le_of_ble_eq_true rfl, Nat.le_of_ble_eq_true rfl⟩ (Nat.le_of_ble_eq_true rfl) dX5_asked_35 38 rfl ⟨Nat.le_refl _, Nat.le_refl _⟩ ?_
    refine jh_cast3 C hH hin3_v4 q1333 dX5_asked_38 41 rfl ?_
    refine je_astore C dX5_asked_41 43 rfl (Nat.le_of_ble_eq_true rfl) [(5, .ref (G.2.1 + (hu.2.2.2.2.1 3 v4.toNatClampNeg))), (0, .ref (G.2.1 + (13 + 14 * r))), (1, .int v1), (2, .int v2), (3, .int v3), (4, .int v4)] rfl ?_
    refine je_iload_n C dX5_asked_43 44 rfl 4 rfl ?_
    refine je_aload C dX5_asked_44 46 rfl 0 rfl ?_
    refine jh_item3N C hH hin3_v4 (k := 0) (by decide) q995 rfl dX5_asked_46 49 rfl ?_
    refine je_aload_n C dX5_asked_49 50 rfl 1 rfl ?_
    refine gX5_run_60 C hr dX5_asked_50 53 rfl ?_
    refine je_icmp_lt C 78 dX5_asked_53 56 rfl rfl h (fun h => ?_) (fun h => ?_)
    · refine je_sub [1, 2, 3, 5] [(0, .ref (G.2.1 + (13 + 14 * r))), (1, .int v1), (2, .int v2), (4, .int v4)] rfl ?_
      exact wX5_asked_78 C hH hr ih v1 v2 v4 v3 h
    refine je_aload C dX5_asked_56 58 rfl 0 rfl ?_
    refine jh_item3N C hH hin3_v4 (k := 1) (by decide) q998 rfl dX5_asked_58 61 rfl ?_
    refine je_iload_n C dX5_asked_61 62 rfl 2 rfl ?_
    refine je_icmp_ne C 78 dX5_asked_62 65 rfl rfl h (fun h => ?_) (fun h => ?_)
    · refine je_sub [1, 2, 3, 5] [(0, .ref (G.2.1 + (13 + 14 * r))), (1, .int v1), (2, .int v2), (4, .int v4)] rfl ?_
      exact wX5_asked_78 C hH hr ih v1 v2 v4 v3 h
    refine je_aload C dX5_asked_65 67 rfl 0 rfl ?_
    refine jh_item3N C hH hin3_v4 (k := 2) (by decide) q1001 rfl dX5_asked_67 70 rfl ?_
    refine je_iload_n C dX5_asked_70 71 rfl 3 rfl ?_
    refine je_icmp_ne C 78 dX5_asked_71 74 rfl rfl h (fun h => ?_) (fun h => ?_)
    · refine je_sub [1, 2, 3, 5] [(0, .ref (G.2.1 + (13 + 14 * r))), (1, .int v1), (2, .int v2), (4, .int v4)] rfl ?_
      exact wX5_asked_78 C hH hr ih v1 v2 v4 v3 h
    refine je_iconst C (1) dX5_asked_74 75 rfl ic_1 ?_
    refine je_goto C 79 dX5_asked_75 rfl ?_
    refine je_iadd C dX5_asked_79 80 rfl ?_
    refine je_lti h (fun t80 h => ?_)
    refine je_istore_n C dX5_asked_80 81 rfl (Nat.le_of_ble_eq_true rfl) [(3, .int t80), (5, .ref (G.2.1 + (hu.2.2.2.2.1 3 v4.toNatClampNeg))), (0, .ref (G.2.1 + (13 + 14 * r))), (1, .int v1), (2, .int v2), (4, .int v4)] rfl ?_
    refine je_iinc C (1) dX5_asked_81 84 rfl 5 rfl ic_1 (Nat.le_of_ble_eq_true rfl) [(4, .int (v4 + (1 : Int32))), (3, .int t80), (5, .ref (G.2.1 + (hu.2.2.2.2.1 3 v4.toNatClampNeg))), (0, .ref (G.2.1 + (13 + 14 * r))), (1, .int v1), (2, .int v2)] rfl ?_
    refine je_goto C 5 dX5_asked_84 rfl ?_
    refine je_sub [3, 4, 5, 1, 0] [(0, .ref (G.2.1 + (13 + 14 * r))), (1, .int v1), (2, .int v2), (3, .int t80), (4, .int (v4 + (1 : Int32)))] rfl ?_
    exact ih v1 v2 t80 (v4 + (1 : Int32)) h
set_option maxHeartbeats 4000000 in
theorem metX5_asked {l : Launch} {G : je_G} {dyn : Nat → Option je_E} {sz : Nat} {F : Nat} {hb : Nat} {hu : hd_T} {r : Nat} {κ : kp_K} {v1 : Int32} {v2 : Int32} {r9 : Int32} (hH : HouseRep G dyn hb hu) (hr : r < 3) (h : pX5_asked F hb hu r κ v1 v2 = some r9) : MetS l G yX5_asked cX5_asked 6 (some .int) 4 120 0 0 [.ref (G.2.1 + (13 + 14 * r)), .int v1, .int v2] (en2 G κ dyn) sz (some (.int r9)) (en2 G κ dyn) sz := by
  refine je_met "MinistryDesks$Run" rfl (by decide +kernel) (Nat.le_of_ble_eq_true rfl) [(0, .ref (G.2.1 + (13 + 14 * r))), (1, .int v1), (2, .int v2)] rfl (fun p e s m args below meth c C => ?_)
  unfold pX5_asked at h
  refine je_iconst C (0) dX5_asked_0 1 rfl ic_0 ?_
  refine je_istore_n C dX5_asked_1 2 rfl (Nat.le_of_ble_eq_true rfl) [(3, .int (0 : Int32)), (0, .ref (G.2.1 + (13 + 14 * r))), (1, .int v1), (2, .int v2)] rfl ?_
  refine je_iconst C (0) dX5_asked_2 3 rfl ic_0 ?_
  refine je_istore C dX5_asked_3 5 rfl (Nat.le_of_ble_eq_true rfl) [(4, .int (0 : Int32)), (3, .int (0 : Int32)), (0, .ref (G.2.1 + (13 + 14 * r))), (1, .int v1), (2, .int v2)] rfl ?_
  refine je_sub [2, 3, 4, 1, 0] [(0, .ref (G.2.1 + (13 + 14 * r))), (1, .int v1), (2, .int v2), (3, .int (0 : Int32)), (4, .int (0 : Int32))] rfl ?_
  exact wX5_asked_5 C hH hr F v1 v2 (0 : Int32) (0 : Int32) h
theorem hdX1_worth : je_hd yX1_worth 1 := ⟨by decide +kernel, by decide +kernel, by decide +kernel⟩
theorem hdX5_asked : je_hd yX5_asked 2 := ⟨by decide +kernel, by decide +kernel, by decide +kernel⟩
theorem hdX5_others : je_hd yX5_others 2 := ⟨by decide +kernel, by decide +kernel, by decide +kernel⟩
theorem cwX5_141 : (Cond.methodLinkNest "MinistryDesks$Run" 141 yX1_worth "MinistryDesks" ∈ lw_tbl ∧ Cond.initialized yX1_worth.cls ∈ lw_all) ∧ Cond.code yX1_worth cX1_worth 2 (some .int) ∈ lw_all ∧ Cond.instanceMethod yX1_worth ∈ lw_all ∧ Cond.selects "MinistryDesks" yX1_worth yX1_worth ∈ lw_all := ⟨⟨q1312, q161⟩, q1315, q1314, qs42⟩
theorem cwX5_144 : GoodIn lw_all (wsV "MinistryDesks$Run" 144 "MinistryDesks$Run" yX5_others (ws_ yX5_others cX5_others 5 (some .int))) := lw_V q1318 q1320 qs43 q168 q1321
theorem cwX5_148 : GoodIn lw_all (wsV "MinistryDesks$Run" 148 "MinistryDesks$Run" yX5_asked (ws_ yX5_asked cX5_asked 6 (some .int))) := lw_V q1329 q1331 qs44 q168 q1332
theorem cwX5_151 : GoodIn lw_all (wsV "MinistryDesks$Run" 151 "MinistryDesks$Scene" yX3_lay (ws_ yX3_lay cX3_lay 7 none)) := lw_V q1334 q1179 q1180 q166 q1181
theorem gX5_137 {p : Program} {l : Launch} {e : Env} {R : Room} {s : State} {m : MethodId} {args : Array Value} {below : List Frame} {meth : Method} {c : Code} {Q : State → Prop} {G : je_G} {cc : ByteArray} {nL : Nat} {rt : Option FieldType} {sz cells slots pc : Nat} {L : List (Nat × Value)} {st : List Value} {κ : kp_K} {dyn : Nat → Option je_E} (C : Cx p s m args meth c G "MinistryDesks$Run" cc nL rt) (d : decode cc pc = .ok (.getfield 137, 3)) (n : Nat) (hn : pc + 3 = n) (kk : Js p l e R s m args below meth c G nL Q (en2 G κ dyn) sz cells slots n L (.ref (G.2.1 + 9) :: st)) : Js p l e R s m args below meth c G nL Q (en2 G κ dyn) sz cells slots pc L (.ref (G.2.1 + 0) :: st) := jk_getRN (k := 5) (z := 0) C kd0 rfl in_X1 9 rfl (by decide) q447 rfl d n hn kk
set_option maxHeartbeats 4000000 in
theorem metX5_layNames {l : Launch} {G : je_G} {dyn : Nat → Option je_E} {sz : Nat} {F : Nat} {hb : Nat} {hu : hd_T} {r : Nat} {κ : kp_K} {v1 : Int32} {v2 : Int32} {v3 : Int32} {v4 : Int32} {v5 : Int32} {r9 : kp_K} (hH : HouseRep G dyn hb hu) (hr : r < 3) (h : pX5_layNames F hb hu r κ v1 v2 v3 v4 v5 = some r9) : MetS l G yX5_layNames cX5_layNames 6 none 6 164 0 0 [.ref (G.2.1 + (13 + 14 * r)), .int v1, .int v2, .int v3, .int v4, .int v5] (en2 G κ dyn) sz none (en2 G r9 dyn) sz := by
  refine je_met "MinistryDesks$Run" rfl (by decide +kernel) (Nat.le_of_ble_eq_true rfl) [(0, .ref (G.2.1 + (13 + 14 * r))), (1, .int v1), (2, .int v2), (3, .int v3), (4, .int v4), (5, .int v5)] rfl (fun p e s m args below meth c C => ?_)
  unfold pX5_layNames at h
  refine je_aload_n C dX5_layNames_0 1 rfl 0 rfl ?_
  refine gX5_run_3 C hr dX5_layNames_1 4 rfl ?_
  refine gX5_137 C dX5_layNames_4 7 rfl ?_
  refine je_iload_n C dX5_layNames_7 8 rfl 3 rfl ?_
  refine je_iload C dX5_layNames_8 10 rfl 4 rfl ?_
  refine je_aload_n C dX5_layNames_10 11 rfl 0 rfl ?_
  refine gX5_run_3 C hr dX5_layNames_11 14 rfl ?_
  refine je_iload_n C dX5_layNames_14 15 rfl 2 rfl ?_
  obtain ⟨t15, hg, h⟩ := p_cl_inv h
  refine je_callVNi (As := [.int v2]) (rest := [.int v4, .int v3, .ref (G.2.1 + 9)]) C (metX1_worth hH hg) (en2_at kd0) rfl hdX1_worth rfl cwX5_141 rfl ⟨Nat.le_of_ble_eq_true rfl, Nat.le_of_ble_eq_true rfl⟩ (Nat.le_of_ble_eq_true rfl) dX5_layNames_15 18 rfl ⟨Nat.le_refl _, Nat.le_refl _⟩ ?_
  refine je_aload_n C dX5_layNames_18 19 rfl 0 rfl ?_
  refine je_iload_n C dX5_layNames_19 20 rfl 1 rfl ?_
  refine je_iload_n C dX5_layNames_20 21 rfl 2 rfl ?_
  obtain ⟨t21, hg, h⟩ := p_cl_inv h
  refine je_callVi (As := [.int v1, .int v2]) (rest := [.int t15, .int v4, .int v3, .ref (G.2.1 + 9)]) C (metX5_others hH hr hg) (en2_at (kro hr)) rfl hdX5_others rfl cwX5_144 rfl ⟨Nat.le_of_ble_eq_true rfl, Nat.le_of_ble_eq_true rfl⟩ (Nat.le_of_ble_eq_true rfl) dX5_layNames_21 24 rfl ⟨Nat.le_refl _, Nat.le_refl _⟩ ?_
  refine je_aload_n C dX5_layNames_24 25 rfl 0 rfl ?_
  refine je_iload_n C dX5_layNames_25 26 rfl 1 rfl ?_
  refine je_iload_n C dX5_layNames_26 27 rfl 2 rfl ?_
  obtain ⟨t27, hg, h⟩ := p_cl_inv h
  refine je_callVi (As := [.int v1, .int v2]) (rest := [.int t21, .int t15, .int v4, .int v3, .ref (G.2.1 + 9)]) C (metX5_asked hH hr hg) (en2_at (kro hr)) rfl hdX5_asked rfl cwX5_148 rfl ⟨Nat.le_of_ble_eq_true rfl, Nat.le_of_ble_eq_true rfl⟩ (Nat.le_of_ble_eq_true rfl) dX5_layNames_27 30 rfl ⟨Nat.le_refl _, Nat.le_refl _⟩ ?_
  refine je_iload C dX5_layNames_30 32 rfl 5 rfl ?_
  obtain ⟨k32, hg, h⟩ := p_cl_inv h
  refine je_callVv (As := [.int v3, .int v4, .int t15, .int t21, .int t27, .int v5]) (rest := []) C (metX3_lay hg) (en2_at kd9) rfl hdX3_lay rfl cwX5_151 rfl ⟨Nat.le_of_ble_eq_true rfl, Nat.le_of_ble_eq_true rfl⟩ (Nat.le_of_ble_eq_true rfl) dX5_layNames_32 35 rfl ⟨Nat.le_refl _, Nat.le_refl _⟩ ?_
  cases h
  exact je_vret C dX5_layNames_35
set_option maxHeartbeats 4000000 in
theorem metX1_value {l : Launch} {G : je_G} {dyn : Nat → Option je_E} {sz : Nat} {hb : Nat} {hu : hd_T} {κ : kp_K} {o1 : Option Nat} {v2 : Int64} {r9 : Int64 × kp_K} (hH : HouseRep G dyn hb hu) (h : pX1_value hb hu κ o1 v2 = some r9) : MetS l G yX1_value cX1_value 6 (some .long) 201 6000 0 0 [.ref (G.2.1 + 0), va_rf (Option.map (fun q => G.2.1 + q) o1), .long v2] (en2 G κ dyn) sz (some (.long r9.1)) (en2 G r9.2 dyn) sz := by
  refine je_met "MinistryDesks" rfl (by decide +kernel) (by cases o1 <;> exact Nat.le_of_ble_eq_true rfl) [(0, .ref (G.2.1 + 0)), (1, va_rf (Option.map (fun q => G.2.1 + q) o1)), (2, .long v2)] (by cases o1 <;> rfl) (fun p e s m args below meth c C => ?_)
  unfold pX1_value at h
  refine je_aloadR_n C dX1_value_0 1 rfl 1 rfl ?_
  refine je_ifnonnullM C 6 dX1_value_1 4 rfl rfl h (fun h => ?_) (fun h => ?_)
  · refine je_aloadR_n C dX1_value_6 7 rfl 1 rfl ?_
    refine je_aload_n C dX1_value_7 8 rfl 0 rfl ?_
    refine gX1_29 C dX1_value_8 11 rfl ?_
    obtain ⟨a11, he, h⟩ := p_so_inv h
    obtain ⟨q11, hg, h⟩ := p_cl_inv h
    refine jn_row (rest := []) C hH he hg q1183 ⟨Nat.le_of_ble_eq_true rfl, Nat.le_of_ble_eq_true rfl⟩ (Nat.le_of_ble_eq_true rfl) dX1_value_11 16 rfl ⟨Nat.le_refl _, Nat.le_refl _⟩ ?_
    refine je_ltl h (fun t11 h => ?_)
    refine jk_lt h (fun k11 h => ?_)
    refine je_lstore C dX1_value_16 18 rfl (Nat.le_of_ble_eq_true rfl) [(4, .long t11), (0, .ref (G.2.1 + 0)), (1, va_rf (Option.map (fun q => G.2.1 + q) o1)), (2, .long v2)] rfl ?_
    refine je_aload_n C dX1_value_18 19 rfl 1 rfl ?_
    refine gX1_29 C dX1_value_19 22 rfl ?_
    refine gX1_186 C dX1_value_22 25 rfl ?_
    refine je_if_eq C 32 dX1_value_25 28 rfl rfl h (fun h => ?_) (fun h => ?_)
    · refine je_lload C dX1_value_32 34 rfl 0 rfl ?_
      cases h
      exact je_lret C dX1_value_34
    refine je_lconst C (0) dX1_value_28 29 rfl rfl ?_
    refine je_goto C 34 dX1_value_29 rfl ?_
    cases h
    exact je_lret C dX1_value_34
  refine je_lload_n C dX1_value_4 5 rfl 2 rfl ?_
  cases h
  exact je_lret C dX1_value_5
theorem hdX1_value : je_hd yX1_value 2 := ⟨by decide +kernel, by decide +kernel, by decide +kernel⟩
theorem hdX5_layNames : je_hd yX5_layNames 5 := ⟨by decide +kernel, by decide +kernel, by decide +kernel⟩
theorem cwX5_157 : GoodIn lw_all (wsV "MinistryDesks$Run" 157 "MinistryDesks$Run" yX5_layNames (ws_ yX5_layNames cX5_layNames 6 none)) := lw_V q1308 q1310 qs41 q168 q1311
theorem cwX5_165 : (Cond.methodLinkNest "MinistryDesks$Run" 165 yX1_value "MinistryDesks" ∈ lw_tbl ∧ Cond.initialized yX1_value.cls ∈ lw_all) ∧ Cond.code yX1_value cX1_value 6 (some .long) ∈ lw_all ∧ Cond.instanceMethod yX1_value ∈ lw_all ∧ Cond.selects "MinistryDesks" yX1_value yX1_value ∈ lw_all := ⟨⟨q1335, q161⟩, q1338, q1337, qs45⟩
theorem gX5_chg_161 {p : Program} {l : Launch} {e : Env} {R : Room} {s : State} {m : MethodId} {args : Array Value} {below : List Frame} {meth : Method} {c : Code} {Q : State → Prop} {G : je_G} {cc : ByteArray} {nL : Nat} {rt : Option FieldType} {sz cells slots pc : Nat} {L : List (Nat × Value)} {st : List Value} {κ : kp_K} {dyn : Nat → Option je_E} (C : Cx p s m args meth c G "MinistryDesks$Run" cc nL rt) {a : Nat} (ha : a = 11 ∨ a = 12) (d : decode cc pc = .ok (.getfield 161, 3)) (n : Nat) (hn : pc + 3 = n) (kk : Js p l e R s m args below meth c G nL Q (en2 G κ dyn) sz cells slots n L (va_rf (Option.map (fun q => G.2.1 + q) (κ.2.2 a 0)) :: st)) : Js p l e R s m args below meth c G nL Q (en2 G κ dyn) sz cells slots pc L (.ref (G.2.1 + a) :: st) := jk_getON (k := 0) C (kdc ha) rfl in_X4 rfl (by decide) q328 rfl d n hn kk
set_option maxHeartbeats 4000000 in
theorem metX5_keepOf {l : Launch} {G : je_G} {dyn : Nat → Option je_E} {sz : Nat} {F : Nat} {hb : Nat} {hu : hd_T} {r : Nat} {κ : kp_K} {v1 : Int32} {v2 : Int32} {v3 : Int32} {v4 : Int32} {v5 : Int32} {r9 : Int64 × kp_K} (hH : HouseRep G dyn hb hu) (hr : r < 3) (h : pX5_keepOf F hb hu r κ v1 v2 v3 v4 v5 = some r9) : MetS l G yX5_keepOf cX5_keepOf 6 (some .long) 202 6025 0 0 [.ref (G.2.1 + (13 + 14 * r)), .int v1, .int v2, .int v3, .int v4, .int v5] (en2 G κ dyn) sz (some (.long r9.1)) (en2 G r9.2 dyn) sz := by
  refine je_met "MinistryDesks$Run" rfl (by decide +kernel) (Nat.le_of_ble_eq_true rfl) [(0, .ref (G.2.1 + (13 + 14 * r))), (1, .int v1), (2, .int v2), (3, .int v3), (4, .int v4), (5, .int v5)] rfl (fun p e s m args below meth c C => ?_)
  unfold pX5_keepOf at h
  refine je_aload_n C dX5_keepOf_0 1 rfl 0 rfl ?_
  refine je_iload_n C dX5_keepOf_1 2 rfl 1 rfl ?_
  refine je_iload_n C dX5_keepOf_2 3 rfl 2 rfl ?_
  refine je_iload_n C dX5_keepOf_3 4 rfl 3 rfl ?_
  refine je_iload C dX5_keepOf_4 6 rfl 4 rfl ?_
  refine je_iload C dX5_keepOf_6 8 rfl 5 rfl ?_
  obtain ⟨k8, hg, h⟩ := p_cl_inv h
  refine je_callVv (As := [.int v1, .int v2, .int v3, .int v4, .int v5]) (rest := []) C (metX5_layNames hH hr hg) (en2_at (kro hr)) rfl hdX5_layNames rfl cwX5_157 rfl ⟨Nat.le_of_ble_eq_true rfl, Nat.le_of_ble_eq_true rfl⟩ (Nat.le_of_ble_eq_true rfl) dX5_keepOf_8 11 rfl ⟨Nat.le_refl _, Nat.le_refl _⟩ ?_
  refine je_aload_n C dX5_keepOf_11 12 rfl 0 rfl ?_
  refine gX5_run_3 C hr dX5_keepOf_12 15 rfl ?_
  refine je_aload_n C dX5_keepOf_15 16 rfl 0 rfl ?_
  obtain ⟨a16, hx, ha16, h⟩ := p_ch_inv h
  refine gX5_run_56 C hr hx dX5_keepOf_16 19 rfl ?_
  refine gX5_chg_161 C ha16 dX5_keepOf_19 22 rfl ?_
  refine je_iload C dX5_keepOf_22 24 rfl 4 rfl ?_
  refine je_i2l C dX5_keepOf_24 25 rfl ?_
  obtain ⟨q25, hg, h⟩ := p_cl_inv h
  refine je_callVNl (As := [va_rf (Option.map (fun q => G.2.1 + q) (k8.2.2 a16 0)), .long v4.toInt64]) (rest := []) C (metX1_value hH hg) (en2_at kd0) rfl hdX1_value rfl cwX5_165 rfl ⟨Nat.le_of_ble_eq_true rfl, Nat.le_of_ble_eq_true rfl⟩ (Nat.le_of_ble_eq_true rfl) dX5_keepOf_25 28 rfl ⟨Nat.le_refl _, Nat.le_refl _⟩ ?_
  refine je_ltl h (fun t25 h => ?_)
  refine jk_lt h (fun k25 h => ?_)
  cases h
  exact je_lret C dX5_keepOf_28
theorem hdX5_keepOf : je_hd yX5_keepOf 5 := ⟨by decide +kernel, by decide +kernel, by decide +kernel⟩
theorem cwX5_172 : GoodIn lw_all (wsV "MinistryDesks$Run" 172 "MinistryDesks$Run" yX5_keepOf (ws_ yX5_keepOf cX5_keepOf 6 (some .long))) := lw_V q1304 q1306 qs40 q168 q1307
theorem gX5_chg_169 {p : Program} {l : Launch} {e : Env} {R : Room} {s : State} {m : MethodId} {args : Array Value} {below : List Frame} {meth : Method} {c : Code} {Q : State → Prop} {G : je_G} {cc : ByteArray} {nL : Nat} {rt : Option FieldType} {sz cells slots pc : Nat} {L : List (Nat × Value)} {st : List Value} {κ : kp_K} {dyn : Nat → Option je_E} (C : Cx p s m args meth c G "MinistryDesks$Run" cc nL rt) {a : Nat} (ha : a = 11 ∨ a = 12) (d : decode cc pc = .ok (.getfield 169, 3)) (n : Nat) (hn : pc + 3 = n) (kk : Js p l e R s m args below meth c G nL Q (en2 G κ dyn) sz cells slots n L (.int (κ.1 a 4) :: st)) : Js p l e R s m args below meth c G nL Q (en2 G κ dyn) sz cells slots pc L (.ref (G.2.1 + a) :: st) := jk_getIN (k := 4) C (kdc ha) rfl in_X4 rfl (by decide) q339 rfl d n hn kk
set_option maxHeartbeats 4000000 in
theorem wX5_worst_107 {p : Program} {l : Launch} {e : Env} {s : State} {m : MethodId} {args : Array Value} {below : List Frame} {meth : Method} {c : Code} {G : je_G} {dyn : Nat → Option je_E} {sz : Nat} {F : Nat} {hb : Nat} {hu : hd_T} {r : Nat} {r9 : Int32 × kp_K} {k26 : kp_K → Int32 → Int32 → Int32 → Int32 → Int64 → Int32 → Option (Int32 × kp_K)} (C : Cx p s m args meth c G "MinistryDesks$Run" cX5_worst 11 (some .int)) (hH : HouseRep G dyn hb hu) (hr : r < 3) (hk26 : ∀ (kq : kp_K) (q1 : Int32) (q2 : Int32) (q3 : Int32) (q4 : Int32) (q5 : Int64) (q7 : Int32), k26 kq q1 q2 q3 q4 q5 q7 = some r9 → Js p l e ({ frames := 203, cells := 0, slots := 0, locals := 6050 } : Room) s m args below meth c G 11 (MQ below (je_Q G (some (.int r9.1)) (en2 G r9.2 dyn) sz) args s 0 0 (je_A G)) (en2 G kq dyn) sz 0 0 26 [(0, .ref (G.2.1 + (13 + 14 * r))), (1, .int q1), (2, .int q2), (3, .int q3), (4, .int q4), (5, .long q5), (7, .int q7)] []) (κ : kp_K) (v1 : Int32) (v2 : Int32) (v3 : Int32) (v7 : Int32) (v9 : Int64) (h : bX5_worst_107 F hb hu r k26 κ v1 v2 v3 v7 v9 = some r9) : Js p l e ({ frames := 203, cells := 0, slots := 0, locals := 6050 } : Room) s m args below meth c G 11 (MQ below (je_Q G (some (.int r9.1)) (en2 G r9.2 dyn) sz) args s 0 0 (je_A G)) (en2 G κ dyn) sz 0 0 107 [(0, .ref (G.2.1 + (13 + 14 * r))), (1, .int v1), (2, .int v2), (3, .int v3), (7, .int v7), (9, .long v9)] [] := by
  unfold bX5_worst_107 at h
  refine je_iload C dX5_worst_107 109 rfl 4 rfl ?_
  refine je_istore C dX5_worst_109 111 rfl (Nat.le_of_ble_eq_true rfl) [(4, .int v7), (0, .ref (G.2.1 + (13 + 14 * r))), (1, .int v1), (2, .int v2), (3, .int v3), (7, .int v7), (9, .long v9)] rfl ?_
  refine je_lload C dX5_worst_111 113 rfl 6 rfl ?_
  refine je_lstore C dX5_worst_113 115 rfl (Nat.le_of_ble_eq_true rfl) [(5, .long v9), (4, .int v7), (0, .ref (G.2.1 + (13 + 14 * r))), (1, .int v1), (2, .int v2), (3, .int v3), (7, .int v7), (9, .long v9)] rfl ?_
  refine je_iinc C (1) dX5_worst_115 118 rfl 6 rfl ic_1 (Nat.le_of_ble_eq_true rfl) [(7, .int (v7 + (1 : Int32))), (5, .long v9), (4, .int v7), (0, .ref (G.2.1 + (13 + 14 * r))), (1, .int v1), (2, .int v2), (3, .int v3), (9, .long v9)] rfl ?_
  refine je_goto C 26 dX5_worst_118 rfl ?_
  refine je_sub [3, 4, 5, 6, 2, 1, 0] [(0, .ref (G.2.1 + (13 + 14 * r))), (1, .int v1), (2, .int v2), (3, .int v3), (4, .int v7), (5, .long v9), (7, .int (v7 + (1 : Int32)))] rfl ?_
  exact hk26 κ v1 v2 v3 v7 v9 (v7 + (1 : Int32)) h
set_option maxHeartbeats 4000000 in
theorem wX5_worst_26 {p : Program} {l : Launch} {e : Env} {s : State} {m : MethodId} {args : Array Value} {below : List Frame} {meth : Method} {c : Code} {G : je_G} {dyn : Nat → Option je_E} {sz : Nat} {F : Nat} {hb : Nat} {hu : hd_T} {r : Nat} {r9 : Int32 × kp_K} (C : Cx p s m args meth c G "MinistryDesks$Run" cX5_worst 11 (some .int)) (hH : HouseRep G dyn hb hu) (hr : r < 3) : ∀ (n : Nat) (κ : kp_K) (v1 : Int32) (v2 : Int32) (v3 : Int32) (v4 : Int32) (v5 : Int64) (v7 : Int32), bX5_worst_26 F hb hu r n κ v1 v2 v3 v4 v5 v7 = some r9 → Js p l e ({ frames := 203, cells := 0, slots := 0, locals := 6050 } : Room) s m args below meth c G 11 (MQ below (je_Q G (some (.int r9.1)) (en2 G r9.2 dyn) sz) args s 0 0 (je_A G)) (en2 G κ dyn) sz 0 0 26 [(0, .ref (G.2.1 + (13 + 14 * r))), (1, .int v1), (2, .int v2), (3, .int v3), (4, .int v4), (5, .long v5), (7, .int v7)] [] := by
  intro n
  induction n with
  | zero =>
    intro κ v1 v2 v3 v4 v5 v7 h
    cases h
  | succ n ih =>
    intro κ v1 v2 v3 v4 v5 v7 h
    rw [bX5_worst_26] at h
    refine je_iload C dX5_worst_26 28 rfl 6 rfl ?_
    refine je_aload_n C dX5_worst_28 29 rfl 0 rfl ?_
    refine gX5_run_15 C hr dX5_worst_29 32 rfl ?_
    refine je_iload_n C dX5_worst_32 33 rfl 1 rfl ?_
    refine jk_iald C (kr1 hr) dX5_worst_33 34 rfl h (fun h => ?_)
    refine je_icmp_ge C 121 dX5_worst_34 37 rfl rfl h (fun h => ?_) (fun h => ?_)
    · refine je_aload_n C dX5_worst_121 122 rfl 0 rfl ?_
      refine je_iload_n C dX5_worst_122 123 rfl 1 rfl ?_
      refine je_iload_n C dX5_worst_123 124 rfl 2 rfl ?_
      refine je_iconst C (0) dX5_worst_124 125 rfl ic_0 ?_
      refine je_iload_n C dX5_worst_125 126 rfl 3 rfl ?_
      refine je_aload_n C dX5_worst_126 127 rfl 0 rfl ?_
      refine gX5_run_60 C hr dX5_worst_127 130 rfl ?_
      refine je_isub C dX5_worst_130 131 rfl ?_
      refine je_iconst C (1) dX5_worst_131 132 rfl ic_1 ?_
      obtain ⟨q132, hg, h⟩ := p_cl_inv h
      refine je_callVl (As := [.int v1, .int v2, .int (0 : Int32), .int (v3 - (κ.1 (13 + 14 * r) 1)), .int (1 : Int32)]) (rest := []) C (metX5_keepOf hH hr hg) (en2_at (kro hr)) rfl hdX5_keepOf rfl cwX5_172 rfl ⟨Nat.le_of_ble_eq_true rfl, Nat.le_of_ble_eq_true rfl⟩ (Nat.le_of_ble_eq_true rfl) dX5_worst_132 135 rfl ⟨Nat.le_refl _, Nat.le_refl _⟩ ?_
      refine je_ltl h (fun t132 h => ?_)
      refine jk_lt h (fun k132 h => ?_)
      refine je_lload C dX5_worst_135 137 rfl 5 rfl ?_
      refine je_lcmp C dX5_worst_137 138 rfl ?_
      refine je_if_ge C 150 dX5_worst_138 141 rfl rfl h (fun h => ?_) (fun h => ?_)
      · refine je_iload C dX5_worst_150 152 rfl 4 rfl ?_
        cases h
        exact je_iret C dX5_worst_152
      refine je_aload_n C dX5_worst_141 142 rfl 0 rfl ?_
      refine gX5_run_15 C hr dX5_worst_142 145 rfl ?_
      refine je_iload_n C dX5_worst_145 146 rfl 1 rfl ?_
      refine jk_iald C (kr1 hr) dX5_worst_146 147 rfl h (fun h => ?_)
      refine je_goto C 152 dX5_worst_147 rfl ?_
      cases h
      exact je_iret C dX5_worst_152
    refine je_bipush C (7) dX5_worst_37 39 rfl bp_7 ?_
    refine je_iload_n C dX5_worst_39 40 rfl 1 rfl ?_
    refine je_imul C dX5_worst_40 41 rfl ?_
    refine je_iload C dX5_worst_41 43 rfl 6 rfl ?_
    refine je_iadd C dX5_worst_43 44 rfl ?_
    refine je_lti h (fun t44 h => ?_)
    refine je_istore C dX5_worst_44 46 rfl (Nat.le_of_ble_eq_true rfl) [(8, .int t44), (0, .ref (G.2.1 + (13 + 14 * r))), (1, .int v1), (2, .int v2), (3, .int v3), (4, .int v4), (5, .long v5), (7, .int v7)] rfl ?_
    refine je_aload_n C dX5_worst_46 47 rfl 1 rfl ?_
    refine je_iload_n C dX5_worst_47 48 rfl 2 rfl ?_
    refine je_aload_n C dX5_worst_48 49 rfl 1 rfl ?_
    refine gX5_run_29 C hr dX5_worst_49 52 rfl ?_
    refine je_iload C dX5_worst_52 54 rfl 0 rfl ?_
    refine jk_iald C (kr5 hr) dX5_worst_54 55 rfl h (fun h => ?_)
    refine je_aload_n C dX5_worst_55 56 rfl 1 rfl ?_
    refine gX5_run_60 C hr dX5_worst_56 59 rfl ?_
    refine je_aload_n C dX5_worst_59 60 rfl 1 rfl ?_
    refine gX5_run_35 C hr dX5_worst_60 63 rfl ?_
    refine je_iload C dX5_worst_63 65 rfl 0 rfl ?_
    refine jk_iald C (kr7 hr) dX5_worst_65 66 rfl h (fun h => ?_)
    refine je_isub C dX5_worst_66 67 rfl ?_
    refine je_aload_n C dX5_worst_67 68 rfl 1 rfl ?_
    refine gX5_run_32 C hr dX5_worst_68 71 rfl ?_
    refine je_iload C dX5_worst_71 73 rfl 0 rfl ?_
    refine jk_iald C (kr6 hr) dX5_worst_73 74 rfl h (fun h => ?_)
    refine je_aload_n C dX5_worst_74 75 rfl 1 rfl ?_
    refine gX5_run_60 C hr dX5_worst_75 78 rfl ?_
    refine je_isub C dX5_worst_78 79 rfl ?_
    refine je_iconst C (0) dX5_worst_79 80 rfl ic_0 ?_
    obtain ⟨q80, hg, h⟩ := p_cl_inv h
    refine je_callVl (As := [.int v1, .int (κ.1 (18 + 14 * r) t44.toNatClampNeg), .int ((κ.1 (13 + 14 * r) 1) - (κ.1 (20 + 14 * r) t44.toNatClampNeg)), .int ((κ.1 (19 + 14 * r) t44.toNatClampNeg) - (κ.1 (13 + 14 * r) 1)), .int (0 : Int32)]) (rest := []) C (metX5_keepOf hH hr hg) (en2_at (kro hr)) rfl hdX5_keepOf rfl cwX5_172 rfl ⟨Nat.le_of_ble_eq_true rfl, Nat.le_of_ble_eq_true rfl⟩ (Nat.le_of_ble_eq_true rfl) dX5_worst_80 83 rfl ⟨Nat.le_refl _, Nat.le_refl _⟩ ?_
    refine je_ltl h (fun t80 h => ?_)
    refine jk_lt h (fun k80 h => ?_)
    refine je_lstore C dX5_worst_83 85 rfl (Nat.le_of_ble_eq_true rfl) [(9, .long t80), (8, .int t44), (0, .ref (G.2.1 + (13 + 14 * r))), (1, .int v1), (2, .int v2), (3, .int v3), (4, .int v4), (5, .long v5), (7, .int v7)] rfl ?_
    refine je_iload C dX5_worst_85 87 rfl 6 rfl ?_
    refine je_aload_n C dX5_worst_87 88 rfl 2 rfl ?_
    refine gX5_run_15 C hr dX5_worst_88 91 rfl ?_
    refine je_iload_n C dX5_worst_91 92 rfl 3 rfl ?_
    refine jk_iald C (kr1 hr) dX5_worst_92 93 rfl h (fun h => ?_)
    refine je_icmp_ge C 107 dX5_worst_93 96 rfl rfl h (fun h => ?_) (fun h => ?_)
    · refine je_sub [2, 3, 4, 5, 8, 0] [(0, .ref (G.2.1 + (13 + 14 * r))), (1, .int v1), (2, .int v2), (3, .int v3), (7, .int v7), (9, .long t80)] rfl ?_
      exact wX5_worst_107 C hH hr ih k80 v1 v2 v3 v7 t80 h
    refine je_lload C dX5_worst_96 98 rfl 0 rfl ?_
    refine je_lload C dX5_worst_98 100 rfl 7 rfl ?_
    refine je_lcmp C dX5_worst_100 101 rfl ?_
    refine je_if_lt C 107 dX5_worst_101 104 rfl rfl h (fun h => ?_) (fun h => ?_)
    · refine je_sub [2, 3, 4, 5, 8, 0] [(0, .ref (G.2.1 + (13 + 14 * r))), (1, .int v1), (2, .int v2), (3, .int v3), (7, .int v7), (9, .long t80)] rfl ?_
      exact wX5_worst_107 C hH hr ih k80 v1 v2 v3 v7 t80 h
    refine je_goto C 115 dX5_worst_104 rfl ?_
    refine je_iinc C (1) dX5_worst_115 118 rfl 8 rfl ic_1 (Nat.le_of_ble_eq_true rfl) [(7, .int (v7 + (1 : Int32))), (9, .long t80), (8, .int t44), (0, .ref (G.2.1 + (13 + 14 * r))), (1, .int v1), (2, .int v2), (3, .int v3), (4, .int v4), (5, .long v5)] rfl ?_
    refine je_goto C 26 dX5_worst_118 rfl ?_
    refine je_sub [3, 4, 5, 6, 7, 8, 0] [(0, .ref (G.2.1 + (13 + 14 * r))), (1, .int v1), (2, .int v2), (3, .int v3), (4, .int v4), (5, .long v5), (7, .int (v7 + (1 : Int32)))] rfl ?_
    exact ih k80 v1 v2 v3 v4 v5 (v7 + (1 : Int32)) h
set_option maxHeartbeats 4000000 in
theorem metX5_worst {l : Launch} {G : je_G} {dyn : Nat → Option je_E} {sz : Nat} {F : Nat} {hb : Nat} {hu : hd_T} {r : Nat} {κ : kp_K} {v1 : Int32} {v2 : Int32} {v3 : Int32} {r9 : Int32 × kp_K} (hH : HouseRep G dyn hb hu) (hr : r < 3) (h : pX5_worst F hb hu r κ v1 v2 v3 = some r9) : MetS l G yX5_worst cX5_worst 11 (some .int) 203 6050 0 0 [.ref (G.2.1 + (13 + 14 * r)), .int v1, .int v2, .int v3] (en2 G κ dyn) sz (some (.int r9.1)) (en2 G r9.2 dyn) sz := by
  refine je_met "MinistryDesks$Run" rfl (by decide +kernel) (Nat.le_of_ble_eq_true rfl) [(0, .ref (G.2.1 + (13 + 14 * r))), (1, .int v1), (2, .int v2), (3, .int v3)] rfl (fun p e s m args below meth c C => ?_)
  unfold pX5_worst at h
  refine je_aload_n C dX5_worst_0 1 rfl 0 rfl ?_
  obtain ⟨a1, hx, ha1, h⟩ := p_ch_inv h
  refine gX5_run_56 C hr hx dX5_worst_1 4 rfl ?_
  refine gX5_chg_169 C ha1 dX5_worst_4 7 rfl ?_
  refine je_if_eq C 12 dX5_worst_7 10 rfl rfl h (fun h => ?_) (fun h => ?_)
  · refine je_aload_n C dX5_worst_12 13 rfl 0 rfl ?_
    refine gX5_run_15 C hr dX5_worst_13 16 rfl ?_
    refine je_iload_n C dX5_worst_16 17 rfl 1 rfl ?_
    refine jk_iald C (kr1 hr) dX5_worst_17 18 rfl h (fun h => ?_)
    refine je_lti h (fun t18 h => ?_)
    refine je_istore C dX5_worst_18 20 rfl (Nat.le_of_ble_eq_true rfl) [(4, .int t18), (0, .ref (G.2.1 + (13 + 14 * r))), (1, .int v1), (2, .int v2), (3, .int v3)] rfl ?_
    refine je_lconst C (0) dX5_worst_20 21 rfl rfl ?_
    refine je_lstore C dX5_worst_21 23 rfl (Nat.le_of_ble_eq_true rfl) [(5, .long (0 : Int64)), (4, .int t18), (0, .ref (G.2.1 + (13 + 14 * r))), (1, .int v1), (2, .int v2), (3, .int v3)] rfl ?_
    refine je_iconst C (0) dX5_worst_23 24 rfl ic_0 ?_
    refine je_istore C dX5_worst_24 26 rfl (Nat.le_of_ble_eq_true rfl) [(7, .int (0 : Int32)), (5, .long (0 : Int64)), (4, .int t18), (0, .ref (G.2.1 + (13 + 14 * r))), (1, .int v1), (2, .int v2), (3, .int v3)] rfl ?_
    refine je_sub [3, 4, 5, 6, 2, 1, 0] [(0, .ref (G.2.1 + (13 + 14 * r))), (1, .int v1), (2, .int v2), (3, .int v3), (4, .int t18), (5, .long (0 : Int64)), (7, .int (0 : Int32))] rfl ?_
    exact wX5_worst_26 C hH hr F κ v1 v2 v3 t18 (0 : Int64) (0 : Int32) h
  refine je_iconst C (0) dX5_worst_10 11 rfl ic_0 ?_
  cases h
  exact je_iret C dX5_worst_11
theorem hdX5_add : je_hd yX5_add 3 := ⟨by decide +kernel, by decide +kernel, by decide +kernel⟩
theorem hdX5_lineOf : je_hd yX5_lineOf 2 := ⟨by decide +kernel, by decide +kernel, by decide +kernel⟩
theorem hdX5_lines : je_hd yX5_lines 1 := ⟨by decide +kernel, by decide +kernel, by decide +kernel⟩
theorem hdX5_worst : je_hd yX5_worst 3 := ⟨by decide +kernel, by decide +kernel, by decide +kernel⟩
theorem cwX5_176 : GoodIn lw_all (wsV "MinistryDesks$Run" 176 "MinistryDesks$Run" yX5_lineOf (ws_ yX5_lineOf cX5_lineOf 4 (some .int))) := lw_V q1287 q1288 q1289 q168 q1290
theorem cwX5_179 : GoodIn lw_all (wsV "MinistryDesks$Run" 179 "MinistryDesks$Run" yX5_lines (ws_ yX5_lines cX5_lines 2 (some .int))) := lw_V q1291 q1292 q1293 q168 q1294
theorem cwX5_181 : GoodIn lw_all (wsV "MinistryDesks$Run" 181 "MinistryDesks$Run" yX5_add (ws_ yX5_add cX5_add 5 none)) := lw_V q1296 q1298 qs38 q168 q1299
theorem cwX5_185 : GoodIn lw_all (wsV "MinistryDesks$Run" 185 "MinistryDesks$Run" yX5_worst (ws_ yX5_worst cX5_worst 11 (some .int))) := lw_V q1300 q1302 qs39 q168 q1303
set_option maxHeartbeats 4000000 in
theorem wX5_comes_90 {p : Program} {l : Launch} {e : Env} {s : State} {m : MethodId} {args : Array Value} {below : List Frame} {meth : Method} {c : Code} {G : je_G} {dyn : Nat → Option je_E} {sz : Nat} {F : Nat} {hb : Nat} {hu : hd_T} {r : Nat} {r9 : kp_K} (C : Cx p s m args meth c G "MinistryDesks$Run" cX5_comes 6 none) (hH : HouseRep G dyn hb hu) (hr : r < 3) (κ : kp_K) (v1 : Int32) (v2 : Int32) (v3 : Int32) (s0 : Int32) (h : bX5_comes_90 F hb hu r κ v1 v2 v3 s0 = some r9) : Js p l e ({ frames := 204, cells := 0, slots := 0, locals := 6080 } : Room) s m args below meth c G 6 (MQ below (je_Q G none (en2 G r9 dyn) sz) args s 0 0 (je_A G)) (en2 G κ dyn) sz 0 0 90 [(0, .ref (G.2.1 + (13 + 14 * r))), (1, .int v1), (2, .int v2), (3, .int v3)] [.int s0] := by
  unfold bX5_comes_90 at h
  refine je_istore C dX5_comes_90 92 rfl (Nat.le_of_ble_eq_true rfl) [(5, .int s0), (0, .ref (G.2.1 + (13 + 14 * r))), (1, .int v1), (2, .int v2), (3, .int v3)] rfl ?_
  refine je_iload C dX5_comes_92 94 rfl 0 rfl ?_
  refine je_aload_n C dX5_comes_94 95 rfl 1 rfl ?_
  refine gX5_run_15 C hr dX5_comes_95 98 rfl ?_
  refine je_iload_n C dX5_comes_98 99 rfl 2 rfl ?_
  refine jk_iald C (kr1 hr) dX5_comes_99 100 rfl h (fun h => ?_)
  refine je_icmp_ne C 111 dX5_comes_100 103 rfl rfl h (fun h => ?_) (fun h => ?_)
  · refine je_aload_n C dX5_comes_111 112 rfl 1 rfl ?_
    refine je_iload_n C dX5_comes_112 113 rfl 2 rfl ?_
    refine je_aload_n C dX5_comes_113 114 rfl 1 rfl ?_
    refine gX5_run_29 C hr dX5_comes_114 117 rfl ?_
    refine je_bipush C (7) dX5_comes_117 119 rfl bp_7 ?_
    refine je_iload_n C dX5_comes_119 120 rfl 2 rfl ?_
    refine je_imul C dX5_comes_120 121 rfl ?_
    refine je_iload C dX5_comes_121 123 rfl 0 rfl ?_
    refine je_iadd C dX5_comes_123 124 rfl ?_
    refine je_lti h (fun i124 h => ?_)
    refine jk_iald C (kr5 hr) dX5_comes_124 125 rfl h (fun h => ?_)
    refine je_iconst C (1) dX5_comes_125 126 rfl ic_1 ?_
    obtain ⟨k126, hg, h⟩ := p_cl_inv h
    refine je_callVv (As := [.int v1, .int (κ.1 (18 + 14 * r) i124.toNatClampNeg), .int (1 : Int32)]) (rest := []) C (metX5_goes hr hg) (en2_at (kro hr)) rfl hdX5_goes rfl cwX5_189 rfl ⟨Nat.le_of_ble_eq_true rfl, Nat.le_of_ble_eq_true rfl⟩ (Nat.le_of_ble_eq_true rfl) dX5_comes_126 129 rfl ⟨Nat.le_refl _, Nat.le_refl _⟩ ?_
    refine je_aload_n C dX5_comes_129 130 rfl 1 rfl ?_
    refine gX5_run_25 C hr dX5_comes_130 133 rfl ?_
    refine je_iload_n C dX5_comes_133 134 rfl 2 rfl ?_
    refine je_iconst C (1) dX5_comes_134 135 rfl ic_1 ?_
    refine jk_zast C (kr4 hr) dX5_comes_135 136 rfl (Or.inr rfl) h (fun h => ?_)
    refine jk_lt h (fun k135 h => ?_)
    refine je_aload_n C dX5_comes_136 137 rfl 1 rfl ?_
    refine je_iload_n C dX5_comes_137 138 rfl 2 rfl ?_
    refine je_iload C dX5_comes_138 140 rfl 0 rfl ?_
    obtain ⟨k140, hg, h⟩ := p_cl_inv h
    refine je_callVv (As := [.int v1, .int s0]) (rest := []) C (metX5_strike hr hg) (en2_at (kro hr)) rfl hdX5_strike rfl cwX5_192 rfl ⟨Nat.le_of_ble_eq_true rfl, Nat.le_of_ble_eq_true rfl⟩ (Nat.le_of_ble_eq_true rfl) dX5_comes_140 143 rfl ⟨Nat.le_refl _, Nat.le_refl _⟩ ?_
    refine je_aload_n C dX5_comes_143 144 rfl 1 rfl ?_
    refine je_iload_n C dX5_comes_144 145 rfl 2 rfl ?_
    refine je_iload_n C dX5_comes_145 146 rfl 3 rfl ?_
    refine je_iload_n C dX5_comes_146 147 rfl 4 rfl ?_
    obtain ⟨k147, hg, h⟩ := p_cl_inv h
    refine je_callVv (As := [.int v1, .int v2, .int v3]) (rest := []) C (metX5_add hr hg) (en2_at (kro hr)) rfl hdX5_add rfl cwX5_181 rfl ⟨Nat.le_of_ble_eq_true rfl, Nat.le_of_ble_eq_true rfl⟩ (Nat.le_of_ble_eq_true rfl) dX5_comes_147 150 rfl ⟨Nat.le_refl _, Nat.le_refl _⟩ ?_
    cases h
    exact je_vret C dX5_comes_150
  refine je_aload_n C dX5_comes_103 104 rfl 1 rfl ?_
  refine je_iload_n C dX5_comes_104 105 rfl 2 rfl ?_
  refine je_iload_n C dX5_comes_105 106 rfl 3 rfl ?_
  refine je_iconst C (2) dX5_comes_106 107 rfl ic_2 ?_
  obtain ⟨k107, hg, h⟩ := p_cl_inv h
  refine je_callVv (As := [.int v1, .int v2, .int (2 : Int32)]) (rest := []) C (metX5_goes hr hg) (en2_at (kro hr)) rfl hdX5_goes rfl cwX5_189 rfl ⟨Nat.le_of_ble_eq_true rfl, Nat.le_of_ble_eq_true rfl⟩ (Nat.le_of_ble_eq_true rfl) dX5_comes_107 110 rfl ⟨Nat.le_refl _, Nat.le_refl _⟩ ?_
  cases h
  exact je_vret C dX5_comes_110
set_option maxHeartbeats 4000000 in
theorem metX5_comes {l : Launch} {G : je_G} {dyn : Nat → Option je_E} {sz : Nat} {F : Nat} {hb : Nat} {hu : hd_T} {r : Nat} {κ : kp_K} {v1 : Int32} {v2 : Int32} {v3 : Int32} {r9 : kp_K} (hH : HouseRep G dyn hb hu) (hr : r < 3) (h : pX5_comes F hb hu r κ v1 v2 v3 = some r9) : MetS l G yX5_comes cX5_comes 6 none 204 6080 0 0 [.ref (G.2.1 + (13 + 14 * r)), .int v1, .int v2, .int v3] (en2 G κ dyn) sz none (en2 G r9 dyn) sz := by
  refine je_met "MinistryDesks$Run" rfl (by decide +kernel) (Nat.le_of_ble_eq_true rfl) [(0, .ref (G.2.1 + (13 + 14 * r))), (1, .int v1), (2, .int v2), (3, .int v3)] rfl (fun p e s m args below meth c C => ?_)
  unfold pX5_comes at h
  refine je_aload_n C dX5_comes_0 1 rfl 0 rfl ?_
  refine je_iload_n C dX5_comes_1 2 rfl 1 rfl ?_
  refine je_iload_n C dX5_comes_2 3 rfl 2 rfl ?_
  obtain ⟨t3, hg, h⟩ := p_cl_inv h
  refine je_callVi (As := [.int v1, .int v2]) (rest := []) C (metX5_lineOf hr hg) (en2_at (kro hr)) rfl hdX5_lineOf rfl cwX5_176 rfl ⟨Nat.le_of_ble_eq_true rfl, Nat.le_of_ble_eq_true rfl⟩ (Nat.le_of_ble_eq_true rfl) dX5_comes_3 6 rfl ⟨Nat.le_refl _, Nat.le_refl _⟩ ?_
  refine je_istore C dX5_comes_6 8 rfl (Nat.le_of_ble_eq_true rfl) [(4, .int t3), (0, .ref (G.2.1 + (13 + 14 * r))), (1, .int v1), (2, .int v2), (3, .int v3)] rfl ?_
  refine je_iload C dX5_comes_8 10 rfl 0 rfl ?_
  refine je_if_lt C 43 dX5_comes_10 13 rfl rfl h (fun h => ?_) (fun h => ?_)
  · refine je_aload_n C dX5_comes_43 44 rfl 1 rfl ?_
    refine gX5_run_15 C hr dX5_comes_44 47 rfl ?_
    refine je_iload_n C dX5_comes_47 48 rfl 2 rfl ?_
    refine jk_iald C (kr1 hr) dX5_comes_48 49 rfl h (fun h => ?_)
    refine je_aload_n C dX5_comes_49 50 rfl 1 rfl ?_
    refine je_iload_n C dX5_comes_50 51 rfl 2 rfl ?_
    obtain ⟨t51, hg, h⟩ := p_cl_inv h
    refine je_callVi (As := [.int v1]) (rest := [.int (κ.1 (14 + 14 * r) v1.toNatClampNeg)]) C (metX5_lines hH hr hg) (en2_at (kro hr)) rfl hdX5_lines rfl cwX5_179 rfl ⟨Nat.le_of_ble_eq_true rfl, Nat.le_of_ble_eq_true rfl⟩ (Nat.le_of_ble_eq_true rfl) dX5_comes_51 54 rfl ⟨Nat.le_refl _, Nat.le_refl _⟩ ?_
    refine je_icmp_ge C 65 dX5_comes_54 57 rfl rfl h (fun h => ?_) (fun h => ?_)
    · refine je_aload_n C dX5_comes_65 66 rfl 1 rfl ?_
      refine gX5_run_25 C hr dX5_comes_66 69 rfl ?_
      refine je_iload_n C dX5_comes_69 70 rfl 2 rfl ?_
      refine jk_zald C (kr4 hr) dX5_comes_70 71 rfl h (fun h => ?_)
      refine je_if_eq C 83 dX5_comes_71 74 rfl rfl h (fun h => ?_) (fun h => ?_)
      · refine je_aload_n C dX5_comes_83 84 rfl 1 rfl ?_
        refine je_iload_n C dX5_comes_84 85 rfl 2 rfl ?_
        refine je_iload_n C dX5_comes_85 86 rfl 3 rfl ?_
        refine je_iload_n C dX5_comes_86 87 rfl 4 rfl ?_
        obtain ⟨q87, hg, h⟩ := p_cl_inv h
        refine je_callVi (As := [.int v1, .int v2, .int v3]) (rest := []) C (metX5_worst hH hr hg) (en2_at (kro hr)) rfl hdX5_worst rfl cwX5_185 rfl ⟨Nat.le_of_ble_eq_true rfl, Nat.le_of_ble_eq_true rfl⟩ (Nat.le_of_ble_eq_true rfl) dX5_comes_87 90 rfl ⟨Nat.le_refl _, Nat.le_refl _⟩ ?_
        refine je_lti h (fun t87 h => ?_)
        refine jk_lt h (fun k87 h => ?_)
        refine je_sub [1, 2, 3, 4] [(0, .ref (G.2.1 + (13 + 14 * r))), (1, .int v1), (2, .int v2), (3, .int v3)] rfl ?_
        exact wX5_comes_90 C hH hr k87 v1 v2 v3 t87 h
      refine je_aload_n C dX5_comes_74 75 rfl 1 rfl ?_
      refine gX5_run_15 C hr dX5_comes_75 78 rfl ?_
      refine je_iload_n C dX5_comes_78 79 rfl 2 rfl ?_
      refine jk_iald C (kr1 hr) dX5_comes_79 80 rfl h (fun h => ?_)
      refine je_goto C 90 dX5_comes_80 rfl ?_
      refine je_sub [1, 2, 3, 4] [(0, .ref (G.2.1 + (13 + 14 * r))), (1, .int v1), (2, .int v2), (3, .int v3)] rfl ?_
      exact wX5_comes_90 C hH hr κ v1 v2 v3 (κ.1 (14 + 14 * r) v1.toNatClampNeg) h
    refine je_aload_n C dX5_comes_57 58 rfl 1 rfl ?_
    refine je_iload_n C dX5_comes_58 59 rfl 2 rfl ?_
    refine je_iload_n C dX5_comes_59 60 rfl 3 rfl ?_
    refine je_iload_n C dX5_comes_60 61 rfl 4 rfl ?_
    obtain ⟨k61, hg, h⟩ := p_cl_inv h
    refine je_callVv (As := [.int v1, .int v2, .int v3]) (rest := []) C (metX5_add hr hg) (en2_at (kro hr)) rfl hdX5_add rfl cwX5_181 rfl ⟨Nat.le_of_ble_eq_true rfl, Nat.le_of_ble_eq_true rfl⟩ (Nat.le_of_ble_eq_true rfl) dX5_comes_61 64 rfl ⟨Nat.le_refl _, Nat.le_refl _⟩ ?_
    cases h
    exact je_vret C dX5_comes_64
  refine je_aload_n C dX5_comes_13 14 rfl 1 rfl ?_
  refine gX5_run_32 C hr dX5_comes_14 17 rfl ?_
  refine je_bipush C (7) dX5_comes_17 19 rfl bp_7 ?_
  refine je_iload_n C dX5_comes_19 20 rfl 2 rfl ?_
  refine je_imul C dX5_comes_20 21 rfl ?_
  refine je_iload C dX5_comes_21 23 rfl 0 rfl ?_
  refine je_iadd C dX5_comes_23 24 rfl ?_
  refine je_iload_n C dX5_comes_24 25 rfl 4 rfl ?_
  refine jk_iast C (kr6 hr) dX5_comes_25 26 rfl h (fun h => ?_)
  refine jk_lt h (fun k25 h => ?_)
  refine je_aload_n C dX5_comes_26 27 rfl 1 rfl ?_
  refine gX5_run_35 C hr dX5_comes_27 30 rfl ?_
  refine je_bipush C (7) dX5_comes_30 32 rfl bp_7 ?_
  refine je_iload_n C dX5_comes_32 33 rfl 2 rfl ?_
  refine je_imul C dX5_comes_33 34 rfl ?_
  refine je_iload C dX5_comes_34 36 rfl 0 rfl ?_
  refine je_iadd C dX5_comes_36 37 rfl ?_
  refine je_aload_n C dX5_comes_37 38 rfl 1 rfl ?_
  refine gX5_run_60 C hr dX5_comes_38 41 rfl ?_
  refine jk_iast C (kr7 hr) dX5_comes_41 42 rfl h (fun h => ?_)
  refine jk_lt h (fun k41 h => ?_)
  cases h
  exact je_vret C dX5_comes_42
theorem hdX5_comes : je_hd yX5_comes 3 := ⟨by decide +kernel, by decide +kernel, by decide +kernel⟩
theorem cwX5_209 : GoodIn lw_all (wsV "MinistryDesks$Run" 209 "MinistryDesks$Run" yX5_comes (ws_ yX5_comes cX5_comes 6 none)) := lw_V q1283 q1285 qs37 q168 q1286
theorem gX5_chg_202 {p : Program} {l : Launch} {e : Env} {R : Room} {s : State} {m : MethodId} {args : Array Value} {below : List Frame} {meth : Method} {c : Code} {Q : State → Prop} {G : je_G} {cc : ByteArray} {nL : Nat} {rt : Option FieldType} {sz cells slots pc : Nat} {L : List (Nat × Value)} {st : List Value} {κ : kp_K} {dyn : Nat → Option je_E} (C : Cx p s m args meth c G "MinistryDesks$Run" cc nL rt) {a : Nat} (ha : a = 11 ∨ a = 12) (d : decode cc pc = .ok (.getfield 202, 3)) (n : Nat) (hn : pc + 3 = n) (kk : Js p l e R s m args below meth c G nL Q (en2 G κ dyn) sz cells slots n L (.int (κ.1 a 6) :: st)) : Js p l e R s m args below meth c G nL Q (en2 G κ dyn) sz cells slots pc L (.ref (G.2.1 + a) :: st) := jk_getIN (k := 6) C (kdc ha) rfl in_X4 rfl (by decide) q345 rfl d n hn kk
set_option maxHeartbeats 4000000 in
theorem wX5_morning_2 {p : Program} {l : Launch} {e : Env} {s : State} {m : MethodId} {args : Array Value} {below : List Frame} {meth : Method} {c : Code} {G : je_G} {dyn : Nat → Option je_E} {sz : Nat} {F : Nat} {hb : Nat} {hu : hd_T} {r : Nat} {r9 : kp_K} (C : Cx p s m args meth c G "MinistryDesks$Run" cX5_morning 3 none) (hH : HouseRep G dyn hb hu) (hr : r < 3) : ∀ (n : Nat) (κ : kp_K) (v1 : Int32), bX5_morning_2 F hb hu r n κ v1 = some r9 → Js p l e ({ frames := 205, cells := 0, slots := 0, locals := 6105 } : Room) s m args below meth c G 3 (MQ below (je_Q G none (en2 G r9 dyn) sz) args s 0 0 (je_A G)) (en2 G κ dyn) sz 0 0 2 [(0, .ref (G.2.1 + (13 + 14 * r))), (1, .int v1)] [] := by
  intro n
  induction n with
  | zero =>
    intro κ v1 h
    cases h
  | succ n ih =>
    intro κ v1 h
    rw [bX5_morning_2] at h
    refine je_iload_n C dX5_morning_2 3 rfl 1 rfl ?_
    refine je_aload_n C dX5_morning_3 4 rfl 0 rfl ?_
    refine gX5_run_3 C hr dX5_morning_4 7 rfl ?_
    obtain ⟨hx, h⟩ := p_hs_inv h
    refine gX5_77 C hx dX5_morning_7 10 rfl ?_
    refine jh_listN C hH (t := 2) (by decide) q252 rfl dX5_morning_10 13 rfl ?_
    refine jh_size (t := 2) (rest := [.int v1]) C hH (by decide) cwX5_126 ⟨Nat.le_of_ble_eq_true rfl, Nat.le_of_ble_eq_true rfl⟩ (Nat.le_of_ble_eq_true rfl) dX5_morning_13 16 rfl ⟨Nat.le_refl _, Nat.le_refl _⟩ ?_
    refine je_icmp_ge C 81 dX5_morning_16 19 rfl rfl h (fun h => ?_) (fun h => ?_)
    · cases h
      exact je_vret C dX5_morning_81
    refine je_aload_n C dX5_morning_19 20 rfl 0 rfl ?_
    refine gX5_run_3 C hr dX5_morning_20 23 rfl ?_
    obtain ⟨hx, h⟩ := p_hs_inv h
    refine gX5_77 C hx dX5_morning_23 26 rfl ?_
    refine jh_listN C hH (t := 2) (by decide) q252 rfl dX5_morning_26 29 rfl ?_
    refine je_iload_n C dX5_morning_29 30 rfl 1 rfl ?_
    obtain ⟨hin2_v1, h⟩ := p_ck_inv h
    refine jh_get (t := 2) (rest := []) C hH (by decide) hin2_v1 cwX5_87 ⟨Nat.le_of_ble_eq_true rfl, Nat.le_of_ble_eq_true rfl⟩ (Nat.le_of_ble_eq_true rfl) dX5_morning_30 33 rfl ⟨Nat.le_refl _, Nat.le_refl _⟩ ?_
    refine jh_cast2 C hH hin2_v1 q1282 dX5_morning_33 36 rfl ?_
    refine je_astore_n C dX5_morning_36 37 rfl (Nat.le_of_ble_eq_true rfl) [(2, .ref (G.2.1 + (hu.2.2.2.2.1 2 v1.toNatClampNeg))), (0, .ref (G.2.1 + (13 + 14 * r))), (1, .int v1)] rfl ?_
    refine je_aload_n C dX5_morning_37 38 rfl 0 rfl ?_
    refine jh_item2N C hH hin2_v1 (k := 0) (by decide) q968 rfl dX5_morning_38 41 rfl ?_
    refine je_aload_n C dX5_morning_41 42 rfl 1 rfl ?_
    refine gX5_run_60 C hr dX5_morning_42 45 rfl ?_
    refine je_icmp_ne C 75 dX5_morning_45 48 rfl rfl h (fun h => ?_) (fun h => ?_)
    · refine je_iinc C (1) dX5_morning_75 78 rfl 2 rfl ic_1 (Nat.le_of_ble_eq_true rfl) [(1, .int (v1 + (1 : Int32))), (2, .ref (G.2.1 + (hu.2.2.2.2.1 2 v1.toNatClampNeg))), (0, .ref (G.2.1 + (13 + 14 * r)))] rfl ?_
      refine je_goto C 2 dX5_morning_78 rfl ?_
      refine je_sub [2, 0] [(0, .ref (G.2.1 + (13 + 14 * r))), (1, .int (v1 + (1 : Int32)))] rfl ?_
      exact ih κ (v1 + (1 : Int32)) h
    refine je_iload_n C dX5_morning_48 49 rfl 2 rfl ?_
    refine je_aload_n C dX5_morning_49 50 rfl 1 rfl ?_
    obtain ⟨a50, hx, ha50, h⟩ := p_ch_inv h
    refine gX5_run_56 C hr hx dX5_morning_50 53 rfl ?_
    refine gX5_chg_202 C ha50 dX5_morning_53 56 rfl ?_
    refine je_icmp_eq C 75 dX5_morning_56 59 rfl rfl h (fun h => ?_) (fun h => ?_)
    · refine je_iinc C (1) dX5_morning_75 78 rfl 2 rfl ic_1 (Nat.le_of_ble_eq_true rfl) [(1, .int (v1 + (1 : Int32))), (2, .ref (G.2.1 + (hu.2.2.2.2.1 2 v1.toNatClampNeg))), (0, .ref (G.2.1 + (13 + 14 * r)))] rfl ?_
      refine je_goto C 2 dX5_morning_78 rfl ?_
      refine je_sub [2, 0] [(0, .ref (G.2.1 + (13 + 14 * r))), (1, .int (v1 + (1 : Int32)))] rfl ?_
      exact ih κ (v1 + (1 : Int32)) h
    refine je_aload_n C dX5_morning_59 60 rfl 1 rfl ?_
    refine je_aload_n C dX5_morning_60 61 rfl 0 rfl ?_
    refine jh_item2N C hH hin2_v1 (k := 1) (by decide) q971 rfl dX5_morning_61 64 rfl ?_
    refine je_aload_n C dX5_morning_64 65 rfl 0 rfl ?_
    refine jh_item2N C hH hin2_v1 (k := 2) (by decide) q974 rfl dX5_morning_65 68 rfl ?_
    refine je_aload_n C dX5_morning_68 69 rfl 0 rfl ?_
    refine jh_item2N C hH hin2_v1 (k := 3) (by decide) q977 rfl dX5_morning_69 72 rfl ?_
    obtain ⟨k72, hg, h⟩ := p_cl_inv h
    refine je_callVv (As := [.int (hu.1 21 v1.toNatClampNeg), .int (hu.1 22 v1.toNatClampNeg), .int (hu.1 23 v1.toNatClampNeg)]) (rest := []) C (metX5_comes hH hr hg) (en2_at (kro hr)) rfl hdX5_comes rfl cwX5_209 rfl ⟨Nat.le_of_ble_eq_true rfl, Nat.le_of_ble_eq_true rfl⟩ (Nat.le_of_ble_eq_true rfl) dX5_morning_72 75 rfl ⟨Nat.le_refl _, Nat.le_refl _⟩ ?_
    refine je_iinc C (1) dX5_morning_75 78 rfl 2 rfl ic_1 (Nat.le_of_ble_eq_true rfl) [(1, .int (v1 + (1 : Int32))), (2, .ref (G.2.1 + (hu.2.2.2.2.1 2 v1.toNatClampNeg))), (0, .ref (G.2.1 + (13 + 14 * r)))] rfl ?_
    refine je_goto C 2 dX5_morning_78 rfl ?_
    refine je_sub [2, 0] [(0, .ref (G.2.1 + (13 + 14 * r))), (1, .int (v1 + (1 : Int32)))] rfl ?_
    exact ih k72 (v1 + (1 : Int32)) h
set_option maxHeartbeats 4000000 in
theorem metX5_morning {l : Launch} {G : je_G} {dyn : Nat → Option je_E} {sz : Nat} {F : Nat} {hb : Nat} {hu : hd_T} {r : Nat} {κ : kp_K}  {r9 : kp_K} (hH : HouseRep G dyn hb hu) (hr : r < 3) (h : pX5_morning F hb hu r κ = some r9) : MetS l G yX5_morning cX5_morning 3 none 205 6105 0 0 [.ref (G.2.1 + (13 + 14 * r))] (en2 G κ dyn) sz none (en2 G r9 dyn) sz := by
  refine je_met "MinistryDesks$Run" rfl (by decide +kernel) (Nat.le_of_ble_eq_true rfl) [(0, .ref (G.2.1 + (13 + 14 * r)))] rfl (fun p e s m args below meth c C => ?_)
  unfold pX5_morning at h
  refine je_iconst C (0) dX5_morning_0 1 rfl ic_0 ?_
  refine je_istore_n C dX5_morning_1 2 rfl (Nat.le_of_ble_eq_true rfl) [(1, .int (0 : Int32)), (0, .ref (G.2.1 + (13 + 14 * r)))] rfl ?_
  refine je_sub [1, 0] [(0, .ref (G.2.1 + (13 + 14 * r))), (1, .int (0 : Int32))] rfl ?_
  exact wX5_morning_2 C hH hr F κ (0 : Int32) h
theorem acw_X5_71 : Cond.methodLink "MinistryDesks$Run" 71 arraycopyName ∈ lw_all ∧ Cond.native arraycopyName ∈ lw_all ∧ Cond.static arraycopyName ∈ lw_all ∧ Cond.initialized "java/lang/System" ∈ lw_all := ⟨q1347, q930, q929, q184⟩
theorem gX5_run_41 {p : Program} {l : Launch} {e : Env} {R : Room} {s : State} {m : MethodId} {args : Array Value} {below : List Frame} {meth : Method} {c : Code} {Q : State → Prop} {G : je_G} {cc : ByteArray} {nL : Nat} {rt : Option FieldType} {sz cells slots pc : Nat} {L : List (Nat × Value)} {st : List Value} {κ : kp_K} {dyn : Nat → Option je_E} (C : Cx p s m args meth c G "MinistryDesks$Run" cc nL rt) {r : Nat} (hr : r < 3) (d : decode cc pc = .ok (.getfield 41, 3)) (n : Nat) (hn : pc + 3 = n) (kk : Js p l e R s m args below meth c G nL Q (en2 G κ dyn) sz cells slots n L (.ref (G.2.1 + (22 + 14 * r)) :: st)) : Js p l e R s m args below meth c G nL Q (en2 G κ dyn) sz cells slots pc L (.ref (G.2.1 + (13 + 14 * r)) :: st) := jk_getR (k := 10) (z := 0) C (kro hr) rfl in_X5 (22 + 14 * r) rfl (by decide) q385 rfl d n hn kk
theorem gX5_run_44 {p : Program} {l : Launch} {e : Env} {R : Room} {s : State} {m : MethodId} {args : Array Value} {below : List Frame} {meth : Method} {c : Code} {Q : State → Prop} {G : je_G} {cc : ByteArray} {nL : Nat} {rt : Option FieldType} {sz cells slots pc : Nat} {L : List (Nat × Value)} {st : List Value} {κ : kp_K} {dyn : Nat → Option je_E} (C : Cx p s m args meth c G "MinistryDesks$Run" cc nL rt) {r : Nat} (hr : r < 3) (d : decode cc pc = .ok (.getfield 44, 3)) (n : Nat) (hn : pc + 3 = n) (kk : Js p l e R s m args below meth c G nL Q (en2 G κ dyn) sz cells slots n L (.ref (G.2.1 + (23 + 14 * r)) :: st)) : Js p l e R s m args below meth c G nL Q (en2 G κ dyn) sz cells slots pc L (.ref (G.2.1 + (13 + 14 * r)) :: st) := jk_getR (k := 11) (z := 0) C (kro hr) rfl in_X5 (23 + 14 * r) rfl (by decide) q386 rfl d n hn kk
theorem gX5_run_47 {p : Program} {l : Launch} {e : Env} {R : Room} {s : State} {m : MethodId} {args : Array Value} {below : List Frame} {meth : Method} {c : Code} {Q : State → Prop} {G : je_G} {cc : ByteArray} {nL : Nat} {rt : Option FieldType} {sz cells slots pc : Nat} {L : List (Nat × Value)} {st : List Value} {κ : kp_K} {dyn : Nat → Option je_E} (C : Cx p s m args meth c G "MinistryDesks$Run" cc nL rt) {r : Nat} (hr : r < 3) (d : decode cc pc = .ok (.getfield 47, 3)) (n : Nat) (hn : pc + 3 = n) (kk : Js p l e R s m args below meth c G nL Q (en2 G κ dyn) sz cells slots n L (.ref (G.2.1 + (24 + 14 * r)) :: st)) : Js p l e R s m args below meth c G nL Q (en2 G κ dyn) sz cells slots pc L (.ref (G.2.1 + (13 + 14 * r)) :: st) := jk_getR (k := 12) (z := 0) C (kro hr) rfl in_X5 (24 + 14 * r) rfl (by decide) q387 rfl d n hn kk
set_option maxHeartbeats 4000000 in
theorem wX5_layThen_2 {p : Program} {l : Launch} {e : Env} {s : State} {m : MethodId} {args : Array Value} {below : List Frame} {meth : Method} {c : Code} {G : je_G} {dyn : Nat → Option je_E} {sz : Nat} {F : Nat} {hb : Nat} {hu : hd_T} {r : Nat} {r9 : kp_K} (C : Cx p s m args meth c G "MinistryDesks$Run" cX5_layThen 2 none) (hH : HouseRep G dyn hb hu) (hr : r < 3) : ∀ (n : Nat) (κ : kp_K) (v1 : Int32), bX5_layThen_2 F hb hu r n κ v1 = some r9 → Js p l e ({ frames := 5, cells := 0, slots := 0, locals := 140 } : Room) s m args below meth c G 2 (MQ below (je_Q G none (en2 G r9 dyn) sz) args s 0 0 (je_A G)) (en2 G κ dyn) sz 0 0 2 [(0, .ref (G.2.1 + (13 + 14 * r))), (1, .int v1)] [] := by
  intro n
  induction n with
  | zero =>
    intro κ v1 h
    cases h
  | succ n ih =>
    intro κ v1 h
    rw [bX5_layThen_2] at h
    refine je_iload_n C dX5_layThen_2 3 rfl 1 rfl ?_
    refine je_aload_n C dX5_layThen_3 4 rfl 0 rfl ?_
    refine gX5_run_3 C hr dX5_layThen_4 7 rfl ?_
    obtain ⟨t7, hg, h⟩ := p_cl_inv h
    refine je_callVNi (As := []) (rest := [.int v1]) C (metX1_desks hH hg) (en2_at kd0) rfl hdX1_desks rfl cwX5_112 rfl ⟨Nat.le_of_ble_eq_true rfl, Nat.le_of_ble_eq_true rfl⟩ (Nat.le_of_ble_eq_true rfl) dX5_layThen_7 10 rfl ⟨Nat.le_refl _, Nat.le_refl _⟩ ?_
    refine je_icmp_ge C 42 dX5_layThen_10 13 rfl rfl h (fun h => ?_) (fun h => ?_)
    · refine je_aload_n C dX5_layThen_42 43 rfl 0 rfl ?_
      refine gX5_run_29 C hr dX5_layThen_43 46 rfl ?_
      refine je_iconst C (0) dX5_layThen_46 47 rfl ic_0 ?_
      refine je_aload_n C dX5_layThen_47 48 rfl 0 rfl ?_
      refine gX5_run_44 C hr dX5_layThen_48 51 rfl ?_
      refine je_iconst C (0) dX5_layThen_51 52 rfl ic_0 ?_
      refine je_bipush C (28) dX5_layThen_52 54 rfl bp_28 ?_
      refine jk_copyi C (kr5 hr) (kr10 hr) acw_X5_71 (by decide) (by decide) (by decide) (Nat.le_of_ble_eq_true rfl) (Nat.le_of_ble_eq_true rfl) ⟨Nat.le_of_ble_eq_true rfl, Nat.le_of_ble_eq_true rfl⟩ (Nat.le_of_ble_eq_true rfl) dX5_layThen_54 57 rfl ?_
      refine jk_lt h (fun k54 h => ?_)
      refine je_aload_n C dX5_layThen_57 58 rfl 0 rfl ?_
      refine gX5_run_32 C hr dX5_layThen_58 61 rfl ?_
      refine je_iconst C (0) dX5_layThen_61 62 rfl ic_0 ?_
      refine je_aload_n C dX5_layThen_62 63 rfl 0 rfl ?_
      refine gX5_run_47 C hr dX5_layThen_63 66 rfl ?_
      refine je_iconst C (0) dX5_layThen_66 67 rfl ic_0 ?_
      refine je_bipush C (28) dX5_layThen_67 69 rfl bp_28 ?_
      refine jk_copyi C (kr6 hr) (kr11 hr) acw_X5_71 (by decide) (by decide) (by decide) (Nat.le_of_ble_eq_true rfl) (Nat.le_of_ble_eq_true rfl) ⟨Nat.le_of_ble_eq_true rfl, Nat.le_of_ble_eq_true rfl⟩ (Nat.le_of_ble_eq_true rfl) dX5_layThen_69 72 rfl ?_
      refine jk_lt h (fun k69 h => ?_)
      cases h
      exact je_vret C dX5_layThen_72
    refine je_aload_n C dX5_layThen_13 14 rfl 0 rfl ?_
    refine gX5_run_38 C hr dX5_layThen_14 17 rfl ?_
    refine je_iload_n C dX5_layThen_17 18 rfl 1 rfl ?_
    refine je_aload_n C dX5_layThen_18 19 rfl 0 rfl ?_
    refine je_iload_n C dX5_layThen_19 20 rfl 1 rfl ?_
    obtain ⟨t20, hg, h⟩ := p_cl_inv h
    refine je_callVi (As := [.int v1]) (rest := [.int v1, .ref (G.2.1 + (21 + 14 * r))]) C (metX5_held hr hg) (en2_at (kro hr)) rfl hdX5_held rfl cwX5_115 rfl ⟨Nat.le_of_ble_eq_true rfl, Nat.le_of_ble_eq_true rfl⟩ (Nat.le_of_ble_eq_true rfl) dX5_layThen_20 23 rfl ⟨Nat.le_refl _, Nat.le_refl _⟩ ?_
    refine jk_iast C (kr8 hr) dX5_layThen_23 24 rfl h (fun h => ?_)
    refine jk_lt h (fun k23 h => ?_)
    refine je_aload_n C dX5_layThen_24 25 rfl 0 rfl ?_
    refine gX5_run_41 C hr dX5_layThen_25 28 rfl ?_
    refine je_iload_n C dX5_layThen_28 29 rfl 1 rfl ?_
    refine je_aload_n C dX5_layThen_29 30 rfl 0 rfl ?_
    refine gX5_run_15 C hr dX5_layThen_30 33 rfl ?_
    refine je_iload_n C dX5_layThen_33 34 rfl 1 rfl ?_
    refine jk_iald C (kr1 hr) dX5_layThen_34 35 rfl h (fun h => ?_)
    refine jk_iast C (kr9 hr) dX5_layThen_35 36 rfl h (fun h => ?_)
    refine jk_lt h (fun k35 h => ?_)
    refine je_iinc C (1) dX5_layThen_36 39 rfl 1 rfl ic_1 (Nat.le_of_ble_eq_true rfl) [(1, .int (v1 + (1 : Int32))), (0, .ref (G.2.1 + (13 + 14 * r)))] rfl ?_
    refine je_goto C 2 dX5_layThen_39 rfl ?_
    refine je_sub [1, 0] [(0, .ref (G.2.1 + (13 + 14 * r))), (1, .int (v1 + (1 : Int32)))] rfl ?_
    exact ih k35 (v1 + (1 : Int32)) h
set_option maxHeartbeats 4000000 in
theorem metX5_layThen {l : Launch} {G : je_G} {dyn : Nat → Option je_E} {sz : Nat} {F : Nat} {hb : Nat} {hu : hd_T} {r : Nat} {κ : kp_K}  {r9 : kp_K} (hH : HouseRep G dyn hb hu) (hr : r < 3) (h : pX5_layThen F hb hu r κ = some r9) : MetS l G yX5_layThen cX5_layThen 2 none 5 140 0 0 [.ref (G.2.1 + (13 + 14 * r))] (en2 G κ dyn) sz none (en2 G r9 dyn) sz := by
  refine je_met "MinistryDesks$Run" rfl (by decide +kernel) (Nat.le_of_ble_eq_true rfl) [(0, .ref (G.2.1 + (13 + 14 * r)))] rfl (fun p e s m args below meth c C => ?_)
  unfold pX5_layThen at h
  refine je_iconst C (0) dX5_layThen_0 1 rfl ic_0 ?_
  refine je_istore_n C dX5_layThen_1 2 rfl (Nat.le_of_ble_eq_true rfl) [(1, .int (0 : Int32)), (0, .ref (G.2.1 + (13 + 14 * r)))] rfl ?_
  refine je_sub [1, 0] [(0, .ref (G.2.1 + (13 + 14 * r))), (1, .int (0 : Int32))] rfl ?_
  exact wX5_layThen_2 C hH hr F κ (0 : Int32) h
theorem gX5_chg_103 {p : Program} {l : Launch} {e : Env} {R : Room} {s : State} {m : MethodId} {args : Array Value} {below : List Frame} {meth : Method} {c : Code} {Q : State → Prop} {G : je_G} {cc : ByteArray} {nL : Nat} {rt : Option FieldType} {sz cells slots pc : Nat} {L : List (Nat × Value)} {st : List Value} {κ : kp_K} {dyn : Nat → Option je_E} (C : Cx p s m args meth c G "MinistryDesks$Run" cc nL rt) {a : Nat} (ha : a = 11 ∨ a = 12) (d : decode cc pc = .ok (.getfield 103, 3)) (n : Nat) (hn : pc + 3 = n) (kk : Js p l e R s m args below meth c G nL Q (en2 G κ dyn) sz cells slots n L (.int (κ.1 a 1) :: st)) : Js p l e R s m args below meth c G nL Q (en2 G κ dyn) sz cells slots pc L (.ref (G.2.1 + a) :: st) := jk_getIN (k := 1) C (kdc ha) rfl in_X4 rfl (by decide) q330 rfl d n hn kk
theorem gX5_chg_106 {p : Program} {l : Launch} {e : Env} {R : Room} {s : State} {m : MethodId} {args : Array Value} {below : List Frame} {meth : Method} {c : Code} {Q : State → Prop} {G : je_G} {cc : ByteArray} {nL : Nat} {rt : Option FieldType} {sz cells slots pc : Nat} {L : List (Nat × Value)} {st : List Value} {κ : kp_K} {dyn : Nat → Option je_E} (C : Cx p s m args meth c G "MinistryDesks$Run" cc nL rt) {a : Nat} (ha : a = 11 ∨ a = 12) (d : decode cc pc = .ok (.getfield 106, 3)) (n : Nat) (hn : pc + 3 = n) (kk : Js p l e R s m args below meth c G nL Q (en2 G κ dyn) sz cells slots n L (.int (κ.1 a 5) :: st)) : Js p l e R s m args below meth c G nL Q (en2 G κ dyn) sz cells slots pc L (.ref (G.2.1 + a) :: st) := jk_getIN (k := 5) C (kdc ha) rfl in_X4 rfl (by decide) q342 rfl d n hn kk
set_option maxHeartbeats 4000000 in
theorem metX5_asks {l : Launch} {G : je_G} {dyn : Nat → Option je_E} {sz : Nat} {hb : Nat} {hu : hd_T} {r : Nat} {κ : kp_K} {v1 : Int32} {r9 : Int32} (hH : HouseRep G dyn hb hu) (hr : r < 3) (h : pX5_asks hb hu r κ v1 = some r9) : MetS l G yX5_asks cX5_asks 2 (some .int) 4 120 0 0 [.ref (G.2.1 + (13 + 14 * r)), .int v1] (en2 G κ dyn) sz (some (.int r9)) (en2 G κ dyn) sz := by
  refine je_met "MinistryDesks$Run" rfl (by decide +kernel) (Nat.le_of_ble_eq_true rfl) [(0, .ref (G.2.1 + (13 + 14 * r))), (1, .int v1)] rfl (fun p e s m args below meth c C => ?_)
  unfold pX5_asks at h
  refine je_aload_n C dX5_asks_0 1 rfl 0 rfl ?_
  obtain ⟨a1, hx, ha1, h⟩ := p_ch_inv h
  refine gX5_run_56 C hr hx dX5_asks_1 4 rfl ?_
  refine gX5_chg_103 C ha1 dX5_asks_4 7 rfl ?_
  refine je_if_ne C 21 dX5_asks_7 10 rfl rfl h (fun h => ?_) (fun h => ?_)
  · refine je_iconst C (-1) dX5_asks_21 22 rfl ic_m1 ?_
    refine je_goto C 45 dX5_asks_22 rfl ?_
    cases h
    exact je_iret C dX5_asks_45
  refine je_aload_n C dX5_asks_10 11 rfl 0 rfl ?_
  obtain ⟨a11, hx, ha11, h⟩ := p_ch_inv h
  refine gX5_run_56 C hr hx dX5_asks_11 14 rfl ?_
  refine gX5_chg_106 C ha11 dX5_asks_14 17 rfl ?_
  refine je_iload_n C dX5_asks_17 18 rfl 1 rfl ?_
  refine je_icmp_ne C 25 dX5_asks_18 21 rfl rfl h (fun h => ?_) (fun h => ?_)
  · refine je_aload_n C dX5_asks_25 26 rfl 0 rfl ?_
    refine gX5_run_3 C hr dX5_asks_26 29 rfl ?_
    obtain ⟨hx, h⟩ := p_hs_inv h
    refine gX5_77 C hx dX5_asks_29 32 rfl ?_
    refine jh_listN C hH (t := 0) (by decide) q245 rfl dX5_asks_32 35 rfl ?_
    refine je_iload_n C dX5_asks_35 36 rfl 1 rfl ?_
    obtain ⟨hin0_v1, h⟩ := p_ck_inv h
    refine jh_get (t := 0) (rest := []) C hH (by decide) hin0_v1 cwX5_87 ⟨Nat.le_of_ble_eq_true rfl, Nat.le_of_ble_eq_true rfl⟩ (Nat.le_of_ble_eq_true rfl) dX5_asks_36 39 rfl ⟨Nat.le_refl _, Nat.le_refl _⟩ ?_
    refine jh_cast0 C hH hin0_v1 q1295 dX5_asks_39 42 rfl ?_
    refine jh_item0N C hH hin0_v1 (k := 2) (by decide) q856 rfl dX5_asks_42 45 rfl ?_
    cases h
    exact je_iret C dX5_asks_45
  refine je_iconst C (-1) dX5_asks_21 22 rfl ic_m1 ?_
  refine je_goto C 45 dX5_asks_22 rfl ?_
  cases h
  exact je_iret C dX5_asks_45
set_option maxHeartbeats 4000000 in
theorem wX5_asksAt_11 {p : Program} {l : Launch} {e : Env} {s : State} {m : MethodId} {args : Array Value} {below : List Frame} {meth : Method} {c : Code} {G : je_G} {dyn : Nat → Option je_E} {sz : Nat} {F : Nat} {hb : Nat} {hu : hd_T} {r : Nat} {r9 : kp_K} (C : Cx p s m args meth c G "MinistryDesks$Run" cX5_asksAt 10 none) (hH : HouseRep G dyn hb hu) (hr : r < 3) : ∀ (n : Nat) (κ : kp_K) (v1 : Int32) (v2 : Int32) (v3 : Int32) (v4 : Int64) (v6 : Int32), bX5_asksAt_11 F hb hu r n κ v1 v2 v3 v4 v6 = some r9 → Js p l e ({ frames := 205, cells := 0, slots := 0, locals := 6105 } : Room) s m args below meth c G 10 (MQ below (je_Q G none (en2 G r9 dyn) sz) args s 0 0 (je_A G)) (en2 G κ dyn) sz 0 0 11 [(0, .ref (G.2.1 + (13 + 14 * r))), (1, .int v1), (2, .int v2), (3, .int v3), (4, .long v4), (6, .int v6)] [] := by
  intro n
  induction n with
  | zero =>
    intro κ v1 v2 v3 v4 v6 h
    cases h
  | succ n ih =>
    intro κ v1 v2 v3 v4 v6 h
    rw [bX5_asksAt_11] at h
    refine je_iload C dX5_asksAt_11 13 rfl 5 rfl ?_
    refine je_bipush C (7) dX5_asksAt_13 15 rfl bp_7 ?_
    refine je_iload_n C dX5_asksAt_15 16 rfl 2 rfl ?_
    refine je_imul C dX5_asksAt_16 17 rfl ?_
    refine je_aload_n C dX5_asksAt_17 18 rfl 0 rfl ?_
    refine gX5_run_41 C hr dX5_asksAt_18 21 rfl ?_
    refine je_iload_n C dX5_asksAt_21 22 rfl 2 rfl ?_
    refine jk_iald C (kr9 hr) dX5_asksAt_22 23 rfl h (fun h => ?_)
    refine je_iadd C dX5_asksAt_23 24 rfl ?_
    refine je_icmp_ge C 127 dX5_asksAt_24 27 rfl rfl h (fun h => ?_) (fun h => ?_)
    · refine je_iload_n C dX5_asksAt_127 128 rfl 3 rfl ?_
      refine je_if_lt C 148 dX5_asksAt_128 131 rfl rfl h (fun h => ?_) (fun h => ?_)
      · cases h
        exact je_vret C dX5_asksAt_148
      refine je_aload_n C dX5_asksAt_131 132 rfl 0 rfl ?_
      refine je_iload_n C dX5_asksAt_132 133 rfl 1 rfl ?_
      refine je_aload_n C dX5_asksAt_133 134 rfl 0 rfl ?_
      refine gX5_run_44 C hr dX5_asksAt_134 137 rfl ?_
      refine je_iload_n C dX5_asksAt_137 138 rfl 3 rfl ?_
      refine jk_iald C (kr10 hr) dX5_asksAt_138 139 rfl h (fun h => ?_)
      refine je_aload_n C dX5_asksAt_139 140 rfl 0 rfl ?_
      refine gX5_run_47 C hr dX5_asksAt_140 143 rfl ?_
      refine je_iload_n C dX5_asksAt_143 144 rfl 3 rfl ?_
      refine jk_iald C (kr11 hr) dX5_asksAt_144 145 rfl h (fun h => ?_)
      obtain ⟨k145, hg, h⟩ := p_cl_inv h
      refine je_callVv (As := [.int v1, .int (κ.1 (23 + 14 * r) v3.toNatClampNeg), .int (κ.1 (24 + 14 * r) v3.toNatClampNeg)]) (rest := []) C (metX5_comes hH hr hg) (en2_at (kro hr)) rfl hdX5_comes rfl cwX5_209 rfl ⟨Nat.le_of_ble_eq_true rfl, Nat.le_of_ble_eq_true rfl⟩ (Nat.le_of_ble_eq_true rfl) dX5_asksAt_145 148 rfl ⟨Nat.le_refl _, Nat.le_refl _⟩ ?_
      cases h
      exact je_vret C dX5_asksAt_148
    refine je_aload_n C dX5_asksAt_27 28 rfl 0 rfl ?_
    refine gX5_run_44 C hr dX5_asksAt_28 31 rfl ?_
    refine je_iload C dX5_asksAt_31 33 rfl 5 rfl ?_
    refine jk_iald C (kr10 hr) dX5_asksAt_33 34 rfl h (fun h => ?_)
    refine je_lti h (fun t34 h => ?_)
    refine je_istore C dX5_asksAt_34 36 rfl (Nat.le_of_ble_eq_true rfl) [(7, .int t34), (0, .ref (G.2.1 + (13 + 14 * r))), (1, .int v1), (2, .int v2), (3, .int v3), (4, .long v4), (6, .int v6)] rfl ?_
    refine je_aload_n C dX5_asksAt_36 37 rfl 1 rfl ?_
    refine gX5_run_38 C hr dX5_asksAt_37 40 rfl ?_
    refine je_iload_n C dX5_asksAt_40 41 rfl 2 rfl ?_
    refine jk_iald C (kr8 hr) dX5_asksAt_41 42 rfl h (fun h => ?_)
    refine je_iload C dX5_asksAt_42 44 rfl 0 rfl ?_
    obtain ⟨t44, hg, h⟩ := p_cl_inv h
    refine je_callSNi (As := [.int (κ.1 (21 + 14 * r) v1.toNatClampNeg), .int t34]) (rest := []) C (metX1_isOf hg) hdX1_isOf cwX5_119 rfl ⟨Nat.le_of_ble_eq_true rfl, Nat.le_of_ble_eq_true rfl⟩ (Nat.le_of_ble_eq_true rfl) dX5_asksAt_44 47 rfl ⟨Nat.le_refl _, Nat.le_refl _⟩ ?_
    refine je_if_eq C 53 dX5_asksAt_47 50 rfl rfl h (fun h => ?_) (fun h => ?_)
    · refine je_aload_n C dX5_asksAt_53 54 rfl 1 rfl ?_
      refine je_iload_n C dX5_asksAt_54 55 rfl 2 rfl ?_
      refine je_iload C dX5_asksAt_55 57 rfl 0 rfl ?_
      refine je_iconst C (0) dX5_asksAt_57 58 rfl ic_0 ?_
      refine je_aload_n C dX5_asksAt_58 59 rfl 1 rfl ?_
      refine gX5_run_47 C hr dX5_asksAt_59 62 rfl ?_
      refine je_iload C dX5_asksAt_62 64 rfl 6 rfl ?_
      refine jk_iald C (kr11 hr) dX5_asksAt_64 65 rfl h (fun h => ?_)
      refine je_aload_n C dX5_asksAt_65 66 rfl 1 rfl ?_
      refine gX5_run_60 C hr dX5_asksAt_66 69 rfl ?_
      refine je_isub C dX5_asksAt_69 70 rfl ?_
      refine je_iconst C (1) dX5_asksAt_70 71 rfl ic_1 ?_
      obtain ⟨k71, hg, h⟩ := p_cl_inv h
      refine je_callVv (As := [.int v1, .int t34, .int (0 : Int32), .int ((κ.1 (24 + 14 * r) v6.toNatClampNeg) - (κ.1 (13 + 14 * r) 1)), .int (1 : Int32)]) (rest := []) C (metX5_layNames hH hr hg) (en2_at (kro hr)) rfl hdX5_layNames rfl cwX5_157 rfl ⟨Nat.le_of_ble_eq_true rfl, Nat.le_of_ble_eq_true rfl⟩ (Nat.le_of_ble_eq_true rfl) dX5_asksAt_71 74 rfl ⟨Nat.le_refl _, Nat.le_refl _⟩ ?_
      refine je_aload_n C dX5_asksAt_74 75 rfl 1 rfl ?_
      refine gX5_run_3 C hr dX5_asksAt_75 78 rfl ?_
      refine je_aload_n C dX5_asksAt_78 79 rfl 1 rfl ?_
      refine gX5_run_3 C hr dX5_asksAt_79 82 rfl ?_
      obtain ⟨hx, h⟩ := p_hs_inv h
      refine gX5_77 C hx dX5_asksAt_82 85 rfl ?_
      refine jh_refN C hH 7 (by decide) q268 rfl dX5_asksAt_85 88 rfl ?_
      refine je_aload_n C dX5_asksAt_88 89 rfl 1 rfl ?_
      refine gX5_run_3 C hr dX5_asksAt_89 92 rfl ?_
      refine je_iload C dX5_asksAt_92 94 rfl 0 rfl ?_
      obtain ⟨t94, hg, h⟩ := p_cl_inv h
      refine je_callVNi (As := [.int t34]) (rest := [va_rf (Option.map (fun q => G.2.1 + q) (hu.2.2.1 7)), .ref (G.2.1 + 0)]) C (metX1_worth hH hg) (en2_at kd0) rfl hdX1_worth rfl cwX5_141 rfl ⟨Nat.le_of_ble_eq_true rfl, Nat.le_of_ble_eq_true rfl⟩ (by simp only [List.map_cons, List.map_nil, je_cat, List.sum_cons, List.sum_nil]; exact Nat.le_of_ble_eq_true rfl) dX5_asksAt_94 97 rfl ⟨Nat.le_refl _, Nat.le_refl _⟩ ?_
      refine je_i2l C dX5_asksAt_97 98 rfl ?_
      obtain ⟨q98, hg, h⟩ := p_cl_inv h
      refine je_callVNl (As := [va_rf (Option.map (fun q => G.2.1 + q) (hu.2.2.1 7)), .long t94.toInt64]) (rest := []) C (metX1_value hH hg) (en2_at kd0) rfl hdX1_value rfl cwX5_165 rfl ⟨Nat.le_of_ble_eq_true rfl, Nat.le_of_ble_eq_true rfl⟩ (Nat.le_of_ble_eq_true rfl) dX5_asksAt_98 101 rfl ⟨Nat.le_refl _, Nat.le_refl _⟩ ?_
      refine je_ltl h (fun t98 h => ?_)
      refine jk_lt h (fun k98 h => ?_)
      refine je_lstore C dX5_asksAt_101 103 rfl (Nat.le_of_ble_eq_true rfl) [(8, .long t98), (7, .int t34), (0, .ref (G.2.1 + (13 + 14 * r))), (1, .int v1), (2, .int v2), (3, .int v3), (4, .long v4), (6, .int v6)] rfl ?_
      refine je_lload C dX5_asksAt_103 105 rfl 0 rfl ?_
      refine je_lload C dX5_asksAt_105 107 rfl 6 rfl ?_
      refine je_lcmp C dX5_asksAt_107 108 rfl ?_
      refine je_if_gt C 114 dX5_asksAt_108 111 rfl rfl h (fun h => ?_) (fun h => ?_)
      · refine je_iload C dX5_asksAt_114 116 rfl 7 rfl ?_
        refine je_istore_n C dX5_asksAt_116 117 rfl (Nat.le_of_ble_eq_true rfl) [(3, .int v6), (8, .long t98), (7, .int t34), (0, .ref (G.2.1 + (13 + 14 * r))), (1, .int v1), (2, .int v2), (4, .long v4), (6, .int v6)] rfl ?_
        refine je_lload C dX5_asksAt_117 119 rfl 1 rfl ?_
        refine je_lstore C dX5_asksAt_119 121 rfl (Nat.le_of_ble_eq_true rfl) [(4, .long t98), (3, .int v6), (8, .long t98), (7, .int t34), (0, .ref (G.2.1 + (13 + 14 * r))), (1, .int v1), (2, .int v2), (6, .int v6)] rfl ?_
        refine je_iinc C (1) dX5_asksAt_121 124 rfl 7 rfl ic_1 (Nat.le_of_ble_eq_true rfl) [(6, .int (v6 + (1 : Int32))), (4, .long t98), (3, .int v6), (8, .long t98), (7, .int t34), (0, .ref (G.2.1 + (13 + 14 * r))), (1, .int v1), (2, .int v2)] rfl ?_
        refine je_goto C 11 dX5_asksAt_124 rfl ?_
        refine je_sub [5, 6, 7, 2, 1, 0] [(0, .ref (G.2.1 + (13 + 14 * r))), (1, .int v1), (2, .int v2), (3, .int v6), (4, .long t98), (6, .int (v6 + (1 : Int32)))] rfl ?_
        exact ih k98 v1 v2 v6 t98 (v6 + (1 : Int32)) h
      refine je_goto C 121 dX5_asksAt_111 rfl ?_
      refine je_iinc C (1) dX5_asksAt_121 124 rfl 7 rfl ic_1 (Nat.le_of_ble_eq_true rfl) [(6, .int (v6 + (1 : Int32))), (8, .long t98), (7, .int t34), (0, .ref (G.2.1 + (13 + 14 * r))), (1, .int v1), (2, .int v2), (3, .int v3), (4, .long v4)] rfl ?_
      refine je_goto C 11 dX5_asksAt_124 rfl ?_
      refine je_sub [3, 4, 5, 6, 7, 0] [(0, .ref (G.2.1 + (13 + 14 * r))), (1, .int v1), (2, .int v2), (3, .int v3), (4, .long v4), (6, .int (v6 + (1 : Int32)))] rfl ?_
      exact ih k98 v1 v2 v3 v4 (v6 + (1 : Int32)) h
    refine je_goto C 121 dX5_asksAt_50 rfl ?_
    refine je_iinc C (1) dX5_asksAt_121 124 rfl 6 rfl ic_1 (Nat.le_of_ble_eq_true rfl) [(6, .int (v6 + (1 : Int32))), (7, .int t34), (0, .ref (G.2.1 + (13 + 14 * r))), (1, .int v1), (2, .int v2), (3, .int v3), (4, .long v4)] rfl ?_
    refine je_goto C 11 dX5_asksAt_124 rfl ?_
    refine je_sub [2, 3, 4, 5, 6, 0] [(0, .ref (G.2.1 + (13 + 14 * r))), (1, .int v1), (2, .int v2), (3, .int v3), (4, .long v4), (6, .int (v6 + (1 : Int32)))] rfl ?_
    exact ih κ v1 v2 v3 v4 (v6 + (1 : Int32)) h
set_option maxHeartbeats 4000000 in
theorem metX5_asksAt {l : Launch} {G : je_G} {dyn : Nat → Option je_E} {sz : Nat} {F : Nat} {hb : Nat} {hu : hd_T} {r : Nat} {κ : kp_K} {v1 : Int32} {v2 : Int32} {r9 : kp_K} (hH : HouseRep G dyn hb hu) (hr : r < 3) (h : pX5_asksAt F hb hu r κ v1 v2 = some r9) : MetS l G yX5_asksAt cX5_asksAt 10 none 205 6105 0 0 [.ref (G.2.1 + (13 + 14 * r)), .int v1, .int v2] (en2 G κ dyn) sz none (en2 G r9 dyn) sz := by
  refine je_met "MinistryDesks$Run" rfl (by decide +kernel) (Nat.le_of_ble_eq_true rfl) [(0, .ref (G.2.1 + (13 + 14 * r))), (1, .int v1), (2, .int v2)] rfl (fun p e s m args below meth c C => ?_)
  unfold pX5_asksAt at h
  refine je_iconst C (-1) dX5_asksAt_0 1 rfl ic_m1 ?_
  refine je_istore_n C dX5_asksAt_1 2 rfl (Nat.le_of_ble_eq_true rfl) [(3, .int (-1 : Int32)), (0, .ref (G.2.1 + (13 + 14 * r))), (1, .int v1), (2, .int v2)] rfl ?_
  refine je_lconst C (0) dX5_asksAt_2 3 rfl rfl ?_
  refine je_lstore C dX5_asksAt_3 5 rfl (Nat.le_of_ble_eq_true rfl) [(4, .long (0 : Int64)), (3, .int (-1 : Int32)), (0, .ref (G.2.1 + (13 + 14 * r))), (1, .int v1), (2, .int v2)] rfl ?_
  refine je_bipush C (7) dX5_asksAt_5 7 rfl bp_7 ?_
  refine je_iload_n C dX5_asksAt_7 8 rfl 4 rfl ?_
  refine je_imul C dX5_asksAt_8 9 rfl ?_
  refine je_lti h (fun t9 h => ?_)
  refine je_istore C dX5_asksAt_9 11 rfl (Nat.le_of_ble_eq_true rfl) [(6, .int t9), (4, .long (0 : Int64)), (3, .int (-1 : Int32)), (0, .ref (G.2.1 + (13 + 14 * r))), (1, .int v1), (2, .int v2)] rfl ?_
  refine je_sub [3, 4, 5, 2, 1, 0] [(0, .ref (G.2.1 + (13 + 14 * r))), (1, .int v1), (2, .int v2), (3, .int (-1 : Int32)), (4, .long (0 : Int64)), (6, .int t9)] rfl ?_
  exact wX5_asksAt_11 C hH hr F κ v1 v2 (-1 : Int32) (0 : Int64) t9 h
theorem hdX5_asks : je_hd yX5_asks 1 := ⟨by decide +kernel, by decide +kernel, by decide +kernel⟩
theorem hdX5_asksAt : je_hd yX5_asksAt 2 := ⟨by decide +kernel, by decide +kernel, by decide +kernel⟩
theorem hdX5_layThen : je_hd yX5_layThen 0 := ⟨by decide +kernel, by decide +kernel, by decide +kernel⟩
theorem cwX5_215 : GoodIn lw_all (wsV "MinistryDesks$Run" 215 "MinistryDesks$Run" yX5_layThen (ws_ yX5_layThen cX5_layThen 2 none)) := lw_V q1343 q1345 qs47 q168 q1346
theorem cwX5_218 : GoodIn lw_all (wsV "MinistryDesks$Run" 218 "MinistryDesks$Run" yX5_asks (ws_ yX5_asks cX5_asks 2 (some .int))) := lw_V q1348 q1349 q1350 q168 q1351
theorem cwX5_220 : GoodIn lw_all (wsV "MinistryDesks$Run" 220 "MinistryDesks$Run" yX5_asksAt (ws_ yX5_asksAt cX5_asksAt 10 none)) := lw_V q1352 q1354 qs48 q168 q1355
theorem sX5_run_67 {p : Program} {l : Launch} {e : Env} {R : Room} {s : State} {m : MethodId} {args : Array Value} {below : List Frame} {meth : Method} {c : Code} {Q : State → Prop} {G : je_G} {cc : ByteArray} {nL : Nat} {rt : Option FieldType} {sz cells slots pc : Nat} {L : List (Nat × Value)} {st : List Value} {κ : kp_K} {dyn : Nat → Option je_E} (C : Cx p s m args meth c G "MinistryDesks$Run" cc nL rt) {r : Nat} (hr : r < 3) {v : Int32} (hz : v = 0 ∨ v = 1) (d : decode cc pc = .ok (.putfield 67, 3)) (n : Nat) (hn : pc + 3 = n) (kk : Js p l e R s m args below meth c G nL Q (en2 G (s_i κ (13 + 14 * r) 13 v) dyn) sz cells slots n L st) : Js p l e R s m args below meth c G nL Q (en2 G κ dyn) sz cells slots pc L (.int v :: .ref (G.2.1 + (13 + 14 * r)) :: st) := jk_putZ (k := 13) C (kro hr) rfl in_X5 tyX5 tyX5_ok nmX5 rfl (by decide) q388 rfl rfl rfl hz d n hn kk
set_option maxHeartbeats 4000000 in
theorem wX5_noon_11 {p : Program} {l : Launch} {e : Env} {s : State} {m : MethodId} {args : Array Value} {below : List Frame} {meth : Method} {c : Code} {G : je_G} {dyn : Nat → Option je_E} {sz : Nat} {F : Nat} {hb : Nat} {hu : hd_T} {r : Nat} {r9 : kp_K} (C : Cx p s m args meth c G "MinistryDesks$Run" cX5_noon 2 none) (hH : HouseRep G dyn hb hu) (hr : r < 3) : ∀ (n : Nat) (κ : kp_K) (v1 : Int32), bX5_noon_11 F hb hu r n κ v1 = some r9 → Js p l e ({ frames := 206, cells := 0, slots := 0, locals := 6134 } : Room) s m args below meth c G 2 (MQ below (je_Q G none (en2 G r9 dyn) sz) args s 0 0 (je_A G)) (en2 G κ dyn) sz 0 0 11 [(0, .ref (G.2.1 + (13 + 14 * r))), (1, .int v1)] [] := by
  intro n
  induction n with
  | zero =>
    intro κ v1 h
    cases h
  | succ n ih =>
    intro κ v1 h
    rw [bX5_noon_11] at h
    refine je_iload_n C dX5_noon_11 12 rfl 1 rfl ?_
    refine je_aload_n C dX5_noon_12 13 rfl 0 rfl ?_
    refine gX5_run_3 C hr dX5_noon_13 16 rfl ?_
    obtain ⟨t16, hg, h⟩ := p_cl_inv h
    refine je_callVNi (As := []) (rest := [.int v1]) C (metX1_desks hH hg) (en2_at kd0) rfl hdX1_desks rfl cwX5_112 rfl ⟨Nat.le_of_ble_eq_true rfl, Nat.le_of_ble_eq_true rfl⟩ (Nat.le_of_ble_eq_true rfl) dX5_noon_16 19 rfl ⟨Nat.le_refl _, Nat.le_refl _⟩ ?_
    refine je_icmp_ge C 46 dX5_noon_19 22 rfl rfl h (fun h => ?_) (fun h => ?_)
    · refine je_aload_n C dX5_noon_46 47 rfl 0 rfl ?_
      refine je_iconst C (0) dX5_noon_47 48 rfl ic_0 ?_
      refine sX5_run_67 C hr (Or.inl rfl) dX5_noon_48 51 rfl ?_
      refine jk_lt h (fun k48 h => ?_)
      cases h
      exact je_vret C dX5_noon_51
    refine je_aload_n C dX5_noon_22 23 rfl 0 rfl ?_
    refine je_iload_n C dX5_noon_23 24 rfl 1 rfl ?_
    obtain ⟨t24, hg, h⟩ := p_cl_inv h
    refine je_callVi (As := [.int v1]) (rest := []) C (metX5_asks hH hr hg) (en2_at (kro hr)) rfl hdX5_asks rfl cwX5_218 rfl ⟨Nat.le_of_ble_eq_true rfl, Nat.le_of_ble_eq_true rfl⟩ (Nat.le_of_ble_eq_true rfl) dX5_noon_24 27 rfl ⟨Nat.le_refl _, Nat.le_refl _⟩ ?_
    refine je_if_lt C 40 dX5_noon_27 30 rfl rfl h (fun h => ?_) (fun h => ?_)
    · refine je_iinc C (1) dX5_noon_40 43 rfl 1 rfl ic_1 (Nat.le_of_ble_eq_true rfl) [(1, .int (v1 + (1 : Int32))), (0, .ref (G.2.1 + (13 + 14 * r)))] rfl ?_
      refine je_goto C 11 dX5_noon_43 rfl ?_
      refine je_sub [1, 0] [(0, .ref (G.2.1 + (13 + 14 * r))), (1, .int (v1 + (1 : Int32)))] rfl ?_
      exact ih κ (v1 + (1 : Int32)) h
    refine je_aload_n C dX5_noon_30 31 rfl 0 rfl ?_
    refine je_iload_n C dX5_noon_31 32 rfl 1 rfl ?_
    refine je_aload_n C dX5_noon_32 33 rfl 0 rfl ?_
    refine je_iload_n C dX5_noon_33 34 rfl 1 rfl ?_
    obtain ⟨t34, hg, h⟩ := p_cl_inv h
    refine je_callVi (As := [.int v1]) (rest := [.int v1, .ref (G.2.1 + (13 + 14 * r))]) C (metX5_asks hH hr hg) (en2_at (kro hr)) rfl hdX5_asks rfl cwX5_218 rfl ⟨Nat.le_of_ble_eq_true rfl, Nat.le_of_ble_eq_true rfl⟩ (Nat.le_of_ble_eq_true rfl) dX5_noon_34 37 rfl ⟨Nat.le_refl _, Nat.le_refl _⟩ ?_
    obtain ⟨k37, hg, h⟩ := p_cl_inv h
    refine je_callVv (As := [.int v1, .int t34]) (rest := []) C (metX5_asksAt hH hr hg) (en2_at (kro hr)) rfl hdX5_asksAt rfl cwX5_220 rfl ⟨Nat.le_of_ble_eq_true rfl, Nat.le_of_ble_eq_true rfl⟩ (Nat.le_of_ble_eq_true rfl) dX5_noon_37 40 rfl ⟨Nat.le_refl _, Nat.le_refl _⟩ ?_
    refine je_iinc C (1) dX5_noon_40 43 rfl 1 rfl ic_1 (Nat.le_of_ble_eq_true rfl) [(1, .int (v1 + (1 : Int32))), (0, .ref (G.2.1 + (13 + 14 * r)))] rfl ?_
    refine je_goto C 11 dX5_noon_43 rfl ?_
    refine je_sub [1, 0] [(0, .ref (G.2.1 + (13 + 14 * r))), (1, .int (v1 + (1 : Int32)))] rfl ?_
    exact ih k37 (v1 + (1 : Int32)) h
set_option maxHeartbeats 4000000 in
theorem metX5_noon {l : Launch} {G : je_G} {dyn : Nat → Option je_E} {sz : Nat} {F : Nat} {hb : Nat} {hu : hd_T} {r : Nat} {κ : kp_K}  {r9 : kp_K} (hH : HouseRep G dyn hb hu) (hr : r < 3) (h : pX5_noon F hb hu r κ = some r9) : MetS l G yX5_noon cX5_noon 2 none 206 6134 0 0 [.ref (G.2.1 + (13 + 14 * r))] (en2 G κ dyn) sz none (en2 G r9 dyn) sz := by
  refine je_met "MinistryDesks$Run" rfl (by decide +kernel) (Nat.le_of_ble_eq_true rfl) [(0, .ref (G.2.1 + (13 + 14 * r)))] rfl (fun p e s m args below meth c C => ?_)
  unfold pX5_noon at h
  refine je_aload_n C dX5_noon_0 1 rfl 0 rfl ?_
  obtain ⟨k1, hg, h⟩ := p_cl_inv h
  refine je_callVv (As := []) (rest := []) C (metX5_layThen hH hr hg) (en2_at (kro hr)) rfl hdX5_layThen rfl cwX5_215 rfl ⟨Nat.le_of_ble_eq_true rfl, Nat.le_of_ble_eq_true rfl⟩ (Nat.le_of_ble_eq_true rfl) dX5_noon_1 4 rfl ⟨Nat.le_refl _, Nat.le_refl _⟩ ?_
  refine je_aload_n C dX5_noon_4 5 rfl 0 rfl ?_
  refine je_iconst C (1) dX5_noon_5 6 rfl ic_1 ?_
  refine sX5_run_67 C hr (Or.inr rfl) dX5_noon_6 9 rfl ?_
  refine jk_lt h (fun k6 h => ?_)
  refine je_iconst C (0) dX5_noon_9 10 rfl ic_0 ?_
  refine je_istore_n C dX5_noon_10 11 rfl (Nat.le_of_ble_eq_true rfl) [(1, .int (0 : Int32)), (0, .ref (G.2.1 + (13 + 14 * r)))] rfl ?_
  refine je_sub [1, 0] [(0, .ref (G.2.1 + (13 + 14 * r))), (1, .int (0 : Int32))] rfl ?_
  exact wX5_noon_11 C hH hr F k6 (0 : Int32) h
theorem gX5_chg_230 {p : Program} {l : Launch} {e : Env} {R : Room} {s : State} {m : MethodId} {args : Array Value} {below : List Frame} {meth : Method} {c : Code} {Q : State → Prop} {G : je_G} {cc : ByteArray} {nL : Nat} {rt : Option FieldType} {sz cells slots pc : Nat} {L : List (Nat × Value)} {st : List Value} {κ : kp_K} {dyn : Nat → Option je_E} (C : Cx p s m args meth c G "MinistryDesks$Run" cc nL rt) {a : Nat} (ha : a = 11 ∨ a = 12) (d : decode cc pc = .ok (.getfield 230, 3)) (n : Nat) (hn : pc + 3 = n) (kk : Js p l e R s m args below meth c G nL Q (en2 G κ dyn) sz cells slots n L (.int (κ.1 a 2) :: st)) : Js p l e R s m args below meth c G nL Q (en2 G κ dyn) sz cells slots pc L (.ref (G.2.1 + a) :: st) := jk_getIN (k := 2) C (kdc ha) rfl in_X4 rfl (by decide) q333 rfl d n hn kk
set_option maxHeartbeats 4000000 in
theorem wX5_three_120 {p : Program} {l : Launch} {e : Env} {s : State} {m : MethodId} {args : Array Value} {below : List Frame} {meth : Method} {c : Code} {G : je_G} {dyn : Nat → Option je_E} {sz : Nat} {F : Nat} {hb : Nat} {hu : hd_T} {r : Nat} {r9 : kp_K} {k2 : kp_K → Int32 → Option (kp_K)} (C : Cx p s m args meth c G "MinistryDesks$Run" cX5_three 4 none) (hH : HouseRep G dyn hb hu) (hr : r < 3) (hk2 : ∀ (kq : kp_K) (q1 : Int32), k2 kq q1 = some r9 → Js p l e ({ frames := 5, cells := 0, slots := 0, locals := 140 } : Room) s m args below meth c G 4 (MQ below (je_Q G none (en2 G r9 dyn) sz) args s 0 0 (je_A G)) (en2 G kq dyn) sz 0 0 2 [(0, .ref (G.2.1 + (13 + 14 * r))), (1, .int q1)] []) : ∀ (n : Nat) (κ : kp_K) (v1 : Int32) (v3 : Int32), bX5_three_120 F hb hu r k2 n κ v1 v3 = some r9 → Js p l e ({ frames := 5, cells := 0, slots := 0, locals := 140 } : Room) s m args below meth c G 4 (MQ below (je_Q G none (en2 G r9 dyn) sz) args s 0 0 (je_A G)) (en2 G κ dyn) sz 0 0 120 [(0, .ref (G.2.1 + (13 + 14 * r))), (1, .int v1), (3, .int v3)] [] := by
  intro n
  induction n with
  | zero =>
    intro κ v1 v3 h
    cases h
  | succ n ih =>
    intro κ v1 v3 h
    rw [bX5_three_120] at h
    refine je_iload_n C dX5_three_120 121 rfl 2 rfl ?_
    refine je_aload_n C dX5_three_121 122 rfl 0 rfl ?_
    refine gX5_run_15 C hr dX5_three_122 125 rfl ?_
    refine je_iload_n C dX5_three_125 126 rfl 1 rfl ?_
    refine jk_iald C (kr1 hr) dX5_three_126 127 rfl h (fun h => ?_)
    refine je_icmp_ge C 153 dX5_three_127 130 rfl rfl h (fun h => ?_) (fun h => ?_)
    · refine je_aload_n C dX5_three_153 154 rfl 0 rfl ?_
      refine gX5_run_15 C hr dX5_three_154 157 rfl ?_
      refine je_iload_n C dX5_three_157 158 rfl 1 rfl ?_
      refine je_iconst C (0) dX5_three_158 159 rfl ic_0 ?_
      refine jk_iast C (kr1 hr) dX5_three_159 160 rfl h (fun h => ?_)
      refine jk_lt h (fun k159 h => ?_)
      refine je_iinc C (1) dX5_three_160 163 rfl 1 rfl ic_1 (Nat.le_of_ble_eq_true rfl) [(1, .int (v1 + (1 : Int32))), (0, .ref (G.2.1 + (13 + 14 * r))), (3, .int v3)] rfl ?_
      refine je_goto C 2 dX5_three_163 rfl ?_
      refine je_sub [1, 0] [(0, .ref (G.2.1 + (13 + 14 * r))), (1, .int (v1 + (1 : Int32)))] rfl ?_
      exact hk2 k159 (v1 + (1 : Int32)) h
    refine je_aload_n C dX5_three_130 131 rfl 0 rfl ?_
    refine je_iload_n C dX5_three_131 132 rfl 1 rfl ?_
    refine je_aload_n C dX5_three_132 133 rfl 0 rfl ?_
    refine gX5_run_29 C hr dX5_three_133 136 rfl ?_
    refine je_bipush C (7) dX5_three_136 138 rfl bp_7 ?_
    refine je_iload_n C dX5_three_138 139 rfl 1 rfl ?_
    refine je_imul C dX5_three_139 140 rfl ?_
    refine je_iload_n C dX5_three_140 141 rfl 2 rfl ?_
    refine je_iadd C dX5_three_141 142 rfl ?_
    refine je_lti h (fun i142 h => ?_)
    refine jk_iald C (kr5 hr) dX5_three_142 143 rfl h (fun h => ?_)
    refine je_iconst C (3) dX5_three_143 144 rfl ic_3 ?_
    obtain ⟨k144, hg, h⟩ := p_cl_inv h
    refine je_callVv (As := [.int v1, .int (κ.1 (18 + 14 * r) i142.toNatClampNeg), .int (3 : Int32)]) (rest := []) C (metX5_goes hr hg) (en2_at (kro hr)) rfl hdX5_goes rfl cwX5_189 rfl ⟨Nat.le_of_ble_eq_true rfl, Nat.le_of_ble_eq_true rfl⟩ (Nat.le_of_ble_eq_true rfl) dX5_three_144 147 rfl ⟨Nat.le_refl _, Nat.le_refl _⟩ ?_
    refine je_iinc C (1) dX5_three_147 150 rfl 2 rfl ic_1 (Nat.le_of_ble_eq_true rfl) [(3, .int (v3 + (1 : Int32))), (0, .ref (G.2.1 + (13 + 14 * r))), (1, .int v1)] rfl ?_
    refine je_goto C 120 dX5_three_150 rfl ?_
    refine je_sub [1, 2, 0] [(0, .ref (G.2.1 + (13 + 14 * r))), (1, .int v1), (3, .int (v3 + (1 : Int32)))] rfl ?_
    exact ih k144 v1 (v3 + (1 : Int32)) h
set_option maxHeartbeats 4000000 in
theorem wX5_three_17 {p : Program} {l : Launch} {e : Env} {s : State} {m : MethodId} {args : Array Value} {below : List Frame} {meth : Method} {c : Code} {G : je_G} {dyn : Nat → Option je_E} {sz : Nat} {F : Nat} {hb : Nat} {hu : hd_T} {r : Nat} {r9 : kp_K} {k2 : kp_K → Int32 → Option (kp_K)} (C : Cx p s m args meth c G "MinistryDesks$Run" cX5_three 4 none) (hH : HouseRep G dyn hb hu) (hr : r < 3) (hk2 : ∀ (kq : kp_K) (q1 : Int32), k2 kq q1 = some r9 → Js p l e ({ frames := 5, cells := 0, slots := 0, locals := 140 } : Room) s m args below meth c G 4 (MQ below (je_Q G none (en2 G r9 dyn) sz) args s 0 0 (je_A G)) (en2 G kq dyn) sz 0 0 2 [(0, .ref (G.2.1 + (13 + 14 * r))), (1, .int q1)] []) : ∀ (n : Nat) (κ : kp_K) (v1 : Int32) (v2 : Int32) (v3 : Int32), bX5_three_17 F hb hu r k2 n κ v1 v2 v3 = some r9 → Js p l e ({ frames := 5, cells := 0, slots := 0, locals := 140 } : Room) s m args below meth c G 4 (MQ below (je_Q G none (en2 G r9 dyn) sz) args s 0 0 (je_A G)) (en2 G κ dyn) sz 0 0 17 [(0, .ref (G.2.1 + (13 + 14 * r))), (1, .int v1), (2, .int v2), (3, .int v3)] [] := by
  intro n
  induction n with
  | zero =>
    intro κ v1 v2 v3 h
    cases h
  | succ n ih =>
    intro κ v1 v2 v3 h
    rw [bX5_three_17] at h
    refine je_iload_n C dX5_three_17 18 rfl 3 rfl ?_
    refine je_aload_n C dX5_three_18 19 rfl 0 rfl ?_
    refine gX5_run_3 C hr dX5_three_19 22 rfl ?_
    obtain ⟨hx, h⟩ := p_hs_inv h
    refine gX5_77 C hx dX5_three_22 25 rfl ?_
    refine jh_listN C hH (t := 4) (by decide) q261 rfl dX5_three_25 28 rfl ?_
    refine jh_size (t := 4) (rest := [.int v3]) C hH (by decide) cwX5_126 ⟨Nat.le_of_ble_eq_true rfl, Nat.le_of_ble_eq_true rfl⟩ (Nat.le_of_ble_eq_true rfl) dX5_three_28 31 rfl ⟨Nat.le_refl _, Nat.le_refl _⟩ ?_
    refine je_icmp_ge C 111 dX5_three_31 34 rfl rfl h (fun h => ?_) (fun h => ?_)
    · refine je_iload_n C dX5_three_111 112 rfl 2 rfl ?_
      refine je_if_ne C 118 dX5_three_112 115 rfl rfl h (fun h => ?_) (fun h => ?_)
      · refine je_iconst C (0) dX5_three_118 119 rfl ic_0 ?_
        refine je_istore_n C dX5_three_119 120 rfl (Nat.le_of_ble_eq_true rfl) [(3, .int (0 : Int32)), (0, .ref (G.2.1 + (13 + 14 * r))), (1, .int v1), (2, .int v2)] rfl ?_
        refine je_sub [1, 2, 0] [(0, .ref (G.2.1 + (13 + 14 * r))), (1, .int v1), (3, .int (0 : Int32))] rfl ?_
        exact wX5_three_120 C hH hr hk2 F κ v1 (0 : Int32) h
      refine je_goto C 160 dX5_three_115 rfl ?_
      refine je_iinc C (1) dX5_three_160 163 rfl 1 rfl ic_1 (Nat.le_of_ble_eq_true rfl) [(1, .int (v1 + (1 : Int32))), (0, .ref (G.2.1 + (13 + 14 * r))), (2, .int v2), (3, .int v3)] rfl ?_
      refine je_goto C 2 dX5_three_163 rfl ?_
      refine je_sub [1, 0] [(0, .ref (G.2.1 + (13 + 14 * r))), (1, .int (v1 + (1 : Int32)))] rfl ?_
      exact hk2 κ (v1 + (1 : Int32)) h
    refine je_iload_n C dX5_three_34 35 rfl 2 rfl ?_
    refine je_if_ne C 99 dX5_three_35 38 rfl rfl h (fun h => ?_) (fun h => ?_)
    · refine je_iconst C (1) dX5_three_99 100 rfl ic_1 ?_
      refine je_goto C 104 dX5_three_100 rfl ?_
      refine je_istore_n C dX5_three_104 105 rfl (Nat.le_of_ble_eq_true rfl) [(2, .int (1 : Int32)), (0, .ref (G.2.1 + (13 + 14 * r))), (1, .int v1), (3, .int v3)] rfl ?_
      refine je_iinc C (1) dX5_three_105 108 rfl 3 rfl ic_1 (Nat.le_of_ble_eq_true rfl) [(3, .int (v3 + (1 : Int32))), (2, .int (1 : Int32)), (0, .ref (G.2.1 + (13 + 14 * r))), (1, .int v1)] rfl ?_
      refine je_goto C 17 dX5_three_108 rfl ?_
      refine je_sub [2, 3, 1, 0] [(0, .ref (G.2.1 + (13 + 14 * r))), (1, .int v1), (2, .int (1 : Int32)), (3, .int (v3 + (1 : Int32)))] rfl ?_
      exact ih κ v1 (1 : Int32) (v3 + (1 : Int32)) h
    refine je_aload_n C dX5_three_38 39 rfl 0 rfl ?_
    refine gX5_run_3 C hr dX5_three_39 42 rfl ?_
    obtain ⟨hx, h⟩ := p_hs_inv h
    refine gX5_77 C hx dX5_three_42 45 rfl ?_
    refine jh_listN C hH (t := 4) (by decide) q261 rfl dX5_three_45 48 rfl ?_
    refine je_iload_n C dX5_three_48 49 rfl 3 rfl ?_
    obtain ⟨hin4_v3, h⟩ := p_ck_inv h
    refine jh_get (t := 4) (rest := []) C hH (by decide) hin4_v3 cwX5_87 ⟨Nat.le_of_ble_eq_true rfl, Nat.le_of_ble_eq_true rfl⟩ (Nat.le_of_ble_eq_true rfl) dX5_three_49 52 rfl ⟨Nat.le_refl _, Nat.le_refl _⟩ ?_
    refine jh_cast4 C hH hin4_v3 q1360 dX5_three_52 55 rfl ?_
    refine jh_item4N C hH hin4_v3 (k := 0) (by decide) q1021 rfl dX5_three_55 58 rfl ?_
    refine je_aload_n C dX5_three_58 59 rfl 0 rfl ?_
    refine gX5_run_60 C hr dX5_three_59 62 rfl ?_
    refine je_icmp_ne C 103 dX5_three_62 65 rfl rfl h (fun h => ?_) (fun h => ?_)
    · refine je_iconst C (0) dX5_three_103 104 rfl ic_0 ?_
      refine je_istore_n C dX5_three_104 105 rfl (Nat.le_of_ble_eq_true rfl) [(2, .int (0 : Int32)), (0, .ref (G.2.1 + (13 + 14 * r))), (1, .int v1), (3, .int v3)] rfl ?_
      refine je_iinc C (1) dX5_three_105 108 rfl 3 rfl ic_1 (Nat.le_of_ble_eq_true rfl) [(3, .int (v3 + (1 : Int32))), (2, .int (0 : Int32)), (0, .ref (G.2.1 + (13 + 14 * r))), (1, .int v1)] rfl ?_
      refine je_goto C 17 dX5_three_108 rfl ?_
      refine je_sub [2, 3, 1, 0] [(0, .ref (G.2.1 + (13 + 14 * r))), (1, .int v1), (2, .int (0 : Int32)), (3, .int (v3 + (1 : Int32)))] rfl ?_
      exact ih κ v1 (0 : Int32) (v3 + (1 : Int32)) h
    refine je_aload_n C dX5_three_65 66 rfl 0 rfl ?_
    refine gX5_run_3 C hr dX5_three_66 69 rfl ?_
    obtain ⟨hx, h⟩ := p_hs_inv h
    refine gX5_77 C hx dX5_three_69 72 rfl ?_
    refine jh_listN C hH (t := 4) (by decide) q261 rfl dX5_three_72 75 rfl ?_
    refine je_iload_n C dX5_three_75 76 rfl 3 rfl ?_
    refine jh_get (t := 4) (rest := []) C hH (by decide) hin4_v3 cwX5_87 ⟨Nat.le_of_ble_eq_true rfl, Nat.le_of_ble_eq_true rfl⟩ (Nat.le_of_ble_eq_true rfl) dX5_three_76 79 rfl ⟨Nat.le_refl _, Nat.le_refl _⟩ ?_
    refine jh_cast4 C hH hin4_v3 q1360 dX5_three_79 82 rfl ?_
    refine jh_item4N C hH hin4_v3 (k := 1) (by decide) q1023 rfl dX5_three_82 85 rfl ?_
    refine je_iload_n C dX5_three_85 86 rfl 1 rfl ?_
    refine je_icmp_ne C 103 dX5_three_86 89 rfl rfl h (fun h => ?_) (fun h => ?_)
    · refine je_iconst C (0) dX5_three_103 104 rfl ic_0 ?_
      refine je_istore_n C dX5_three_104 105 rfl (Nat.le_of_ble_eq_true rfl) [(2, .int (0 : Int32)), (0, .ref (G.2.1 + (13 + 14 * r))), (1, .int v1), (3, .int v3)] rfl ?_
      refine je_iinc C (1) dX5_three_105 108 rfl 3 rfl ic_1 (Nat.le_of_ble_eq_true rfl) [(3, .int (v3 + (1 : Int32))), (2, .int (0 : Int32)), (0, .ref (G.2.1 + (13 + 14 * r))), (1, .int v1)] rfl ?_
      refine je_goto C 17 dX5_three_108 rfl ?_
      refine je_sub [2, 3, 1, 0] [(0, .ref (G.2.1 + (13 + 14 * r))), (1, .int v1), (2, .int (0 : Int32)), (3, .int (v3 + (1 : Int32)))] rfl ?_
      exact ih κ v1 (0 : Int32) (v3 + (1 : Int32)) h
    refine je_aload_n C dX5_three_89 90 rfl 0 rfl ?_
    obtain ⟨a90, hx, ha90, h⟩ := p_ch_inv h
    refine gX5_run_56 C hr hx dX5_three_90 93 rfl ?_
    refine gX5_chg_230 C ha90 dX5_three_93 96 rfl ?_
    refine je_if_ne C 103 dX5_three_96 99 rfl rfl h (fun h => ?_) (fun h => ?_)
    · refine je_iconst C (0) dX5_three_103 104 rfl ic_0 ?_
      refine je_istore_n C dX5_three_104 105 rfl (Nat.le_of_ble_eq_true rfl) [(2, .int (0 : Int32)), (0, .ref (G.2.1 + (13 + 14 * r))), (1, .int v1), (3, .int v3)] rfl ?_
      refine je_iinc C (1) dX5_three_105 108 rfl 3 rfl ic_1 (Nat.le_of_ble_eq_true rfl) [(3, .int (v3 + (1 : Int32))), (2, .int (0 : Int32)), (0, .ref (G.2.1 + (13 + 14 * r))), (1, .int v1)] rfl ?_
      refine je_goto C 17 dX5_three_108 rfl ?_
      refine je_sub [2, 3, 1, 0] [(0, .ref (G.2.1 + (13 + 14 * r))), (1, .int v1), (2, .int (0 : Int32)), (3, .int (v3 + (1 : Int32)))] rfl ?_
      exact ih κ v1 (0 : Int32) (v3 + (1 : Int32)) h
    refine je_iconst C (1) dX5_three_99 100 rfl ic_1 ?_
    refine je_goto C 104 dX5_three_100 rfl ?_
    refine je_istore_n C dX5_three_104 105 rfl (Nat.le_of_ble_eq_true rfl) [(2, .int (1 : Int32)), (0, .ref (G.2.1 + (13 + 14 * r))), (1, .int v1), (3, .int v3)] rfl ?_
    refine je_iinc C (1) dX5_three_105 108 rfl 3 rfl ic_1 (Nat.le_of_ble_eq_true rfl) [(3, .int (v3 + (1 : Int32))), (2, .int (1 : Int32)), (0, .ref (G.2.1 + (13 + 14 * r))), (1, .int v1)] rfl ?_
    refine je_goto C 17 dX5_three_108 rfl ?_
    refine je_sub [2, 3, 1, 0] [(0, .ref (G.2.1 + (13 + 14 * r))), (1, .int v1), (2, .int (1 : Int32)), (3, .int (v3 + (1 : Int32)))] rfl ?_
    exact ih κ v1 (1 : Int32) (v3 + (1 : Int32)) h
set_option maxHeartbeats 4000000 in
theorem wX5_three_2 {p : Program} {l : Launch} {e : Env} {s : State} {m : MethodId} {args : Array Value} {below : List Frame} {meth : Method} {c : Code} {G : je_G} {dyn : Nat → Option je_E} {sz : Nat} {F : Nat} {hb : Nat} {hu : hd_T} {r : Nat} {r9 : kp_K} (C : Cx p s m args meth c G "MinistryDesks$Run" cX5_three 4 none) (hH : HouseRep G dyn hb hu) (hr : r < 3) : ∀ (n : Nat) (κ : kp_K) (v1 : Int32), bX5_three_2 F hb hu r n κ v1 = some r9 → Js p l e ({ frames := 5, cells := 0, slots := 0, locals := 140 } : Room) s m args below meth c G 4 (MQ below (je_Q G none (en2 G r9 dyn) sz) args s 0 0 (je_A G)) (en2 G κ dyn) sz 0 0 2 [(0, .ref (G.2.1 + (13 + 14 * r))), (1, .int v1)] [] := by
  intro n
  induction n with
  | zero =>
    intro κ v1 h
    cases h
  | succ n ih =>
    intro κ v1 h
    rw [bX5_three_2] at h
    refine je_iload_n C dX5_three_2 3 rfl 1 rfl ?_
    refine je_aload_n C dX5_three_3 4 rfl 0 rfl ?_
    refine gX5_run_3 C hr dX5_three_4 7 rfl ?_
    obtain ⟨t7, hg, h⟩ := p_cl_inv h
    refine je_callVNi (As := []) (rest := [.int v1]) C (metX1_desks hH hg) (en2_at kd0) rfl hdX1_desks rfl cwX5_112 rfl ⟨Nat.le_of_ble_eq_true rfl, Nat.le_of_ble_eq_true rfl⟩ (Nat.le_of_ble_eq_true rfl) dX5_three_7 10 rfl ⟨Nat.le_refl _, Nat.le_refl _⟩ ?_
    refine je_icmp_ge C 166 dX5_three_10 13 rfl rfl h (fun h => ?_) (fun h => ?_)
    · cases h
      exact je_vret C dX5_three_166
    refine je_iconst C (0) dX5_three_13 14 rfl ic_0 ?_
    refine je_istore_n C dX5_three_14 15 rfl (Nat.le_of_ble_eq_true rfl) [(2, .int (0 : Int32)), (0, .ref (G.2.1 + (13 + 14 * r))), (1, .int v1)] rfl ?_
    refine je_iconst C (0) dX5_three_15 16 rfl ic_0 ?_
    refine je_istore_n C dX5_three_16 17 rfl (Nat.le_of_ble_eq_true rfl) [(3, .int (0 : Int32)), (2, .int (0 : Int32)), (0, .ref (G.2.1 + (13 + 14 * r))), (1, .int v1)] rfl ?_
    refine je_sub [2, 3, 1, 0] [(0, .ref (G.2.1 + (13 + 14 * r))), (1, .int v1), (2, .int (0 : Int32)), (3, .int (0 : Int32))] rfl ?_
    exact wX5_three_17 C hH hr ih F κ v1 (0 : Int32) (0 : Int32) h
set_option maxHeartbeats 4000000 in
theorem metX5_three {l : Launch} {G : je_G} {dyn : Nat → Option je_E} {sz : Nat} {F : Nat} {hb : Nat} {hu : hd_T} {r : Nat} {κ : kp_K}  {r9 : kp_K} (hH : HouseRep G dyn hb hu) (hr : r < 3) (h : pX5_three F hb hu r κ = some r9) : MetS l G yX5_three cX5_three 4 none 5 140 0 0 [.ref (G.2.1 + (13 + 14 * r))] (en2 G κ dyn) sz none (en2 G r9 dyn) sz := by
  refine je_met "MinistryDesks$Run" rfl (by decide +kernel) (Nat.le_of_ble_eq_true rfl) [(0, .ref (G.2.1 + (13 + 14 * r)))] rfl (fun p e s m args below meth c C => ?_)
  unfold pX5_three at h
  refine je_iconst C (0) dX5_three_0 1 rfl ic_0 ?_
  refine je_istore_n C dX5_three_1 2 rfl (Nat.le_of_ble_eq_true rfl) [(1, .int (0 : Int32)), (0, .ref (G.2.1 + (13 + 14 * r)))] rfl ?_
  refine je_sub [1, 0] [(0, .ref (G.2.1 + (13 + 14 * r))), (1, .int (0 : Int32))] rfl ?_
  exact wX5_three_2 C hH hr F κ (0 : Int32) h
set_option maxHeartbeats 4000000 in
theorem wX5_isThere_2 {p : Program} {l : Launch} {e : Env} {s : State} {m : MethodId} {args : Array Value} {below : List Frame} {meth : Method} {c : Code} {G : je_G} {dyn : Nat → Option je_E} {sz : Nat} {F : Nat} {hb : Nat} {hu : hd_T} {r : Nat} {κ : kp_K} {r9 : Int32} (C : Cx p s m args meth c G "MinistryDesks$Run" cX5_isThere 4 (some .boolean)) (hH : HouseRep G dyn hb hu) (hr : r < 3) : ∀ (n : Nat) (v1 : Int32) (v2 : Int32), bX5_isThere_2 F hb hu r n κ v1 v2 = some r9 → Js p l e ({ frames := 4, cells := 0, slots := 0, locals := 120 } : Room) s m args below meth c G 4 (MQ below (je_Q G (some (.int r9)) (en2 G κ dyn) sz) args s 0 0 (je_A G)) (en2 G κ dyn) sz 0 0 2 [(0, .ref (G.2.1 + (13 + 14 * r))), (1, .int v1), (2, .int v2)] [] := by
  intro n
  induction n with
  | zero =>
    intro v1 v2 h
    cases h
  | succ n ih =>
    intro v1 v2 h
    rw [bX5_isThere_2] at h
    refine je_iload_n C dX5_isThere_2 3 rfl 2 rfl ?_
    refine je_aload_n C dX5_isThere_3 4 rfl 0 rfl ?_
    refine gX5_run_3 C hr dX5_isThere_4 7 rfl ?_
    obtain ⟨hx, h⟩ := p_hs_inv h
    refine gX5_77 C hx dX5_isThere_7 10 rfl ?_
    refine jh_listN C hH (t := 2) (by decide) q252 rfl dX5_isThere_10 13 rfl ?_
    refine jh_size (t := 2) (rest := [.int v2]) C hH (by decide) cwX5_126 ⟨Nat.le_of_ble_eq_true rfl, Nat.le_of_ble_eq_true rfl⟩ (Nat.le_of_ble_eq_true rfl) dX5_isThere_13 16 rfl ⟨Nat.le_refl _, Nat.le_refl _⟩ ?_
    refine je_icmp_ge C 86 dX5_isThere_16 19 rfl rfl h (fun h => ?_) (fun h => ?_)
    · refine je_iconst C (0) dX5_isThere_86 87 rfl ic_0 ?_
      cases h
      exact je_zret C dX5_isThere_87 (Or.inl rfl)
    refine je_aload_n C dX5_isThere_19 20 rfl 0 rfl ?_
    refine gX5_run_3 C hr dX5_isThere_20 23 rfl ?_
    obtain ⟨hx, h⟩ := p_hs_inv h
    refine gX5_77 C hx dX5_isThere_23 26 rfl ?_
    refine jh_listN C hH (t := 2) (by decide) q252 rfl dX5_isThere_26 29 rfl ?_
    refine je_iload_n C dX5_isThere_29 30 rfl 2 rfl ?_
    obtain ⟨hin2_v2, h⟩ := p_ck_inv h
    refine jh_get (t := 2) (rest := []) C hH (by decide) hin2_v2 cwX5_87 ⟨Nat.le_of_ble_eq_true rfl, Nat.le_of_ble_eq_true rfl⟩ (Nat.le_of_ble_eq_true rfl) dX5_isThere_30 33 rfl ⟨Nat.le_refl _, Nat.le_refl _⟩ ?_
    refine jh_cast2 C hH hin2_v2 q1282 dX5_isThere_33 36 rfl ?_
    refine je_astore_n C dX5_isThere_36 37 rfl (Nat.le_of_ble_eq_true rfl) [(3, .ref (G.2.1 + (hu.2.2.2.2.1 2 v2.toNatClampNeg))), (0, .ref (G.2.1 + (13 + 14 * r))), (1, .int v1), (2, .int v2)] rfl ?_
    refine je_iload_n C dX5_isThere_37 38 rfl 3 rfl ?_
    refine je_aload_n C dX5_isThere_38 39 rfl 1 rfl ?_
    obtain ⟨a39, hx, ha39, h⟩ := p_ch_inv h
    refine gX5_run_56 C hr hx dX5_isThere_39 42 rfl ?_
    refine gX5_chg_202 C ha39 dX5_isThere_42 45 rfl ?_
    refine je_icmp_eq C 80 dX5_isThere_45 48 rfl rfl h (fun h => ?_) (fun h => ?_)
    · refine je_iinc C (1) dX5_isThere_80 83 rfl 3 rfl ic_1 (Nat.le_of_ble_eq_true rfl) [(2, .int (v2 + (1 : Int32))), (3, .ref (G.2.1 + (hu.2.2.2.2.1 2 v2.toNatClampNeg))), (0, .ref (G.2.1 + (13 + 14 * r))), (1, .int v1)] rfl ?_
      refine je_goto C 2 dX5_isThere_83 rfl ?_
      refine je_sub [2, 3, 0] [(0, .ref (G.2.1 + (13 + 14 * r))), (1, .int v1), (2, .int (v2 + (1 : Int32)))] rfl ?_
      exact ih v1 (v2 + (1 : Int32)) h
    refine je_aload_n C dX5_isThere_48 49 rfl 0 rfl ?_
    refine jh_item2N C hH hin2_v2 (k := 2) (by decide) q974 rfl dX5_isThere_49 52 rfl ?_
    refine je_iload_n C dX5_isThere_52 53 rfl 2 rfl ?_
    refine je_icmp_ne C 80 dX5_isThere_53 56 rfl rfl h (fun h => ?_) (fun h => ?_)
    · refine je_iinc C (1) dX5_isThere_80 83 rfl 3 rfl ic_1 (Nat.le_of_ble_eq_true rfl) [(2, .int (v2 + (1 : Int32))), (3, .ref (G.2.1 + (hu.2.2.2.2.1 2 v2.toNatClampNeg))), (0, .ref (G.2.1 + (13 + 14 * r))), (1, .int v1)] rfl ?_
      refine je_goto C 2 dX5_isThere_83 rfl ?_
      refine je_sub [2, 3, 0] [(0, .ref (G.2.1 + (13 + 14 * r))), (1, .int v1), (2, .int (v2 + (1 : Int32)))] rfl ?_
      exact ih v1 (v2 + (1 : Int32)) h
    refine je_aload_n C dX5_isThere_56 57 rfl 0 rfl ?_
    refine jh_item2N C hH hin2_v2 (k := 0) (by decide) q968 rfl dX5_isThere_57 60 rfl ?_
    refine je_aload_n C dX5_isThere_60 61 rfl 1 rfl ?_
    refine gX5_run_60 C hr dX5_isThere_61 64 rfl ?_
    refine je_icmp_gt C 80 dX5_isThere_64 67 rfl rfl h (fun h => ?_) (fun h => ?_)
    · refine je_iinc C (1) dX5_isThere_80 83 rfl 3 rfl ic_1 (Nat.le_of_ble_eq_true rfl) [(2, .int (v2 + (1 : Int32))), (3, .ref (G.2.1 + (hu.2.2.2.2.1 2 v2.toNatClampNeg))), (0, .ref (G.2.1 + (13 + 14 * r))), (1, .int v1)] rfl ?_
      refine je_goto C 2 dX5_isThere_83 rfl ?_
      refine je_sub [2, 3, 0] [(0, .ref (G.2.1 + (13 + 14 * r))), (1, .int v1), (2, .int (v2 + (1 : Int32)))] rfl ?_
      exact ih v1 (v2 + (1 : Int32)) h
    refine je_aload_n C dX5_isThere_67 68 rfl 0 rfl ?_
    refine jh_item2N C hH hin2_v2 (k := 3) (by decide) q977 rfl dX5_isThere_68 71 rfl ?_
    refine je_aload_n C dX5_isThere_71 72 rfl 1 rfl ?_
    refine gX5_run_60 C hr dX5_isThere_72 75 rfl ?_
    refine je_icmp_lt C 80 dX5_isThere_75 78 rfl rfl h (fun h => ?_) (fun h => ?_)
    · refine je_iinc C (1) dX5_isThere_80 83 rfl 3 rfl ic_1 (Nat.le_of_ble_eq_true rfl) [(2, .int (v2 + (1 : Int32))), (3, .ref (G.2.1 + (hu.2.2.2.2.1 2 v2.toNatClampNeg))), (0, .ref (G.2.1 + (13 + 14 * r))), (1, .int v1)] rfl ?_
      refine je_goto C 2 dX5_isThere_83 rfl ?_
      refine je_sub [2, 3, 0] [(0, .ref (G.2.1 + (13 + 14 * r))), (1, .int v1), (2, .int (v2 + (1 : Int32)))] rfl ?_
      exact ih v1 (v2 + (1 : Int32)) h
    refine je_iconst C (1) dX5_isThere_78 79 rfl ic_1 ?_
    cases h
    exact je_zret C dX5_isThere_79 (Or.inr rfl)
set_option maxHeartbeats 4000000 in
theorem metX5_isThere {l : Launch} {G : je_G} {dyn : Nat → Option je_E} {sz : Nat} {F : Nat} {hb : Nat} {hu : hd_T} {r : Nat} {κ : kp_K} {v1 : Int32} {r9 : Int32} (hH : HouseRep G dyn hb hu) (hr : r < 3) (h : pX5_isThere F hb hu r κ v1 = some r9) : MetS l G yX5_isThere cX5_isThere 4 (some .boolean) 4 120 0 0 [.ref (G.2.1 + (13 + 14 * r)), .int v1] (en2 G κ dyn) sz (some (.int r9)) (en2 G κ dyn) sz := by
  refine je_met "MinistryDesks$Run" rfl (by decide +kernel) (Nat.le_of_ble_eq_true rfl) [(0, .ref (G.2.1 + (13 + 14 * r))), (1, .int v1)] rfl (fun p e s m args below meth c C => ?_)
  unfold pX5_isThere at h
  refine je_iconst C (0) dX5_isThere_0 1 rfl ic_0 ?_
  refine je_istore_n C dX5_isThere_1 2 rfl (Nat.le_of_ble_eq_true rfl) [(2, .int (0 : Int32)), (0, .ref (G.2.1 + (13 + 14 * r))), (1, .int v1)] rfl ?_
  refine je_sub [1, 2, 0] [(0, .ref (G.2.1 + (13 + 14 * r))), (1, .int v1), (2, .int (0 : Int32))] rfl ?_
  exact wX5_isThere_2 C hH hr F v1 (0 : Int32) h
