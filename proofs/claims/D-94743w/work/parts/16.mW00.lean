/-! the reference: walks of its methods: printed by gen -/
set_option maxRecDepth 100000
theorem gX6_166 {p : Program} {l : Launch} {e : Env} {R : Room} {s : State} {m : MethodId} {args : Array Value} {below : List Frame} {meth : Method} {c : Code} {Q : State → Prop} {G : je_G} {cc : ByteArray} {nL : Nat} {rt : Option FieldType} {sz cells slots pc : Nat} {L : List (Nat × Value)} {st : List Value} {κ : kp_K} {dyn : Nat → Option je_E} (C : Cx p s m args meth c G "MinistryDesksModel" cc nL rt) (d : decode cc pc = .ok (.getfield 166, 3)) (n : Nat) (hn : pc + 3 = n) (kk : Js p l e R s m args below meth c G nL Q (en2 G κ dyn) sz cells slots n L (.int (κ.1 66 0) :: st)) : Js p l e R s m args below meth c G nL Q (en2 G κ dyn) sz cells slots pc L (.ref (G.2.1 + 66) :: st) := jk_getI (k := 0) C kd66 rfl in_X6 rfl (by decide) q1680 rfl d n hn kk
set_option maxHeartbeats 4000000 in
theorem metX6_thrown {l : Launch} {G : je_G} {dyn : Nat → Option je_E} {sz : Nat} {κ : kp_K}  {r9 : Int32} (h : pX6_thrown κ = some r9) : MetS l G yX6_thrown cX6_thrown 1 (some .int) 0 0 0 0 [.ref (G.2.1 + 66)] (en2 G κ dyn) sz (some (.int r9)) (en2 G κ dyn) sz := by
  refine je_met "MinistryDesksModel" rfl (by decide +kernel) (Nat.le_of_ble_eq_true rfl) [(0, .ref (G.2.1 + 66))] rfl (fun p e s m args below meth c C => ?_)
  unfold pX6_thrown at h
  refine je_aload_n C dX6_thrown_0 1 rfl 0 rfl ?_
  refine gX6_166 C dX6_thrown_1 4 rfl ?_
  cases h
  exact je_iret C dX6_thrown_4
theorem bp_12 : (Int8.ofInt (12)).toInt32 = (12 : Int32) := by decide +kernel
theorem bp_20 : (Int8.ofInt (20)).toInt32 = (20 : Int32) := by decide +kernel
theorem bp_24 : (Int8.ofInt (24)).toInt32 = (24 : Int32) := by decide +kernel
theorem sp_880 : (Int16.ofInt (880)).toInt32 = (880 : Int32) := by decide +kernel
theorem gX6_169 {p : Program} {l : Launch} {e : Env} {R : Room} {s : State} {m : MethodId} {args : Array Value} {below : List Frame} {meth : Method} {c : Code} {Q : State → Prop} {G : je_G} {cc : ByteArray} {nL : Nat} {rt : Option FieldType} {sz cells slots pc : Nat} {L : List (Nat × Value)} {st : List Value} {κ : kp_K} {dyn : Nat → Option je_E} (C : Cx p s m args meth c G "MinistryDesksModel" cc nL rt) (d : decode cc pc = .ok (.getfield 169, 3)) (n : Nat) (hn : pc + 3 = n) (kk : Js p l e R s m args below meth c G nL Q (en2 G κ dyn) sz cells slots n L (.int (κ.1 66 2) :: st)) : Js p l e R s m args below meth c G nL Q (en2 G κ dyn) sz cells slots pc L (.ref (G.2.1 + 66) :: st) := jk_getI (k := 2) C kd66 rfl in_X6 rfl (by decide) q1682 rfl d n hn kk
theorem gX6_9 {p : Program} {l : Launch} {e : Env} {R : Room} {s : State} {m : MethodId} {args : Array Value} {below : List Frame} {meth : Method} {c : Code} {Q : State → Prop} {G : je_G} {cc : ByteArray} {nL : Nat} {rt : Option FieldType} {sz cells slots pc : Nat} {L : List (Nat × Value)} {st : List Value} {κ : kp_K} {dyn : Nat → Option je_E} (C : Cx p s m args meth c G "MinistryDesksModel" cc nL rt) (d : decode cc pc = .ok (.getfield 9, 3)) (n : Nat) (hn : pc + 3 = n) (kk : Js p l e R s m args below meth c G nL Q (en2 G κ dyn) sz cells slots n L (.ref (G.2.1 + 67) :: st)) : Js p l e R s m args below meth c G nL Q (en2 G κ dyn) sz cells slots pc L (.ref (G.2.1 + 66) :: st) := jk_getR (k := 1) (z := 0) C kd66 rfl in_X6 67 rfl (by decide) q1681 rfl d n hn kk
theorem sX6_166 {p : Program} {l : Launch} {e : Env} {R : Room} {s : State} {m : MethodId} {args : Array Value} {below : List Frame} {meth : Method} {c : Code} {Q : State → Prop} {G : je_G} {cc : ByteArray} {nL : Nat} {rt : Option FieldType} {sz cells slots pc : Nat} {L : List (Nat × Value)} {st : List Value} {κ : kp_K} {dyn : Nat → Option je_E} (C : Cx p s m args meth c G "MinistryDesksModel" cc nL rt) {v : Int32} (d : decode cc pc = .ok (.putfield 166, 3)) (n : Nat) (hn : pc + 3 = n) (kk : Js p l e R s m args below meth c G nL Q (en2 G (s_i κ 66 0 v) dyn) sz cells slots n L st) : Js p l e R s m args below meth c G nL Q (en2 G κ dyn) sz cells slots pc L (.int v :: .ref (G.2.1 + 66) :: st) := jk_putI (k := 0) C kd66 rfl in_X6 tyX6 tyX6_ok nmX6 rfl (by decide) q1680 rfl rfl rfl d n hn kk
theorem sX6_169 {p : Program} {l : Launch} {e : Env} {R : Room} {s : State} {m : MethodId} {args : Array Value} {below : List Frame} {meth : Method} {c : Code} {Q : State → Prop} {G : je_G} {cc : ByteArray} {nL : Nat} {rt : Option FieldType} {sz cells slots pc : Nat} {L : List (Nat × Value)} {st : List Value} {κ : kp_K} {dyn : Nat → Option je_E} (C : Cx p s m args meth c G "MinistryDesksModel" cc nL rt) {v : Int32} (d : decode cc pc = .ok (.putfield 169, 3)) (n : Nat) (hn : pc + 3 = n) (kk : Js p l e R s m args below meth c G nL Q (en2 G (s_i κ 66 2 v) dyn) sz cells slots n L st) : Js p l e R s m args below meth c G nL Q (en2 G κ dyn) sz cells slots pc L (.int v :: .ref (G.2.1 + 66) :: st) := jk_putI (k := 2) C kd66 rfl in_X6 tyX6 tyX6_ok nmX6 rfl (by decide) q1682 rfl rfl rfl d n hn kk
set_option maxHeartbeats 4000000 in
theorem wX6_feed_73 {p : Program} {l : Launch} {e : Env} {s : State} {m : MethodId} {args : Array Value} {below : List Frame} {meth : Method} {c : Code} {G : je_G} {dyn : Nat → Option je_E} {sz : Nat} {F : Nat} {r9 : Int32 × kp_K} {k20 : kp_K → Int32 → Int32 → Int32 → Int32 → Int32 → Int32 → Option (Int32 × kp_K)} (C : Cx p s m args meth c G "MinistryDesksModel" cX6_feed 8 (some .int)) (hk20 : ∀ (kq : kp_K) (q1 : Int32) (q2 : Int32) (q3 : Int32) (q4 : Int32) (q5 : Int32) (q6 : Int32), k20 kq q1 q2 q3 q4 q5 q6 = some r9 → Js p l e ({ frames := 0, cells := 0, slots := 0, locals := 0 } : Room) s m args below meth c G 8 (MQ below (je_Q G (some (.int r9.1)) (en2 G r9.2 dyn) sz) args s 0 0 (je_A G)) (en2 G kq dyn) sz 0 0 20 [(0, .ref (G.2.1 + 66)), (1, .int q1), (2, .int q2), (3, .int q3), (4, .int q4), (5, .int q5), (6, .int q6)] []) (κ : kp_K) (v1 : Int32) (v2 : Int32) (v3 : Int32) (v4 : Int32) (v5 : Int32) (v6 : Int32) (s0 : Int32) (h : bX6_feed_73 F k20 κ v1 v2 v3 v4 v5 v6 s0 = some r9) : Js p l e ({ frames := 0, cells := 0, slots := 0, locals := 0 } : Room) s m args below meth c G 8 (MQ below (je_Q G (some (.int r9.1)) (en2 G r9.2 dyn) sz) args s 0 0 (je_A G)) (en2 G κ dyn) sz 0 0 73 [(0, .ref (G.2.1 + 66)), (1, .int v1), (2, .int v2), (3, .int v3), (4, .int v4), (5, .int v5), (6, .int v6)] [.int s0] := by
  unfold bX6_feed_73 at h
  refine je_istore C dX6_feed_73 75 rfl (Nat.le_of_ble_eq_true rfl) [(7, .int s0), (0, .ref (G.2.1 + 66)), (1, .int v1), (2, .int v2), (3, .int v3), (4, .int v4), (5, .int v5), (6, .int v6)] rfl ?_
  refine je_aload_n C dX6_feed_75 76 rfl 1 rfl ?_
  refine gX6_9 C dX6_feed_76 79 rfl ?_
  refine je_aload_n C dX6_feed_79 80 rfl 1 rfl ?_
  refine gX6_169 C dX6_feed_80 83 rfl ?_
  refine je_iload C dX6_feed_83 85 rfl 7 rfl ?_
  refine je_iadd C dX6_feed_85 86 rfl ?_
  refine je_iload C dX6_feed_86 88 rfl 0 rfl ?_
  refine je_bipush C (24) dX6_feed_88 90 rfl bp_24 ?_
  refine je_bipush C (8) dX6_feed_90 92 rfl bp_8 ?_
  refine je_iload C dX6_feed_92 94 rfl 7 rfl ?_
  refine je_iconst C (4) dX6_feed_94 95 rfl ic_4 ?_
  obtain ⟨hne, h⟩ := p_cd_inv h
  refine je_irem C dX6_feed_95 96 rfl hne ?_
  refine je_imul C dX6_feed_96 97 rfl ?_
  refine je_isub C dX6_feed_97 98 rfl ?_
  refine je_ishr C dX6_feed_98 99 rfl ?_
  refine je_sipush C (255) dX6_feed_99 102 rfl sp_255 ?_
  refine je_iand C dX6_feed_102 103 rfl ?_
  refine jk_iast C kd67 dX6_feed_103 104 rfl h (fun h => ?_)
  refine jk_lt h (fun k103 h => ?_)
  refine je_iinc C (1) dX6_feed_104 107 rfl 7 rfl ic_1 (Nat.le_of_ble_eq_true rfl) [(6, .int (v6 + (1 : Int32))), (7, .int s0), (0, .ref (G.2.1 + 66)), (1, .int v1), (2, .int v2), (3, .int v3), (4, .int v4), (5, .int v5)] rfl ?_
  refine je_goto C 20 dX6_feed_107 rfl ?_
  refine je_sub [2, 3, 4, 5, 6, 7, 0] [(0, .ref (G.2.1 + 66)), (1, .int v1), (2, .int v2), (3, .int v3), (4, .int v4), (5, .int v5), (6, .int (v6 + (1 : Int32)))] rfl ?_
  exact hk20 k103 v1 v2 v3 v4 v5 (v6 + (1 : Int32)) h
set_option maxHeartbeats 4000000 in
theorem wX6_feed_20 {p : Program} {l : Launch} {e : Env} {s : State} {m : MethodId} {args : Array Value} {below : List Frame} {meth : Method} {c : Code} {G : je_G} {dyn : Nat → Option je_E} {sz : Nat} {F : Nat} {r9 : Int32 × kp_K} (C : Cx p s m args meth c G "MinistryDesksModel" cX6_feed 8 (some .int)) : ∀ (n : Nat) (κ : kp_K) (v1 : Int32) (v2 : Int32) (v3 : Int32) (v4 : Int32) (v5 : Int32) (v6 : Int32), bX6_feed_20 F n κ v1 v2 v3 v4 v5 v6 = some r9 → Js p l e ({ frames := 0, cells := 0, slots := 0, locals := 0 } : Room) s m args below meth c G 8 (MQ below (je_Q G (some (.int r9.1)) (en2 G r9.2 dyn) sz) args s 0 0 (je_A G)) (en2 G κ dyn) sz 0 0 20 [(0, .ref (G.2.1 + 66)), (1, .int v1), (2, .int v2), (3, .int v3), (4, .int v4), (5, .int v5), (6, .int v6)] [] := by
  intro n
  induction n with
  | zero =>
    intro κ v1 v2 v3 v4 v5 v6 h
    cases h
  | succ n ih =>
    intro κ v1 v2 v3 v4 v5 v6 h
    rw [bX6_feed_20] at h
    refine je_iload C dX6_feed_20 22 rfl 6 rfl ?_
    refine je_bipush C (20) dX6_feed_22 24 rfl bp_20 ?_
    refine je_icmp_ge C 110 dX6_feed_24 27 rfl rfl h (fun h => ?_) (fun h => ?_)
    · refine je_aload_n C dX6_feed_110 111 rfl 0 rfl ?_
      refine je_dup C dX6_feed_111 112 rfl rfl ?_
      refine gX6_169 C dX6_feed_112 115 rfl ?_
      refine je_bipush C (20) dX6_feed_115 117 rfl bp_20 ?_
      refine je_iadd C dX6_feed_117 118 rfl ?_
      refine sX6_169 C dX6_feed_118 121 rfl ?_
      refine jk_lt h (fun k118 h => ?_)
      refine je_aload_n C dX6_feed_121 122 rfl 0 rfl ?_
      refine gX6_169 C dX6_feed_122 125 rfl ?_
      cases h
      exact je_iret C dX6_feed_125
    refine je_iload C dX6_feed_27 29 rfl 6 rfl ?_
    refine je_iconst C (4) dX6_feed_29 30 rfl ic_4 ?_
    refine je_icmp_ge C 37 dX6_feed_30 33 rfl rfl h (fun h => ?_) (fun h => ?_)
    · refine je_iload C dX6_feed_37 39 rfl 6 rfl ?_
      refine je_bipush C (8) dX6_feed_39 41 rfl bp_8 ?_
      refine je_icmp_ge C 48 dX6_feed_41 44 rfl rfl h (fun h => ?_) (fun h => ?_)
      · refine je_iload C dX6_feed_48 50 rfl 6 rfl ?_
        refine je_bipush C (12) dX6_feed_50 52 rfl bp_12 ?_
        refine je_icmp_ge C 59 dX6_feed_52 55 rfl rfl h (fun h => ?_) (fun h => ?_)
        · refine je_iload C dX6_feed_59 61 rfl 6 rfl ?_
          refine je_bipush C (16) dX6_feed_61 63 rfl bp_16 ?_
          refine je_icmp_ge C 71 dX6_feed_63 66 rfl rfl h (fun h => ?_) (fun h => ?_)
          · refine je_iload C dX6_feed_71 73 rfl 5 rfl ?_
            exact wX6_feed_73 C ih κ v1 v2 v3 v4 v5 v6 v5 h
          refine je_iload C dX6_feed_66 68 rfl 4 rfl ?_
          refine je_goto C 73 dX6_feed_68 rfl ?_
          exact wX6_feed_73 C ih κ v1 v2 v3 v4 v5 v6 v4 h
        refine je_iload_n C dX6_feed_55 56 rfl 3 rfl ?_
        refine je_goto C 73 dX6_feed_56 rfl ?_
        exact wX6_feed_73 C ih κ v1 v2 v3 v4 v5 v6 v3 h
      refine je_iload_n C dX6_feed_44 45 rfl 2 rfl ?_
      refine je_goto C 73 dX6_feed_45 rfl ?_
      exact wX6_feed_73 C ih κ v1 v2 v3 v4 v5 v6 v2 h
    refine je_iload_n C dX6_feed_33 34 rfl 1 rfl ?_
    refine je_goto C 73 dX6_feed_34 rfl ?_
    exact wX6_feed_73 C ih κ v1 v2 v3 v4 v5 v6 v1 h
set_option maxHeartbeats 4000000 in
theorem metX6_feed {l : Launch} {G : je_G} {dyn : Nat → Option je_E} {sz : Nat} {F : Nat} {κ : kp_K} {v1 : Int32} {v2 : Int32} {v3 : Int32} {v4 : Int32} {v5 : Int32} {r9 : Int32 × kp_K} (h : pX6_feed F κ v1 v2 v3 v4 v5 = some r9) : MetS l G yX6_feed cX6_feed 8 (some .int) 0 0 0 0 [.ref (G.2.1 + 66), .int v1, .int v2, .int v3, .int v4, .int v5] (en2 G κ dyn) sz (some (.int r9.1)) (en2 G r9.2 dyn) sz := by
  refine je_met "MinistryDesksModel" rfl (by decide +kernel) (Nat.le_of_ble_eq_true rfl) [(0, .ref (G.2.1 + 66)), (1, .int v1), (2, .int v2), (3, .int v3), (4, .int v4), (5, .int v5)] rfl (fun p e s m args below meth c C => ?_)
  unfold pX6_feed at h
  refine je_aload_n C dX6_feed_0 1 rfl 0 rfl ?_
  refine je_iconst C (0) dX6_feed_1 2 rfl ic_0 ?_
  refine sX6_166 C dX6_feed_2 5 rfl ?_
  refine jk_lt h (fun k2 h => ?_)
  refine je_aload_n C dX6_feed_5 6 rfl 0 rfl ?_
  refine gX6_169 C dX6_feed_6 9 rfl ?_
  refine je_sipush C (880) dX6_feed_9 12 rfl sp_880 ?_
  refine je_icmp_le C 17 dX6_feed_12 15 rfl rfl h (fun h => ?_) (fun h => ?_)
  · refine je_iconst C (0) dX6_feed_17 18 rfl ic_0 ?_
    refine je_istore C dX6_feed_18 20 rfl (Nat.le_of_ble_eq_true rfl) [(6, .int (0 : Int32)), (0, .ref (G.2.1 + 66)), (1, .int v1), (2, .int v2), (3, .int v3), (4, .int v4), (5, .int v5)] rfl ?_
    refine je_sub [1, 2, 3, 4, 5, 6, 0] [(0, .ref (G.2.1 + 66)), (1, .int v1), (2, .int v2), (3, .int v3), (4, .int v4), (5, .int v5), (6, .int (0 : Int32))] rfl ?_
    exact wX6_feed_20 C F k2 v1 v2 v3 v4 v5 (0 : Int32) h
  refine je_iconst C (-1) dX6_feed_15 16 rfl ic_m1 ?_
  cases h
  exact je_iret C dX6_feed_16
theorem gX6_172 {p : Program} {l : Launch} {e : Env} {R : Room} {s : State} {m : MethodId} {args : Array Value} {below : List Frame} {meth : Method} {c : Code} {Q : State → Prop} {G : je_G} {cc : ByteArray} {nL : Nat} {rt : Option FieldType} {sz cells slots pc : Nat} {L : List (Nat × Value)} {st : List Value} {κ : kp_K} {dyn : Nat → Option je_E} (C : Cx p s m args meth c G "MinistryDesksModel" cc nL rt) (d : decode cc pc = .ok (.getfield 172, 3)) (n : Nat) (hn : pc + 3 = n) (kk : Js p l e R s m args below meth c G nL Q (en2 G κ dyn) sz cells slots n L (.int (κ.1 66 27) :: st)) : Js p l e R s m args below meth c G nL Q (en2 G κ dyn) sz cells slots pc L (.ref (G.2.1 + 66) :: st) := jk_getI (k := 27) C kd66 rfl in_X6 rfl (by decide) q1707 rfl d n hn kk
theorem gX6_175 {p : Program} {l : Launch} {e : Env} {R : Room} {s : State} {m : MethodId} {args : Array Value} {below : List Frame} {meth : Method} {c : Code} {Q : State → Prop} {G : je_G} {cc : ByteArray} {nL : Nat} {rt : Option FieldType} {sz cells slots pc : Nat} {L : List (Nat × Value)} {st : List Value} {κ : kp_K} {dyn : Nat → Option je_E} (C : Cx p s m args meth c G "MinistryDesksModel" cc nL rt) (d : decode cc pc = .ok (.getfield 175, 3)) (n : Nat) (hn : pc + 3 = n) (kk : Js p l e R s m args below meth c G nL Q (en2 G κ dyn) sz cells slots n L (.int (κ.1 66 26) :: st)) : Js p l e R s m args below meth c G nL Q (en2 G κ dyn) sz cells slots pc L (.ref (G.2.1 + 66) :: st) := jk_getI (k := 26) C kd66 rfl in_X6 rfl (by decide) q1706 rfl d n hn kk
set_option maxHeartbeats 4000000 in
theorem metX6_here {l : Launch} {G : je_G} {dyn : Nat → Option je_E} {sz : Nat} {κ : kp_K}  {r9 : Int32} (h : pX6_here κ = some r9) : MetS l G yX6_here cX6_here 1 (some .int) 0 0 0 0 [.ref (G.2.1 + 66)] (en2 G κ dyn) sz (some (.int r9)) (en2 G κ dyn) sz := by
  refine je_met "MinistryDesksModel" rfl (by decide +kernel) (Nat.le_of_ble_eq_true rfl) [(0, .ref (G.2.1 + 66))] rfl (fun p e s m args below meth c C => ?_)
  unfold pX6_here at h
  refine je_aload_n C dX6_here_0 1 rfl 0 rfl ?_
  refine gX6_172 C dX6_here_1 4 rfl ?_
  refine je_aload_n C dX6_here_4 5 rfl 0 rfl ?_
  refine gX6_175 C dX6_here_5 8 rfl ?_
  refine je_icmp_ge C 23 dX6_here_8 11 rfl rfl h (fun h => ?_) (fun h => ?_)
  · refine je_iconst C (-1) dX6_here_23 24 rfl ic_m1 ?_
    cases h
    exact je_iret C dX6_here_24
  refine je_aload_n C dX6_here_11 12 rfl 0 rfl ?_
  refine gX6_9 C dX6_here_12 15 rfl ?_
  refine je_aload_n C dX6_here_15 16 rfl 0 rfl ?_
  refine gX6_172 C dX6_here_16 19 rfl ?_
  refine je_lti h (fun i19 h => ?_)
  refine jk_iald C kd67 dX6_here_19 20 rfl h (fun h => ?_)
  refine je_goto C 24 dX6_here_20 rfl ?_
  cases h
  exact je_iret C dX6_here_24
theorem bp_97 : (Int8.ofInt (97)).toInt32 = (97 : Int32) := by decide +kernel
theorem bp_122 : (Int8.ofInt (122)).toInt32 = (122 : Int32) := by decide +kernel
set_option maxHeartbeats 4000000 in
theorem metX6_isSmall {l : Launch} {G : je_G} {σ : Nat → Option je_E} {sz : Nat} {v0 : Int32} {r9 : Int32} (h : pX6_isSmall v0 = some r9) : MetS l G yX6_isSmall cX6_isSmall 1 (some .boolean) 0 0 0 0 [.int v0] σ sz (some (.int r9)) σ sz := by
  refine je_met "MinistryDesksModel" rfl (by decide +kernel) (Nat.le_of_ble_eq_true rfl) [(0, .int v0)] rfl (fun p e s m args below meth c C => ?_)
  unfold pX6_isSmall at h
  refine je_iload_n C dX6_isSmall_0 1 rfl 0 rfl ?_
  refine je_bipush C (97) dX6_isSmall_1 3 rfl bp_97 ?_
  refine je_icmp_lt C 16 dX6_isSmall_3 6 rfl rfl h (fun h => ?_) (fun h => ?_)
  · refine je_iconst C (0) dX6_isSmall_16 17 rfl ic_0 ?_
    cases h
    exact je_zret C dX6_isSmall_17 (Or.inl rfl)
  refine je_iload_n C dX6_isSmall_6 7 rfl 0 rfl ?_
  refine je_bipush C (122) dX6_isSmall_7 9 rfl bp_122 ?_
  refine je_icmp_gt C 16 dX6_isSmall_9 12 rfl rfl h (fun h => ?_) (fun h => ?_)
  · refine je_iconst C (0) dX6_isSmall_16 17 rfl ic_0 ?_
    cases h
    exact je_zret C dX6_isSmall_17 (Or.inl rfl)
  refine je_iconst C (1) dX6_isSmall_12 13 rfl ic_1 ?_
  refine je_goto C 17 dX6_isSmall_13 rfl ?_
  cases h
  exact je_zret C dX6_isSmall_17 (Or.inr rfl)
theorem bp_32 : (Int8.ofInt (32)).toInt32 = (32 : Int32) := by decide +kernel
theorem hdJ3_charAt : je_hd yJ3_charAt 1 := ⟨by decide +kernel, by decide +kernel, by decide +kernel⟩
theorem cwX6_210 : GoodIn lw_all (wsV "MinistryDesksModel" 210 "java/lang/String" yJ3_length (ws_ yJ3_length cJ3_length 1 (some .int))) := lw_V q1937 q603 q604 q171 q605
theorem cwX6_215 : GoodIn lw_all (wsV "MinistryDesksModel" 215 "java/lang/String" yJ3_charAt (ws_ yJ3_charAt cJ3_charAt 2 (some .char))) := lw_V q1938 q686 q687 q171 q688
theorem gX6_182 {p : Program} {l : Launch} {e : Env} {R : Room} {s : State} {m : MethodId} {args : Array Value} {below : List Frame} {meth : Method} {c : Code} {Q : State → Prop} {G : je_G} {cc : ByteArray} {nL : Nat} {rt : Option FieldType} {sz cells slots pc : Nat} {L : List (Nat × Value)} {st : List Value} {κ : kp_K} {dyn : Nat → Option je_E} (C : Cx p s m args meth c G "MinistryDesksModel" cc nL rt) (d : decode cc pc = .ok (.getfield 182, 3)) (n : Nat) (hn : pc + 3 = n) (kk : Js p l e R s m args below meth c G nL Q (en2 G κ dyn) sz cells slots n L (.int (κ.1 66 28) :: st)) : Js p l e R s m args below meth c G nL Q (en2 G κ dyn) sz cells slots pc L (.ref (G.2.1 + 66) :: st) := jk_getI (k := 28) C kd66 rfl in_X6 rfl (by decide) q1708 rfl d n hn kk
set_option maxHeartbeats 4000000 in
theorem wX6_word_97 {p : Program} {l : Launch} {e : Env} {s : State} {m : MethodId} {args : Array Value} {below : List Frame} {meth : Method} {c : Code} {G : je_G} {dyn : Nat → Option je_E} {sz : Nat} {F : Nat} {κ : kp_K} {r9 : Int32} {k4 : kp_K → Int32 → Int32 → Option (Int32)} (C : Cx p s m args meth c G "MinistryDesksModel" cX6_word 4 (some .int)) (hk4 : ∀ (q1 : Int32) (q2 : Int32), k4 κ q1 q2 = some r9 → Js p l e ({ frames := 4, cells := 0, slots := 0, locals := 85 } : Room) s m args below meth c G 4 (MQ below (je_Q G (some (.int r9)) (en2 G κ dyn) sz) args s 0 0 (je_A G)) (en2 G κ dyn) sz 0 0 4 [(0, .ref (G.2.1 + 66)), (1, .int q1), (2, .int q2)] []) : ∀ (n : Nat) (v1 : Int32) (v2 : Int32), bX6_word_97 F k4 n κ v1 v2 = some r9 → Js p l e ({ frames := 4, cells := 0, slots := 0, locals := 85 } : Room) s m args below meth c G 4 (MQ below (je_Q G (some (.int r9)) (en2 G κ dyn) sz) args s 0 0 (je_A G)) (en2 G κ dyn) sz 0 0 97 [(0, .ref (G.2.1 + 66)), (1, .int v1), (2, .int v2)] [] := by
  intro n
  induction n with
  | zero =>
    intro v1 v2 h
    cases h
  | succ n ih =>
    intro v1 v2 h
    rw [bX6_word_97] at h
    refine je_ldcS (i := 2) C (je_r2 C.2.2.2.2.2.2.2.2) dX6_word_97 99 rfl ?_
    refine je_iload_n C dX6_word_99 100 rfl 2 rfl ?_
    obtain ⟨t100, hg, h⟩ := p_cl_inv h
    refine je_callSti (i := 2) (As := [.int v2]) (rest := []) C (by decide) (metJ3_charAt hg) hdJ3_charAt rfl cwX6_215 rfl ⟨Nat.le_of_ble_eq_true rfl, Nat.le_of_ble_eq_true rfl⟩ (Nat.le_of_ble_eq_true rfl) dX6_word_100 103 rfl ⟨Nat.le_refl _, Nat.le_refl _⟩ ?_
    refine je_bipush C (32) dX6_word_103 105 rfl bp_32 ?_
    refine je_icmp_eq C 114 dX6_word_105 108 rfl rfl h (fun h => ?_) (fun h => ?_)
    · refine je_iinc C (1) dX6_word_114 117 rfl 2 rfl ic_1 (Nat.le_of_ble_eq_true rfl) [(2, .int (v2 + (1 : Int32))), (0, .ref (G.2.1 + 66)), (1, .int v1)] rfl ?_
      refine je_iinc C (1) dX6_word_117 120 rfl 2 rfl ic_1 (Nat.le_of_ble_eq_true rfl) [(1, .int (v1 + (1 : Int32))), (2, .int (v2 + (1 : Int32))), (0, .ref (G.2.1 + 66))] rfl ?_
      refine je_goto C 4 dX6_word_120 rfl ?_
      refine je_sub [2, 0, 1] [(0, .ref (G.2.1 + 66)), (1, .int (v1 + (1 : Int32))), (2, .int (v2 + (1 : Int32)))] rfl ?_
      exact hk4 (v1 + (1 : Int32)) (v2 + (1 : Int32)) h
    refine je_iinc C (1) dX6_word_108 111 rfl 2 rfl ic_1 (Nat.le_of_ble_eq_true rfl) [(2, .int (v2 + (1 : Int32))), (0, .ref (G.2.1 + 66)), (1, .int v1)] rfl ?_
    refine je_goto C 97 dX6_word_111 rfl ?_
    refine je_sub [1, 2, 0] [(0, .ref (G.2.1 + 66)), (1, .int v1), (2, .int (v2 + (1 : Int32)))] rfl ?_
    exact ih v1 (v2 + (1 : Int32)) h
set_option maxHeartbeats 4000000 in
theorem wX6_word_69 {p : Program} {l : Launch} {e : Env} {s : State} {m : MethodId} {args : Array Value} {below : List Frame} {meth : Method} {c : Code} {G : je_G} {dyn : Nat → Option je_E} {sz : Nat} {F : Nat} {κ : kp_K} {r9 : Int32} {k4 : kp_K → Int32 → Int32 → Option (Int32)} (C : Cx p s m args meth c G "MinistryDesksModel" cX6_word 4 (some .int)) (hk4 : ∀ (q1 : Int32) (q2 : Int32), k4 κ q1 q2 = some r9 → Js p l e ({ frames := 4, cells := 0, slots := 0, locals := 85 } : Room) s m args below meth c G 4 (MQ below (je_Q G (some (.int r9)) (en2 G κ dyn) sz) args s 0 0 (je_A G)) (en2 G κ dyn) sz 0 0 4 [(0, .ref (G.2.1 + 66)), (1, .int q1), (2, .int q2)] []) (v1 : Int32) (v2 : Int32) (v3 : Int32) (h : bX6_word_69 F k4 κ v1 v2 v3 = some r9) : Js p l e ({ frames := 4, cells := 0, slots := 0, locals := 85 } : Room) s m args below meth c G 4 (MQ below (je_Q G (some (.int r9)) (en2 G κ dyn) sz) args s 0 0 (je_A G)) (en2 G κ dyn) sz 0 0 69 [(0, .ref (G.2.1 + 66)), (1, .int v1), (2, .int v2), (3, .int v3)] [] := by
  unfold bX6_word_69 at h
  refine je_ldcS (i := 2) C (je_r2 C.2.2.2.2.2.2.2.2) dX6_word_69 71 rfl ?_
  refine je_iload_n C dX6_word_71 72 rfl 2 rfl ?_
  refine je_iload_n C dX6_word_72 73 rfl 3 rfl ?_
  refine je_iadd C dX6_word_73 74 rfl ?_
  obtain ⟨t74, hg, h⟩ := p_cl_inv h
  refine je_callSti (i := 2) (As := [.int (v2 + v3)]) (rest := []) C (by decide) (metJ3_charAt hg) hdJ3_charAt rfl cwX6_215 rfl ⟨Nat.le_of_ble_eq_true rfl, Nat.le_of_ble_eq_true rfl⟩ (Nat.le_of_ble_eq_true rfl) dX6_word_74 77 rfl ⟨Nat.le_refl _, Nat.le_refl _⟩ ?_
  refine je_bipush C (32) dX6_word_77 79 rfl bp_32 ?_
  refine je_icmp_ne C 97 dX6_word_79 82 rfl rfl h (fun h => ?_) (fun h => ?_)
  · refine je_sub [0, 1, 2] [(0, .ref (G.2.1 + 66)), (1, .int v1), (2, .int v2)] rfl ?_
    exact wX6_word_97 C hk4 F v1 v2 h
  refine je_aload_n C dX6_word_82 83 rfl 0 rfl ?_
  refine gX6_182 C dX6_word_83 86 rfl ?_
  refine je_iload_n C dX6_word_86 87 rfl 3 rfl ?_
  refine je_iadd C dX6_word_87 88 rfl ?_
  refine je_aload_n C dX6_word_88 89 rfl 0 rfl ?_
  refine gX6_172 C dX6_word_89 92 rfl ?_
  refine je_icmp_ne C 97 dX6_word_92 95 rfl rfl h (fun h => ?_) (fun h => ?_)
  · refine je_sub [0, 1, 2] [(0, .ref (G.2.1 + 66)), (1, .int v1), (2, .int v2)] rfl ?_
    exact wX6_word_97 C hk4 F v1 v2 h
  refine je_iload_n C dX6_word_95 96 rfl 1 rfl ?_
  cases h
  exact je_iret C dX6_word_96
set_option maxHeartbeats 4000000 in
theorem wX6_word_15 {p : Program} {l : Launch} {e : Env} {s : State} {m : MethodId} {args : Array Value} {below : List Frame} {meth : Method} {c : Code} {G : je_G} {dyn : Nat → Option je_E} {sz : Nat} {F : Nat} {κ : kp_K} {r9 : Int32} {k4 : kp_K → Int32 → Int32 → Option (Int32)} (C : Cx p s m args meth c G "MinistryDesksModel" cX6_word 4 (some .int)) (hk4 : ∀ (q1 : Int32) (q2 : Int32), k4 κ q1 q2 = some r9 → Js p l e ({ frames := 4, cells := 0, slots := 0, locals := 85 } : Room) s m args below meth c G 4 (MQ below (je_Q G (some (.int r9)) (en2 G κ dyn) sz) args s 0 0 (je_A G)) (en2 G κ dyn) sz 0 0 4 [(0, .ref (G.2.1 + 66)), (1, .int q1), (2, .int q2)] []) : ∀ (n : Nat) (v1 : Int32) (v2 : Int32) (v3 : Int32), bX6_word_15 F k4 n κ v1 v2 v3 = some r9 → Js p l e ({ frames := 4, cells := 0, slots := 0, locals := 85 } : Room) s m args below meth c G 4 (MQ below (je_Q G (some (.int r9)) (en2 G κ dyn) sz) args s 0 0 (je_A G)) (en2 G κ dyn) sz 0 0 15 [(0, .ref (G.2.1 + 66)), (1, .int v1), (2, .int v2), (3, .int v3)] [] := by
  intro n
  induction n with
  | zero =>
    intro v1 v2 v3 h
    cases h
  | succ n ih =>
    intro v1 v2 v3 h
    rw [bX6_word_15] at h
    refine je_ldcS (i := 2) C (je_r2 C.2.2.2.2.2.2.2.2) dX6_word_15 17 rfl ?_
    refine je_iload_n C dX6_word_17 18 rfl 2 rfl ?_
    refine je_iload_n C dX6_word_18 19 rfl 3 rfl ?_
    refine je_iadd C dX6_word_19 20 rfl ?_
    obtain ⟨t20, hg, h⟩ := p_cl_inv h
    refine je_callSti (i := 2) (As := [.int (v2 + v3)]) (rest := []) C (by decide) (metJ3_charAt hg) hdJ3_charAt rfl cwX6_215 rfl ⟨Nat.le_of_ble_eq_true rfl, Nat.le_of_ble_eq_true rfl⟩ (Nat.le_of_ble_eq_true rfl) dX6_word_20 23 rfl ⟨Nat.le_refl _, Nat.le_refl _⟩ ?_
    refine je_bipush C (32) dX6_word_23 25 rfl bp_32 ?_
    refine je_icmp_eq C 69 dX6_word_25 28 rfl rfl h (fun h => ?_) (fun h => ?_)
    · exact wX6_word_69 C hk4 v1 v2 v3 h
    refine je_aload_n C dX6_word_28 29 rfl 0 rfl ?_
    refine gX6_182 C dX6_word_29 32 rfl ?_
    refine je_iload_n C dX6_word_32 33 rfl 3 rfl ?_
    refine je_iadd C dX6_word_33 34 rfl ?_
    refine je_aload_n C dX6_word_34 35 rfl 0 rfl ?_
    refine gX6_172 C dX6_word_35 38 rfl ?_
    refine je_icmp_ge C 69 dX6_word_38 41 rfl rfl h (fun h => ?_) (fun h => ?_)
    · exact wX6_word_69 C hk4 v1 v2 v3 h
    refine je_aload_n C dX6_word_41 42 rfl 0 rfl ?_
    refine gX6_9 C dX6_word_42 45 rfl ?_
    refine je_aload_n C dX6_word_45 46 rfl 0 rfl ?_
    refine gX6_182 C dX6_word_46 49 rfl ?_
    refine je_iload_n C dX6_word_49 50 rfl 3 rfl ?_
    refine je_iadd C dX6_word_50 51 rfl ?_
    refine je_lti h (fun i51 h => ?_)
    refine jk_iald C kd67 dX6_word_51 52 rfl h (fun h => ?_)
    refine je_ldcS (i := 2) C (je_r2 C.2.2.2.2.2.2.2.2) dX6_word_52 54 rfl ?_
    refine je_iload_n C dX6_word_54 55 rfl 2 rfl ?_
    refine je_iload_n C dX6_word_55 56 rfl 3 rfl ?_
    refine je_iadd C dX6_word_56 57 rfl ?_
    obtain ⟨t57, hg, h⟩ := p_cl_inv h
    refine je_callSti (i := 2) (As := [.int (v2 + v3)]) (rest := [.int (κ.1 67 i51.toNatClampNeg)]) C (by decide) (metJ3_charAt hg) hdJ3_charAt rfl cwX6_215 rfl ⟨Nat.le_of_ble_eq_true rfl, Nat.le_of_ble_eq_true rfl⟩ (Nat.le_of_ble_eq_true rfl) dX6_word_57 60 rfl ⟨Nat.le_refl _, Nat.le_refl _⟩ ?_
    refine je_icmp_ne C 69 dX6_word_60 63 rfl rfl h (fun h => ?_) (fun h => ?_)
    · exact wX6_word_69 C hk4 v1 v2 v3 h
    refine je_iinc C (1) dX6_word_63 66 rfl 3 rfl ic_1 (Nat.le_of_ble_eq_true rfl) [(3, .int (v3 + (1 : Int32))), (0, .ref (G.2.1 + 66)), (1, .int v1), (2, .int v2)] rfl ?_
    refine je_goto C 15 dX6_word_66 rfl ?_
    refine je_sub [1, 2, 3, 0] [(0, .ref (G.2.1 + 66)), (1, .int v1), (2, .int v2), (3, .int (v3 + (1 : Int32)))] rfl ?_
    exact ih v1 v2 (v3 + (1 : Int32)) h
set_option maxHeartbeats 4000000 in
theorem wX6_word_4 {p : Program} {l : Launch} {e : Env} {s : State} {m : MethodId} {args : Array Value} {below : List Frame} {meth : Method} {c : Code} {G : je_G} {dyn : Nat → Option je_E} {sz : Nat} {F : Nat} {κ : kp_K} {r9 : Int32} (C : Cx p s m args meth c G "MinistryDesksModel" cX6_word 4 (some .int)) : ∀ (n : Nat) (v1 : Int32) (v2 : Int32), bX6_word_4 F n κ v1 v2 = some r9 → Js p l e ({ frames := 4, cells := 0, slots := 0, locals := 85 } : Room) s m args below meth c G 4 (MQ below (je_Q G (some (.int r9)) (en2 G κ dyn) sz) args s 0 0 (je_A G)) (en2 G κ dyn) sz 0 0 4 [(0, .ref (G.2.1 + 66)), (1, .int v1), (2, .int v2)] [] := by
  intro n
  induction n with
  | zero =>
    intro v1 v2 h
    cases h
  | succ n ih =>
    intro v1 v2 h
    rw [bX6_word_4] at h
    refine je_iload_n C dX6_word_4 5 rfl 2 rfl ?_
    refine je_ldcS (i := 2) C (je_r2 C.2.2.2.2.2.2.2.2) dX6_word_5 7 rfl ?_
    obtain ⟨t7, hg, h⟩ := p_cl_inv h
    refine je_callSti (i := 2) (As := []) (rest := [.int v2]) C (by decide) (metJ3_length hg) hdJ3_length rfl cwX6_210 rfl ⟨Nat.le_of_ble_eq_true rfl, Nat.le_of_ble_eq_true rfl⟩ (Nat.le_of_ble_eq_true rfl) dX6_word_7 10 rfl ⟨Nat.le_refl _, Nat.le_refl _⟩ ?_
    refine je_icmp_ge C 123 dX6_word_10 13 rfl rfl h (fun h => ?_) (fun h => ?_)
    · refine je_iconst C (-1) dX6_word_123 124 rfl ic_m1 ?_
      cases h
      exact je_iret C dX6_word_124
    refine je_iconst C (0) dX6_word_13 14 rfl ic_0 ?_
    refine je_istore_n C dX6_word_14 15 rfl (Nat.le_of_ble_eq_true rfl) [(3, .int (0 : Int32)), (0, .ref (G.2.1 + 66)), (1, .int v1), (2, .int v2)] rfl ?_
    refine je_sub [1, 2, 3, 0] [(0, .ref (G.2.1 + 66)), (1, .int v1), (2, .int v2), (3, .int (0 : Int32))] rfl ?_
    exact wX6_word_15 C ih F v1 v2 (0 : Int32) h
set_option maxHeartbeats 4000000 in
theorem metX6_word {l : Launch} {G : je_G} {dyn : Nat → Option je_E} {sz : Nat} {F : Nat} {κ : kp_K}  {r9 : Int32} (h : pX6_word F κ = some r9) : MetS l G yX6_word cX6_word 4 (some .int) 4 85 0 0 [.ref (G.2.1 + 66)] (en2 G κ dyn) sz (some (.int r9)) (en2 G κ dyn) sz := by
  refine je_met "MinistryDesksModel" rfl (by decide +kernel) (Nat.le_of_ble_eq_true rfl) [(0, .ref (G.2.1 + 66))] rfl (fun p e s m args below meth c C => ?_)
  unfold pX6_word at h
  refine je_iconst C (0) dX6_word_0 1 rfl ic_0 ?_
  refine je_istore_n C dX6_word_1 2 rfl (Nat.le_of_ble_eq_true rfl) [(1, .int (0 : Int32)), (0, .ref (G.2.1 + 66))] rfl ?_
  refine je_iconst C (0) dX6_word_2 3 rfl ic_0 ?_
  refine je_istore_n C dX6_word_3 4 rfl (Nat.le_of_ble_eq_true rfl) [(2, .int (0 : Int32)), (1, .int (0 : Int32)), (0, .ref (G.2.1 + 66))] rfl ?_
  refine je_sub [2, 1, 0] [(0, .ref (G.2.1 + 66)), (1, .int (0 : Int32)), (2, .int (0 : Int32))] rfl ?_
  exact wX6_word_4 C F (0 : Int32) (0 : Int32) h
theorem bp_6 : (Int8.ofInt (6)).toInt32 = (6 : Int32) := by decide +kernel
theorem ic_5 : Int32.ofInt (5) = (5 : Int32) := by decide +kernel
theorem gX6_195 {p : Program} {l : Launch} {e : Env} {R : Room} {s : State} {m : MethodId} {args : Array Value} {below : List Frame} {meth : Method} {c : Code} {Q : State → Prop} {G : je_G} {cc : ByteArray} {nL : Nat} {rt : Option FieldType} {sz cells slots pc : Nat} {L : List (Nat × Value)} {st : List Value} {κ : kp_K} {dyn : Nat → Option je_E} (C : Cx p s m args meth c G "MinistryDesksModel" cc nL rt) (d : decode cc pc = .ok (.getfield 195, 3)) (n : Nat) (hn : pc + 3 = n) (kk : Js p l e R s m args below meth c G nL Q (en2 G κ dyn) sz cells slots n L (.int (κ.1 66 30) :: st)) : Js p l e R s m args below meth c G nL Q (en2 G κ dyn) sz cells slots pc L (.ref (G.2.1 + 66) :: st) := jk_getI (k := 30) C kd66 rfl in_X6 rfl (by decide) q1710 rfl d n hn kk
theorem sX6_195 {p : Program} {l : Launch} {e : Env} {R : Room} {s : State} {m : MethodId} {args : Array Value} {below : List Frame} {meth : Method} {c : Code} {Q : State → Prop} {G : je_G} {cc : ByteArray} {nL : Nat} {rt : Option FieldType} {sz cells slots pc : Nat} {L : List (Nat × Value)} {st : List Value} {κ : kp_K} {dyn : Nat → Option je_E} (C : Cx p s m args meth c G "MinistryDesksModel" cc nL rt) {v : Int32} (d : decode cc pc = .ok (.putfield 195, 3)) (n : Nat) (hn : pc + 3 = n) (kk : Js p l e R s m args below meth c G nL Q (en2 G (s_i κ 66 30 v) dyn) sz cells slots n L st) : Js p l e R s m args below meth c G nL Q (en2 G κ dyn) sz cells slots pc L (.int v :: .ref (G.2.1 + 66) :: st) := jk_putI (k := 30) C kd66 rfl in_X6 tyX6 tyX6_ok nmX6 rfl (by decide) q1710 rfl rfl rfl d n hn kk
set_option maxHeartbeats 4000000 in
theorem wX6_name_53 {p : Program} {l : Launch} {e : Env} {s : State} {m : MethodId} {args : Array Value} {below : List Frame} {meth : Method} {c : Code} {G : je_G} {dyn : Nat → Option je_E} {sz : Nat} {F : Nat} {r9 : kp_K} {k7 : kp_K → Int32 → Option (kp_K)} (C : Cx p s m args meth c G "MinistryDesksModel" cX6_name 2 none) (hk7 : ∀ (kq : kp_K) (q1 : Int32), k7 kq q1 = some r9 → Js p l e ({ frames := 0, cells := 0, slots := 0, locals := 0 } : Room) s m args below meth c G 2 (MQ below (je_Q G none (en2 G r9 dyn) sz) args s 0 0 (je_A G)) (en2 G kq dyn) sz 0 0 7 [(0, .ref (G.2.1 + 66)), (1, .int q1)] []) (κ : kp_K) (v1 : Int32) (s0 : Int32) (s1 : Int32) (h : bX6_name_53 F k7 κ v1 s0 s1 = some r9) : Js p l e ({ frames := 0, cells := 0, slots := 0, locals := 0 } : Room) s m args below meth c G 2 (MQ below (je_Q G none (en2 G r9 dyn) sz) args s 0 0 (je_A G)) (en2 G κ dyn) sz 0 0 53 [(0, .ref (G.2.1 + 66)), (1, .int v1)] [.int s0, .int s1, .ref (G.2.1 + 66)] := by
  unfold bX6_name_53 at h
  refine je_ior C dX6_name_53 54 rfl ?_
  refine sX6_195 C dX6_name_54 57 rfl ?_
  refine jk_lt h (fun k54 h => ?_)
  refine je_iinc C (1) dX6_name_57 60 rfl 1 rfl ic_1 (Nat.le_of_ble_eq_true rfl) [(1, .int (v1 + (1 : Int32))), (0, .ref (G.2.1 + 66))] rfl ?_
  refine je_goto C 7 dX6_name_60 rfl ?_
  refine je_sub [1, 0] [(0, .ref (G.2.1 + 66)), (1, .int (v1 + (1 : Int32)))] rfl ?_
  exact hk7 k54 (v1 + (1 : Int32)) h
set_option maxHeartbeats 4000000 in
theorem wX6_name_7 {p : Program} {l : Launch} {e : Env} {s : State} {m : MethodId} {args : Array Value} {below : List Frame} {meth : Method} {c : Code} {G : je_G} {dyn : Nat → Option je_E} {sz : Nat} {F : Nat} {r9 : kp_K} (C : Cx p s m args meth c G "MinistryDesksModel" cX6_name 2 none) : ∀ (n : Nat) (κ : kp_K) (v1 : Int32), bX6_name_7 F n κ v1 = some r9 → Js p l e ({ frames := 0, cells := 0, slots := 0, locals := 0 } : Room) s m args below meth c G 2 (MQ below (je_Q G none (en2 G r9 dyn) sz) args s 0 0 (je_A G)) (en2 G κ dyn) sz 0 0 7 [(0, .ref (G.2.1 + 66)), (1, .int v1)] [] := by
  intro n
  induction n with
  | zero =>
    intro κ v1 h
    cases h
  | succ n ih =>
    intro κ v1 h
    rw [bX6_name_7] at h
    refine je_iload_n C dX6_name_7 8 rfl 1 rfl ?_
    refine je_bipush C (6) dX6_name_8 10 rfl bp_6 ?_
    refine je_icmp_ge C 63 dX6_name_10 13 rfl rfl h (fun h => ?_) (fun h => ?_)
    · cases h
      exact je_vret C dX6_name_63
    refine je_aload_n C dX6_name_13 14 rfl 0 rfl ?_
    refine je_aload_n C dX6_name_14 15 rfl 0 rfl ?_
    refine gX6_195 C dX6_name_15 18 rfl ?_
    refine je_iconst C (5) dX6_name_18 19 rfl ic_5 ?_
    refine je_ishl C dX6_name_19 20 rfl ?_
    refine je_aload_n C dX6_name_20 21 rfl 0 rfl ?_
    refine gX6_182 C dX6_name_21 24 rfl ?_
    refine je_iload_n C dX6_name_24 25 rfl 1 rfl ?_
    refine je_iadd C dX6_name_25 26 rfl ?_
    refine je_aload_n C dX6_name_26 27 rfl 0 rfl ?_
    refine gX6_172 C dX6_name_27 30 rfl ?_
    refine je_icmp_ge C 52 dX6_name_30 33 rfl rfl h (fun h => ?_) (fun h => ?_)
    · refine je_iconst C (0) dX6_name_52 53 rfl ic_0 ?_
      exact wX6_name_53 C ih κ v1 (0 : Int32) ((κ.1 66 30) <<< ((5 : Int32) &&& 31)) h
    refine je_aload_n C dX6_name_33 34 rfl 0 rfl ?_
    refine gX6_9 C dX6_name_34 37 rfl ?_
    refine je_aload_n C dX6_name_37 38 rfl 0 rfl ?_
    refine gX6_182 C dX6_name_38 41 rfl ?_
    refine je_iload_n C dX6_name_41 42 rfl 1 rfl ?_
    refine je_iadd C dX6_name_42 43 rfl ?_
    refine je_lti h (fun i43 h => ?_)
    refine jk_iald C kd67 dX6_name_43 44 rfl h (fun h => ?_)
    refine je_bipush C (97) dX6_name_44 46 rfl bp_97 ?_
    refine je_isub C dX6_name_46 47 rfl ?_
    refine je_iconst C (1) dX6_name_47 48 rfl ic_1 ?_
    refine je_iadd C dX6_name_48 49 rfl ?_
    refine je_goto C 53 dX6_name_49 rfl ?_
    exact wX6_name_53 C ih κ v1 (((κ.1 67 i43.toNatClampNeg) - (97 : Int32)) + (1 : Int32)) ((κ.1 66 30) <<< ((5 : Int32) &&& 31)) h
set_option maxHeartbeats 4000000 in
theorem metX6_name {l : Launch} {G : je_G} {dyn : Nat → Option je_E} {sz : Nat} {F : Nat} {κ : kp_K}  {r9 : kp_K} (h : pX6_name F κ = some r9) : MetS l G yX6_name cX6_name 2 none 0 0 0 0 [.ref (G.2.1 + 66)] (en2 G κ dyn) sz none (en2 G r9 dyn) sz := by
  refine je_met "MinistryDesksModel" rfl (by decide +kernel) (Nat.le_of_ble_eq_true rfl) [(0, .ref (G.2.1 + 66))] rfl (fun p e s m args below meth c C => ?_)
  unfold pX6_name at h
  refine je_aload_n C dX6_name_0 1 rfl 0 rfl ?_
  refine je_iconst C (0) dX6_name_1 2 rfl ic_0 ?_
  refine sX6_195 C dX6_name_2 5 rfl ?_
  refine jk_lt h (fun k2 h => ?_)
  refine je_iconst C (0) dX6_name_5 6 rfl ic_0 ?_
  refine je_istore_n C dX6_name_6 7 rfl (Nat.le_of_ble_eq_true rfl) [(1, .int (0 : Int32)), (0, .ref (G.2.1 + 66))] rfl ?_
  refine je_sub [1, 0] [(0, .ref (G.2.1 + 66)), (1, .int (0 : Int32))] rfl ?_
  exact wX6_name_7 C F k2 (0 : Int32) h
theorem bp_48 : (Int8.ofInt (48)).toInt32 = (48 : Int32) := by decide +kernel
theorem bp_57 : (Int8.ofInt (57)).toInt32 = (57 : Int32) := by decide +kernel
set_option maxHeartbeats 4000000 in
theorem metX6_isDigit {l : Launch} {G : je_G} {σ : Nat → Option je_E} {sz : Nat} {v0 : Int32} {r9 : Int32} (h : pX6_isDigit v0 = some r9) : MetS l G yX6_isDigit cX6_isDigit 1 (some .boolean) 0 0 0 0 [.int v0] σ sz (some (.int r9)) σ sz := by
  refine je_met "MinistryDesksModel" rfl (by decide +kernel) (Nat.le_of_ble_eq_true rfl) [(0, .int v0)] rfl (fun p e s m args below meth c C => ?_)
  unfold pX6_isDigit at h
  refine je_iload_n C dX6_isDigit_0 1 rfl 0 rfl ?_
  refine je_bipush C (48) dX6_isDigit_1 3 rfl bp_48 ?_
  refine je_icmp_lt C 16 dX6_isDigit_3 6 rfl rfl h (fun h => ?_) (fun h => ?_)
  · refine je_iconst C (0) dX6_isDigit_16 17 rfl ic_0 ?_
    cases h
    exact je_zret C dX6_isDigit_17 (Or.inl rfl)
  refine je_iload_n C dX6_isDigit_6 7 rfl 0 rfl ?_
  refine je_bipush C (57) dX6_isDigit_7 9 rfl bp_57 ?_
  refine je_icmp_gt C 16 dX6_isDigit_9 12 rfl rfl h (fun h => ?_) (fun h => ?_)
  · refine je_iconst C (0) dX6_isDigit_16 17 rfl ic_0 ?_
    cases h
    exact je_zret C dX6_isDigit_17 (Or.inl rfl)
  refine je_iconst C (1) dX6_isDigit_12 13 rfl ic_1 ?_
  refine je_goto C 17 dX6_isDigit_13 rfl ?_
  cases h
  exact je_zret C dX6_isDigit_17 (Or.inr rfl)
theorem bp_40 : (Int8.ofInt (40)).toInt32 = (40 : Int32) := by decide +kernel
theorem bp_41 : (Int8.ofInt (41)).toInt32 = (41 : Int32) := by decide +kernel
theorem bp_42 : (Int8.ofInt (42)).toInt32 = (42 : Int32) := by decide +kernel
theorem bp_43 : (Int8.ofInt (43)).toInt32 = (43 : Int32) := by decide +kernel
theorem bp_45 : (Int8.ofInt (45)).toInt32 = (45 : Int32) := by decide +kernel
theorem bp_47 : (Int8.ofInt (47)).toInt32 = (47 : Int32) := by decide +kernel
theorem bp_59 : (Int8.ofInt (59)).toInt32 = (59 : Int32) := by decide +kernel
theorem bp_60 : (Int8.ofInt (60)).toInt32 = (60 : Int32) := by decide +kernel
theorem bp_61 : (Int8.ofInt (61)).toInt32 = (61 : Int32) := by decide +kernel
theorem bp_62 : (Int8.ofInt (62)).toInt32 = (62 : Int32) := by decide +kernel
theorem ic_3 : Int32.ofInt (3) = (3 : Int32) := by decide +kernel
theorem sp_256 : (Int16.ofInt (256)).toInt32 = (256 : Int32) := by decide +kernel
theorem sp_257 : (Int16.ofInt (257)).toInt32 = (257 : Int32) := by decide +kernel
theorem sp_258 : (Int16.ofInt (258)).toInt32 = (258 : Int32) := by decide +kernel
theorem hdX6_here : je_hd yX6_here 0 := ⟨by decide +kernel, by decide +kernel, by decide +kernel⟩
theorem cwX6_178 : GoodIn lw_all (wsV "MinistryDesksModel" 178 "MinistryDesksModel" yX6_here (ws_ yX6_here cX6_here 1 (some .int))) := lw_V q1925 q1927 qs79 q169 q1928
theorem sX6_172 {p : Program} {l : Launch} {e : Env} {R : Room} {s : State} {m : MethodId} {args : Array Value} {below : List Frame} {meth : Method} {c : Code} {Q : State → Prop} {G : je_G} {cc : ByteArray} {nL : Nat} {rt : Option FieldType} {sz cells slots pc : Nat} {L : List (Nat × Value)} {st : List Value} {κ : kp_K} {dyn : Nat → Option je_E} (C : Cx p s m args meth c G "MinistryDesksModel" cc nL rt) {v : Int32} (d : decode cc pc = .ok (.putfield 172, 3)) (n : Nat) (hn : pc + 3 = n) (kk : Js p l e R s m args below meth c G nL Q (en2 G (s_i κ 66 27 v) dyn) sz cells slots n L st) : Js p l e R s m args below meth c G nL Q (en2 G κ dyn) sz cells slots pc L (.int v :: .ref (G.2.1 + 66) :: st) := jk_putI (k := 27) C kd66 rfl in_X6 tyX6 tyX6_ok nmX6 rfl (by decide) q1707 rfl rfl rfl d n hn kk
theorem sX6_185 {p : Program} {l : Launch} {e : Env} {R : Room} {s : State} {m : MethodId} {args : Array Value} {below : List Frame} {meth : Method} {c : Code} {Q : State → Prop} {G : je_G} {cc : ByteArray} {nL : Nat} {rt : Option FieldType} {sz cells slots pc : Nat} {L : List (Nat × Value)} {st : List Value} {κ : kp_K} {dyn : Nat → Option je_E} (C : Cx p s m args meth c G "MinistryDesksModel" cc nL rt) {v : Int32} (d : decode cc pc = .ok (.putfield 185, 3)) (n : Nat) (hn : pc + 3 = n) (kk : Js p l e R s m args below meth c G nL Q (en2 G (s_i κ 66 29 v) dyn) sz cells slots n L st) : Js p l e R s m args below meth c G nL Q (en2 G κ dyn) sz cells slots pc L (.int v :: .ref (G.2.1 + 66) :: st) := jk_putI (k := 29) C kd66 rfl in_X6 tyX6 tyX6_ok nmX6 rfl (by decide) q1709 rfl rfl rfl d n hn kk
set_option maxHeartbeats 4000000 in
theorem wX6_sign_150 {p : Program} {l : Launch} {e : Env} {s : State} {m : MethodId} {args : Array Value} {below : List Frame} {meth : Method} {c : Code} {G : je_G} {dyn : Nat → Option je_E} {sz : Nat} {r9 : kp_K} (C : Cx p s m args meth c G "MinistryDesksModel" cX6_sign 2 none) (κ : kp_K) (h : bX6_sign_150 κ = some r9) : Js p l e ({ frames := 1, cells := 0, slots := 0, locals := 20 } : Room) s m args below meth c G 2 (MQ below (je_Q G none (en2 G r9 dyn) sz) args s 0 0 (je_A G)) (en2 G κ dyn) sz 0 0 150 [(0, .ref (G.2.1 + 66))] [] := by
  unfold bX6_sign_150 at h
  refine je_aload_n C dX6_sign_150 151 rfl 0 rfl ?_
  refine gX6_195 C dX6_sign_151 154 rfl ?_
  refine je_sipush C (256) dX6_sign_154 157 rfl sp_256 ?_
  refine je_icmp_lt C 170 dX6_sign_157 160 rfl rfl h (fun h => ?_) (fun h => ?_)
  · cases h
    exact je_vret C dX6_sign_170
  refine je_aload_n C dX6_sign_160 161 rfl 0 rfl ?_
  refine je_dup C dX6_sign_161 162 rfl rfl ?_
  refine gX6_172 C dX6_sign_162 165 rfl ?_
  refine je_iconst C (1) dX6_sign_165 166 rfl ic_1 ?_
  refine je_iadd C dX6_sign_166 167 rfl ?_
  refine sX6_172 C dX6_sign_167 170 rfl ?_
  refine jk_lt h (fun k167 h => ?_)
  cases h
  exact je_vret C dX6_sign_170
set_option maxHeartbeats 4000000 in
theorem wX6_sign_128 {p : Program} {l : Launch} {e : Env} {s : State} {m : MethodId} {args : Array Value} {below : List Frame} {meth : Method} {c : Code} {G : je_G} {dyn : Nat → Option je_E} {sz : Nat} {r9 : kp_K} (C : Cx p s m args meth c G "MinistryDesksModel" cX6_sign 2 none) (κ : kp_K) (v1 : Int32) (h : bX6_sign_128 κ v1 = some r9) : Js p l e ({ frames := 1, cells := 0, slots := 0, locals := 20 } : Room) s m args below meth c G 2 (MQ below (je_Q G none (en2 G r9 dyn) sz) args s 0 0 (je_A G)) (en2 G κ dyn) sz 0 0 128 [(0, .ref (G.2.1 + 66)), (1, .int v1)] [] := by
  unfold bX6_sign_128 at h
  refine je_iload_n C dX6_sign_128 129 rfl 1 rfl ?_
  refine je_bipush C (62) dX6_sign_129 131 rfl bp_62 ?_
  refine je_icmp_ne C 150 dX6_sign_131 134 rfl rfl h (fun h => ?_) (fun h => ?_)
  · refine je_sub [0] [(0, .ref (G.2.1 + 66))] rfl ?_
    exact wX6_sign_150 C κ h
  refine je_aload_n C dX6_sign_134 135 rfl 0 rfl ?_
  obtain ⟨t135, hg, h⟩ := p_cl_inv h
  refine je_callVi (As := []) (rest := []) C (metX6_here hg) (en2_at kd66) rfl hdX6_here rfl cwX6_178 rfl ⟨Nat.le_of_ble_eq_true rfl, Nat.le_of_ble_eq_true rfl⟩ (Nat.le_of_ble_eq_true rfl) dX6_sign_135 138 rfl ⟨Nat.le_refl _, Nat.le_refl _⟩ ?_
  refine je_bipush C (61) dX6_sign_138 140 rfl bp_61 ?_
  refine je_icmp_ne C 150 dX6_sign_140 143 rfl rfl h (fun h => ?_) (fun h => ?_)
  · refine je_sub [0] [(0, .ref (G.2.1 + 66))] rfl ?_
    exact wX6_sign_150 C κ h
  refine je_aload_n C dX6_sign_143 144 rfl 0 rfl ?_
  refine je_sipush C (258) dX6_sign_144 147 rfl sp_258 ?_
  refine sX6_195 C dX6_sign_147 150 rfl ?_
  refine jk_lt h (fun k147 h => ?_)
  refine je_sub [0] [(0, .ref (G.2.1 + 66))] rfl ?_
  exact wX6_sign_150 C k147 h
set_option maxHeartbeats 4000000 in
theorem wX6_sign_106 {p : Program} {l : Launch} {e : Env} {s : State} {m : MethodId} {args : Array Value} {below : List Frame} {meth : Method} {c : Code} {G : je_G} {dyn : Nat → Option je_E} {sz : Nat} {r9 : kp_K} (C : Cx p s m args meth c G "MinistryDesksModel" cX6_sign 2 none) (κ : kp_K) (v1 : Int32) (h : bX6_sign_106 κ v1 = some r9) : Js p l e ({ frames := 1, cells := 0, slots := 0, locals := 20 } : Room) s m args below meth c G 2 (MQ below (je_Q G none (en2 G r9 dyn) sz) args s 0 0 (je_A G)) (en2 G κ dyn) sz 0 0 106 [(0, .ref (G.2.1 + 66)), (1, .int v1)] [] := by
  unfold bX6_sign_106 at h
  refine je_iload_n C dX6_sign_106 107 rfl 1 rfl ?_
  refine je_bipush C (60) dX6_sign_107 109 rfl bp_60 ?_
  refine je_icmp_ne C 128 dX6_sign_109 112 rfl rfl h (fun h => ?_) (fun h => ?_)
  · exact wX6_sign_128 C κ v1 h
  refine je_aload_n C dX6_sign_112 113 rfl 0 rfl ?_
  obtain ⟨t113, hg, h⟩ := p_cl_inv h
  refine je_callVi (As := []) (rest := []) C (metX6_here hg) (en2_at kd66) rfl hdX6_here rfl cwX6_178 rfl ⟨Nat.le_of_ble_eq_true rfl, Nat.le_of_ble_eq_true rfl⟩ (Nat.le_of_ble_eq_true rfl) dX6_sign_113 116 rfl ⟨Nat.le_refl _, Nat.le_refl _⟩ ?_
  refine je_bipush C (62) dX6_sign_116 118 rfl bp_62 ?_
  refine je_icmp_ne C 128 dX6_sign_118 121 rfl rfl h (fun h => ?_) (fun h => ?_)
  · exact wX6_sign_128 C κ v1 h
  refine je_aload_n C dX6_sign_121 122 rfl 0 rfl ?_
  refine je_sipush C (257) dX6_sign_122 125 rfl sp_257 ?_
  refine sX6_195 C dX6_sign_125 128 rfl ?_
  refine jk_lt h (fun k125 h => ?_)
  exact wX6_sign_128 C k125 v1 h
set_option maxHeartbeats 4000000 in
theorem wX6_sign_76 {p : Program} {l : Launch} {e : Env} {s : State} {m : MethodId} {args : Array Value} {below : List Frame} {meth : Method} {c : Code} {G : je_G} {dyn : Nat → Option je_E} {sz : Nat} {r9 : kp_K} (C : Cx p s m args meth c G "MinistryDesksModel" cX6_sign 2 none) (κ : kp_K) (v1 : Int32) (s0 : Int32) (h : bX6_sign_76 κ v1 s0 = some r9) : Js p l e ({ frames := 1, cells := 0, slots := 0, locals := 20 } : Room) s m args below meth c G 2 (MQ below (je_Q G none (en2 G r9 dyn) sz) args s 0 0 (je_A G)) (en2 G κ dyn) sz 0 0 76 [(0, .ref (G.2.1 + 66)), (1, .int v1)] [.int s0, .ref (G.2.1 + 66)] := by
  unfold bX6_sign_76 at h
  refine sX6_185 C dX6_sign_76 79 rfl ?_
  refine jk_lt h (fun k76 h => ?_)
  refine je_aload_n C dX6_sign_79 80 rfl 0 rfl ?_
  refine je_iload_n C dX6_sign_80 81 rfl 1 rfl ?_
  refine sX6_195 C dX6_sign_81 84 rfl ?_
  refine jk_lt h (fun k81 h => ?_)
  refine je_iload_n C dX6_sign_84 85 rfl 1 rfl ?_
  refine je_bipush C (60) dX6_sign_85 87 rfl bp_60 ?_
  refine je_icmp_ne C 106 dX6_sign_87 90 rfl rfl h (fun h => ?_) (fun h => ?_)
  · exact wX6_sign_106 C k81 v1 h
  refine je_aload_n C dX6_sign_90 91 rfl 0 rfl ?_
  obtain ⟨t91, hg, h⟩ := p_cl_inv h
  refine je_callVi (As := []) (rest := []) C (metX6_here hg) (en2_at kd66) rfl hdX6_here rfl cwX6_178 rfl ⟨Nat.le_of_ble_eq_true rfl, Nat.le_of_ble_eq_true rfl⟩ (Nat.le_of_ble_eq_true rfl) dX6_sign_91 94 rfl ⟨Nat.le_refl _, Nat.le_refl _⟩ ?_
  refine je_bipush C (61) dX6_sign_94 96 rfl bp_61 ?_
  refine je_icmp_ne C 106 dX6_sign_96 99 rfl rfl h (fun h => ?_) (fun h => ?_)
  · exact wX6_sign_106 C k81 v1 h
  refine je_aload_n C dX6_sign_99 100 rfl 0 rfl ?_
  refine je_sipush C (256) dX6_sign_100 103 rfl sp_256 ?_
  refine sX6_195 C dX6_sign_103 106 rfl ?_
  refine jk_lt h (fun k103 h => ?_)
  exact wX6_sign_106 C k103 v1 h
set_option maxHeartbeats 4000000 in
theorem wX6_sign_71 {p : Program} {l : Launch} {e : Env} {s : State} {m : MethodId} {args : Array Value} {below : List Frame} {meth : Method} {c : Code} {G : je_G} {dyn : Nat → Option je_E} {sz : Nat} {r9 : kp_K} (C : Cx p s m args meth c G "MinistryDesksModel" cX6_sign 2 none) (κ : kp_K) (v1 : Int32) (h : bX6_sign_71 κ v1 = some r9) : Js p l e ({ frames := 1, cells := 0, slots := 0, locals := 20 } : Room) s m args below meth c G 2 (MQ below (je_Q G none (en2 G r9 dyn) sz) args s 0 0 (je_A G)) (en2 G κ dyn) sz 0 0 71 [(0, .ref (G.2.1 + 66)), (1, .int v1)] [.ref (G.2.1 + 66)] := by
  unfold bX6_sign_71 at h
  refine je_iconst C (3) dX6_sign_71 72 rfl ic_3 ?_
  refine je_goto C 76 dX6_sign_72 rfl ?_
  exact wX6_sign_76 C κ v1 (3 : Int32) h
set_option maxHeartbeats 4000000 in
theorem metX6_sign {l : Launch} {G : je_G} {dyn : Nat → Option je_E} {sz : Nat} {κ : kp_K} {v1 : Int32} {r9 : kp_K} (h : pX6_sign κ v1 = some r9) : MetS l G yX6_sign cX6_sign 2 none 1 20 0 0 [.ref (G.2.1 + 66), .int v1] (en2 G κ dyn) sz none (en2 G r9 dyn) sz := by
  refine je_met "MinistryDesksModel" rfl (by decide +kernel) (Nat.le_of_ble_eq_true rfl) [(0, .ref (G.2.1 + 66)), (1, .int v1)] rfl (fun p e s m args below meth c C => ?_)
  unfold pX6_sign at h
  refine je_aload_n C dX6_sign_0 1 rfl 0 rfl ?_
  refine je_dup C dX6_sign_1 2 rfl rfl ?_
  refine gX6_172 C dX6_sign_2 5 rfl ?_
  refine je_iconst C (1) dX6_sign_5 6 rfl ic_1 ?_
  refine je_iadd C dX6_sign_6 7 rfl ?_
  refine sX6_172 C dX6_sign_7 10 rfl ?_
  refine jk_lt h (fun k7 h => ?_)
  refine je_aload_n C dX6_sign_10 11 rfl 0 rfl ?_
  refine je_iload_n C dX6_sign_11 12 rfl 1 rfl ?_
  refine je_bipush C (59) dX6_sign_12 14 rfl bp_59 ?_
  refine je_icmp_eq C 71 dX6_sign_14 17 rfl rfl h (fun h => ?_) (fun h => ?_)
  · exact wX6_sign_71 C k7 v1 h
  refine je_iload_n C dX6_sign_17 18 rfl 1 rfl ?_
  refine je_bipush C (40) dX6_sign_18 20 rfl bp_40 ?_
  refine je_icmp_eq C 71 dX6_sign_20 23 rfl rfl h (fun h => ?_) (fun h => ?_)
  · exact wX6_sign_71 C k7 v1 h
  refine je_iload_n C dX6_sign_23 24 rfl 1 rfl ?_
  refine je_bipush C (41) dX6_sign_24 26 rfl bp_41 ?_
  refine je_icmp_eq C 71 dX6_sign_26 29 rfl rfl h (fun h => ?_) (fun h => ?_)
  · exact wX6_sign_71 C k7 v1 h
  refine je_iload_n C dX6_sign_29 30 rfl 1 rfl ?_
  refine je_bipush C (43) dX6_sign_30 32 rfl bp_43 ?_
  refine je_icmp_eq C 71 dX6_sign_32 35 rfl rfl h (fun h => ?_) (fun h => ?_)
  · exact wX6_sign_71 C k7 v1 h
  refine je_iload_n C dX6_sign_35 36 rfl 1 rfl ?_
  refine je_bipush C (45) dX6_sign_36 38 rfl bp_45 ?_
  refine je_icmp_eq C 71 dX6_sign_38 41 rfl rfl h (fun h => ?_) (fun h => ?_)
  · exact wX6_sign_71 C k7 v1 h
  refine je_iload_n C dX6_sign_41 42 rfl 1 rfl ?_
  refine je_bipush C (42) dX6_sign_42 44 rfl bp_42 ?_
  refine je_icmp_eq C 71 dX6_sign_44 47 rfl rfl h (fun h => ?_) (fun h => ?_)
  · exact wX6_sign_71 C k7 v1 h
  refine je_iload_n C dX6_sign_47 48 rfl 1 rfl ?_
  refine je_bipush C (47) dX6_sign_48 50 rfl bp_47 ?_
  refine je_icmp_eq C 71 dX6_sign_50 53 rfl rfl h (fun h => ?_) (fun h => ?_)
  · exact wX6_sign_71 C k7 v1 h
  refine je_iload_n C dX6_sign_53 54 rfl 1 rfl ?_
  refine je_bipush C (60) dX6_sign_54 56 rfl bp_60 ?_
  refine je_icmp_eq C 71 dX6_sign_56 59 rfl rfl h (fun h => ?_) (fun h => ?_)
  · exact wX6_sign_71 C k7 v1 h
  refine je_iload_n C dX6_sign_59 60 rfl 1 rfl ?_
  refine je_bipush C (61) dX6_sign_60 62 rfl bp_61 ?_
  refine je_icmp_eq C 71 dX6_sign_62 65 rfl rfl h (fun h => ?_) (fun h => ?_)
  · exact wX6_sign_71 C k7 v1 h
  refine je_iload_n C dX6_sign_65 66 rfl 1 rfl ?_
  refine je_bipush C (62) dX6_sign_66 68 rfl bp_62 ?_
  refine je_icmp_ne C 75 dX6_sign_68 71 rfl rfl h (fun h => ?_) (fun h => ?_)
  · refine je_iconst C (5) dX6_sign_75 76 rfl ic_5 ?_
    exact wX6_sign_76 C k7 v1 (5 : Int32) h
  exact wX6_sign_71 C k7 v1 h
theorem bp_10 : (Int8.ofInt (10)).toInt32 = (10 : Int32) := by decide +kernel
theorem sp_9999 : (Int16.ofInt (9999)).toInt32 = (9999 : Int32) := by decide +kernel
theorem hdX6_isDigit : je_hd yX6_isDigit 1 := ⟨by decide +kernel, by decide +kernel, by decide +kernel⟩
theorem hdX6_isSmall : je_hd yX6_isSmall 1 := ⟨by decide +kernel, by decide +kernel, by decide +kernel⟩
theorem hdX6_name : je_hd yX6_name 0 := ⟨by decide +kernel, by decide +kernel, by decide +kernel⟩
theorem hdX6_sign : je_hd yX6_sign 1 := ⟨by decide +kernel, by decide +kernel, by decide +kernel⟩
theorem hdX6_word : je_hd yX6_word 0 := ⟨by decide +kernel, by decide +kernel, by decide +kernel⟩
theorem cwX6_188 : GoodIn lw_all (va_wsS "MinistryDesksModel" 188 yX6_isSmall (ws_ yX6_isSmall cX6_isSmall 1 (some .boolean))) := lw_S q1929 q1930 q169 q1931
theorem cwX6_192 : GoodIn lw_all (wsV "MinistryDesksModel" 192 "MinistryDesksModel" yX6_word (ws_ yX6_word cX6_word 4 (some .int))) := lw_V q1932 q1934 qs80 q169 q1935
theorem cwX6_198 : GoodIn lw_all (wsV "MinistryDesksModel" 198 "MinistryDesksModel" yX6_name (ws_ yX6_name cX6_name 2 none)) := lw_V q1939 q1941 qs81 q169 q1942
theorem cwX6_201 : GoodIn lw_all (va_wsS "MinistryDesksModel" 201 yX6_isDigit (ws_ yX6_isDigit cX6_isDigit 1 (some .boolean))) := lw_S q1943 q1944 q169 q1945
theorem cwX6_204 : GoodIn lw_all (wsV "MinistryDesksModel" 204 "MinistryDesksModel" yX6_sign (ws_ yX6_sign cX6_sign 2 none)) := lw_V q1946 q1948 qs82 q169 q1949
theorem gX6_185 {p : Program} {l : Launch} {e : Env} {R : Room} {s : State} {m : MethodId} {args : Array Value} {below : List Frame} {meth : Method} {c : Code} {Q : State → Prop} {G : je_G} {cc : ByteArray} {nL : Nat} {rt : Option FieldType} {sz cells slots pc : Nat} {L : List (Nat × Value)} {st : List Value} {κ : kp_K} {dyn : Nat → Option je_E} (C : Cx p s m args meth c G "MinistryDesksModel" cc nL rt) (d : decode cc pc = .ok (.getfield 185, 3)) (n : Nat) (hn : pc + 3 = n) (kk : Js p l e R s m args below meth c G nL Q (en2 G κ dyn) sz cells slots n L (.int (κ.1 66 29) :: st)) : Js p l e R s m args below meth c G nL Q (en2 G κ dyn) sz cells slots pc L (.ref (G.2.1 + 66) :: st) := jk_getI (k := 29) C kd66 rfl in_X6 rfl (by decide) q1709 rfl d n hn kk
theorem sX6_182 {p : Program} {l : Launch} {e : Env} {R : Room} {s : State} {m : MethodId} {args : Array Value} {below : List Frame} {meth : Method} {c : Code} {Q : State → Prop} {G : je_G} {cc : ByteArray} {nL : Nat} {rt : Option FieldType} {sz cells slots pc : Nat} {L : List (Nat × Value)} {st : List Value} {κ : kp_K} {dyn : Nat → Option je_E} (C : Cx p s m args meth c G "MinistryDesksModel" cc nL rt) {v : Int32} (d : decode cc pc = .ok (.putfield 182, 3)) (n : Nat) (hn : pc + 3 = n) (kk : Js p l e R s m args below meth c G nL Q (en2 G (s_i κ 66 28 v) dyn) sz cells slots n L st) : Js p l e R s m args below meth c G nL Q (en2 G κ dyn) sz cells slots pc L (.int v :: .ref (G.2.1 + 66) :: st) := jk_putI (k := 28) C kd66 rfl in_X6 tyX6 tyX6_ok nmX6 rfl (by decide) q1708 rfl rfl rfl d n hn kk
set_option maxHeartbeats 4000000 in
theorem wX6_token_18 {p : Program} {l : Launch} {e : Env} {s : State} {m : MethodId} {args : Array Value} {below : List Frame} {meth : Method} {c : Code} {G : je_G} {dyn : Nat → Option je_E} {sz : Nat} {F : Nat} {r9 : kp_K} {k0 : kp_K → Option (kp_K)} (C : Cx p s m args meth c G "MinistryDesksModel" cX6_token 2 none) (hk0 : ∀ (kq : kp_K), k0 kq = some r9 → Js p l e ({ frames := 5, cells := 0, slots := 0, locals := 108 } : Room) s m args below meth c G 2 (MQ below (je_Q G none (en2 G r9 dyn) sz) args s 0 0 (je_A G)) (en2 G kq dyn) sz 0 0 0 [(0, .ref (G.2.1 + 66))] []) (κ : kp_K) (h : bX6_token_18 F k0 κ = some r9) : Js p l e ({ frames := 5, cells := 0, slots := 0, locals := 108 } : Room) s m args below meth c G 2 (MQ below (je_Q G none (en2 G r9 dyn) sz) args s 0 0 (je_A G)) (en2 G κ dyn) sz 0 0 18 [(0, .ref (G.2.1 + 66))] [] := by
  unfold bX6_token_18 at h
  refine je_aload_n C dX6_token_18 19 rfl 0 rfl ?_
  refine je_dup C dX6_token_19 20 rfl rfl ?_
  refine gX6_172 C dX6_token_20 23 rfl ?_
  refine je_iconst C (1) dX6_token_23 24 rfl ic_1 ?_
  refine je_iadd C dX6_token_24 25 rfl ?_
  refine sX6_172 C dX6_token_25 28 rfl ?_
  refine jk_lt h (fun k25 h => ?_)
  refine je_goto C 0 dX6_token_28 rfl ?_
  exact hk0 k25 h
set_option maxHeartbeats 4000000 in
theorem wX6_token_205 {p : Program} {l : Launch} {e : Env} {s : State} {m : MethodId} {args : Array Value} {below : List Frame} {meth : Method} {c : Code} {G : je_G} {dyn : Nat → Option je_E} {sz : Nat} {F : Nat} {r9 : kp_K} {k162 : kp_K → Option (kp_K)} (C : Cx p s m args meth c G "MinistryDesksModel" cX6_token 2 none) (hk162 : ∀ (kq : kp_K), k162 kq = some r9 → Js p l e ({ frames := 5, cells := 0, slots := 0, locals := 108 } : Room) s m args below meth c G 2 (MQ below (je_Q G none (en2 G r9 dyn) sz) args s 0 0 (je_A G)) (en2 G kq dyn) sz 0 0 162 [(0, .ref (G.2.1 + 66))] []) (κ : kp_K) (s0 : Int32) (h : bX6_token_205 F k162 κ s0 = some r9) : Js p l e ({ frames := 5, cells := 0, slots := 0, locals := 108 } : Room) s m args below meth c G 2 (MQ below (je_Q G none (en2 G r9 dyn) sz) args s 0 0 (je_A G)) (en2 G κ dyn) sz 0 0 205 [(0, .ref (G.2.1 + 66))] [.int s0, .ref (G.2.1 + 66)] := by
  unfold bX6_token_205 at h
  refine sX6_195 C dX6_token_205 208 rfl ?_
  refine jk_lt h (fun k205 h => ?_)
  refine je_aload_n C dX6_token_208 209 rfl 0 rfl ?_
  refine je_dup C dX6_token_209 210 rfl rfl ?_
  refine gX6_172 C dX6_token_210 213 rfl ?_
  refine je_iconst C (1) dX6_token_213 214 rfl ic_1 ?_
  refine je_iadd C dX6_token_214 215 rfl ?_
  refine sX6_172 C dX6_token_215 218 rfl ?_
  refine jk_lt h (fun k215 h => ?_)
  refine je_goto C 162 dX6_token_218 rfl ?_
  exact hk162 k215 h
set_option maxHeartbeats 4000000 in
theorem wX6_token_162 {p : Program} {l : Launch} {e : Env} {s : State} {m : MethodId} {args : Array Value} {below : List Frame} {meth : Method} {c : Code} {G : je_G} {dyn : Nat → Option je_E} {sz : Nat} {F : Nat} {r9 : kp_K} (C : Cx p s m args meth c G "MinistryDesksModel" cX6_token 2 none) : ∀ (n : Nat) (κ : kp_K), bX6_token_162 F n κ = some r9 → Js p l e ({ frames := 5, cells := 0, slots := 0, locals := 108 } : Room) s m args below meth c G 2 (MQ below (je_Q G none (en2 G r9 dyn) sz) args s 0 0 (je_A G)) (en2 G κ dyn) sz 0 0 162 [(0, .ref (G.2.1 + 66))] [] := by
  intro n
  induction n with
  | zero =>
    intro κ h
    cases h
  | succ n ih =>
    intro κ h
    rw [bX6_token_162] at h
    refine je_aload_n C dX6_token_162 163 rfl 0 rfl ?_
    obtain ⟨t163, hg, h⟩ := p_cl_inv h
    refine je_callVi (As := []) (rest := []) C (metX6_here hg) (en2_at kd66) rfl hdX6_here rfl cwX6_178 rfl ⟨Nat.le_of_ble_eq_true rfl, Nat.le_of_ble_eq_true rfl⟩ (Nat.le_of_ble_eq_true rfl) dX6_token_163 166 rfl ⟨Nat.le_refl _, Nat.le_refl _⟩ ?_
    obtain ⟨t166, hg, h⟩ := p_cl_inv h
    refine je_callSi (As := [.int t163]) (rest := []) C (metX6_isDigit hg) hdX6_isDigit cwX6_201 rfl ⟨Nat.le_of_ble_eq_true rfl, Nat.le_of_ble_eq_true rfl⟩ (Nat.le_of_ble_eq_true rfl) dX6_token_166 169 rfl ⟨Nat.le_refl _, Nat.le_refl _⟩ ?_
    refine je_if_eq C 226 dX6_token_169 172 rfl rfl h (fun h => ?_) (fun h => ?_)
    · cases h
      exact je_vret C dX6_token_226
    refine je_aload_n C dX6_token_172 173 rfl 0 rfl ?_
    refine je_aload_n C dX6_token_173 174 rfl 0 rfl ?_
    refine gX6_195 C dX6_token_174 177 rfl ?_
    refine je_sipush C (9999) dX6_token_177 180 rfl sp_9999 ?_
    refine je_icmp_le C 190 dX6_token_180 183 rfl rfl h (fun h => ?_) (fun h => ?_)
    · refine je_bipush C (10) dX6_token_190 192 rfl bp_10 ?_
      refine je_aload_n C dX6_token_192 193 rfl 0 rfl ?_
      refine gX6_195 C dX6_token_193 196 rfl ?_
      refine je_imul C dX6_token_196 197 rfl ?_
      refine je_aload_n C dX6_token_197 198 rfl 0 rfl ?_
      obtain ⟨t198, hg, h⟩ := p_cl_inv h
      refine je_callVi (As := []) (rest := [.int ((10 : Int32) * (κ.1 66 30)), .ref (G.2.1 + 66)]) C (metX6_here hg) (en2_at kd66) rfl hdX6_here rfl cwX6_178 rfl ⟨Nat.le_of_ble_eq_true rfl, Nat.le_of_ble_eq_true rfl⟩ (Nat.le_of_ble_eq_true rfl) dX6_token_198 201 rfl ⟨Nat.le_refl _, Nat.le_refl _⟩ ?_
      refine je_iadd C dX6_token_201 202 rfl ?_
      refine je_bipush C (48) dX6_token_202 204 rfl bp_48 ?_
      refine je_isub C dX6_token_204 205 rfl ?_
      exact wX6_token_205 C ih κ ((((10 : Int32) * (κ.1 66 30)) + t198) - (48 : Int32)) h
    refine je_aload_n C dX6_token_183 184 rfl 0 rfl ?_
    refine gX6_195 C dX6_token_184 187 rfl ?_
    refine je_goto C 205 dX6_token_187 rfl ?_
    exact wX6_token_205 C ih κ (κ.1 66 30) h
set_option maxHeartbeats 4000000 in
theorem wX6_token_127 {p : Program} {l : Launch} {e : Env} {s : State} {m : MethodId} {args : Array Value} {below : List Frame} {meth : Method} {c : Code} {G : je_G} {dyn : Nat → Option je_E} {sz : Nat} {F : Nat} {r9 : kp_K} (C : Cx p s m args meth c G "MinistryDesksModel" cX6_token 2 none) (κ : kp_K) (s0 : Int32) (h : bX6_token_127 F κ s0 = some r9) : Js p l e ({ frames := 5, cells := 0, slots := 0, locals := 108 } : Room) s m args below meth c G 2 (MQ below (je_Q G none (en2 G r9 dyn) sz) args s 0 0 (je_A G)) (en2 G κ dyn) sz 0 0 127 [(0, .ref (G.2.1 + 66))] [.int s0, .ref (G.2.1 + 66)] := by
  unfold bX6_token_127 at h
  refine sX6_185 C dX6_token_127 130 rfl ?_
  refine jk_lt h (fun k127 h => ?_)
  refine je_aload_n C dX6_token_130 131 rfl 0 rfl ?_
  refine gX6_185 C dX6_token_131 134 rfl ?_
  refine je_iconst C (1) dX6_token_134 135 rfl ic_1 ?_
  refine je_icmp_ne C 226 dX6_token_135 138 rfl rfl h (fun h => ?_) (fun h => ?_)
  · cases h
    exact je_vret C dX6_token_226
  refine je_aload_n C dX6_token_138 139 rfl 0 rfl ?_
  obtain ⟨k139, hg, h⟩ := p_cl_inv h
  refine je_callVv (As := []) (rest := []) C (metX6_name hg) (en2_at kd66) rfl hdX6_name rfl cwX6_198 rfl ⟨Nat.le_of_ble_eq_true rfl, Nat.le_of_ble_eq_true rfl⟩ (Nat.le_of_ble_eq_true rfl) dX6_token_139 142 rfl ⟨Nat.le_refl _, Nat.le_refl _⟩ ?_
  refine je_goto C 226 dX6_token_142 rfl ?_
  cases h
  exact je_vret C dX6_token_226
set_option maxHeartbeats 4000000 in
theorem wX6_token_64 {p : Program} {l : Launch} {e : Env} {s : State} {m : MethodId} {args : Array Value} {below : List Frame} {meth : Method} {c : Code} {G : je_G} {dyn : Nat → Option je_E} {sz : Nat} {F : Nat} {r9 : kp_K} (C : Cx p s m args meth c G "MinistryDesksModel" cX6_token 2 none) : ∀ (n : Nat) (κ : kp_K), bX6_token_64 F n κ = some r9 → Js p l e ({ frames := 5, cells := 0, slots := 0, locals := 108 } : Room) s m args below meth c G 2 (MQ below (je_Q G none (en2 G r9 dyn) sz) args s 0 0 (je_A G)) (en2 G κ dyn) sz 0 0 64 [(0, .ref (G.2.1 + 66))] [] := by
  intro n
  induction n with
  | zero =>
    intro κ h
    cases h
  | succ n ih =>
    intro κ h
    rw [bX6_token_64] at h
    refine je_aload_n C dX6_token_64 65 rfl 0 rfl ?_
    obtain ⟨t65, hg, h⟩ := p_cl_inv h
    refine je_callVi (As := []) (rest := []) C (metX6_here hg) (en2_at kd66) rfl hdX6_here rfl cwX6_178 rfl ⟨Nat.le_of_ble_eq_true rfl, Nat.le_of_ble_eq_true rfl⟩ (Nat.le_of_ble_eq_true rfl) dX6_token_65 68 rfl ⟨Nat.le_refl _, Nat.le_refl _⟩ ?_
    obtain ⟨t68, hg, h⟩ := p_cl_inv h
    refine je_callSi (As := [.int t65]) (rest := []) C (metX6_isSmall hg) hdX6_isSmall cwX6_188 rfl ⟨Nat.le_of_ble_eq_true rfl, Nat.le_of_ble_eq_true rfl⟩ (Nat.le_of_ble_eq_true rfl) dX6_token_68 71 rfl ⟨Nat.le_refl _, Nat.le_refl _⟩ ?_
    refine je_if_eq C 87 dX6_token_71 74 rfl rfl h (fun h => ?_) (fun h => ?_)
    · refine je_aload_n C dX6_token_87 88 rfl 0 rfl ?_
      refine je_aload_n C dX6_token_88 89 rfl 0 rfl ?_
      obtain ⟨t89, hg, h⟩ := p_cl_inv h
      refine je_callVi (As := []) (rest := [.ref (G.2.1 + 66)]) C (metX6_word hg) (en2_at kd66) rfl hdX6_word rfl cwX6_192 rfl ⟨Nat.le_of_ble_eq_true rfl, Nat.le_of_ble_eq_true rfl⟩ (Nat.le_of_ble_eq_true rfl) dX6_token_89 92 rfl ⟨Nat.le_refl _, Nat.le_refl _⟩ ?_
      refine sX6_195 C dX6_token_92 95 rfl ?_
      refine jk_lt h (fun k92 h => ?_)
      refine je_aload_n C dX6_token_95 96 rfl 0 rfl ?_
      refine je_aload_n C dX6_token_96 97 rfl 0 rfl ?_
      refine gX6_195 C dX6_token_97 100 rfl ?_
      refine je_iconst C (-1) dX6_token_100 101 rfl ic_m1 ?_
      refine je_icmp_eq C 108 dX6_token_101 104 rfl rfl h (fun h => ?_) (fun h => ?_)
      · refine je_aload_n C dX6_token_108 109 rfl 0 rfl ?_
        refine gX6_172 C dX6_token_109 112 rfl ?_
        refine je_aload_n C dX6_token_112 113 rfl 0 rfl ?_
        refine gX6_182 C dX6_token_113 116 rfl ?_
        refine je_isub C dX6_token_116 117 rfl ?_
        refine je_bipush C (6) dX6_token_117 119 rfl bp_6 ?_
        refine je_icmp_le C 126 dX6_token_119 122 rfl rfl h (fun h => ?_) (fun h => ?_)
        · refine je_iconst C (1) dX6_token_126 127 rfl ic_1 ?_
          exact wX6_token_127 C k92 (1 : Int32) h
        refine je_iconst C (5) dX6_token_122 123 rfl ic_5 ?_
        refine je_goto C 127 dX6_token_123 rfl ?_
        exact wX6_token_127 C k92 (5 : Int32) h
      refine je_iconst C (0) dX6_token_104 105 rfl ic_0 ?_
      refine je_goto C 127 dX6_token_105 rfl ?_
      exact wX6_token_127 C k92 (0 : Int32) h
    refine je_aload_n C dX6_token_74 75 rfl 0 rfl ?_
    refine je_dup C dX6_token_75 76 rfl rfl ?_
    refine gX6_172 C dX6_token_76 79 rfl ?_
    refine je_iconst C (1) dX6_token_79 80 rfl ic_1 ?_
    refine je_iadd C dX6_token_80 81 rfl ?_
    refine sX6_172 C dX6_token_81 84 rfl ?_
    refine jk_lt h (fun k81 h => ?_)
    refine je_goto C 64 dX6_token_84 rfl ?_
    exact ih k81 h
set_option maxHeartbeats 4000000 in
theorem wX6_token_0 {p : Program} {l : Launch} {e : Env} {s : State} {m : MethodId} {args : Array Value} {below : List Frame} {meth : Method} {c : Code} {G : je_G} {dyn : Nat → Option je_E} {sz : Nat} {F : Nat} {r9 : kp_K} (C : Cx p s m args meth c G "MinistryDesksModel" cX6_token 2 none) : ∀ (n : Nat) (κ : kp_K), bX6_token_0 F n κ = some r9 → Js p l e ({ frames := 5, cells := 0, slots := 0, locals := 108 } : Room) s m args below meth c G 2 (MQ below (je_Q G none (en2 G r9 dyn) sz) args s 0 0 (je_A G)) (en2 G κ dyn) sz 0 0 0 [(0, .ref (G.2.1 + 66))] [] := by
  intro n
  induction n with
  | zero =>
    intro κ h
    cases h
  | succ n ih =>
    intro κ h
    rw [bX6_token_0] at h
    refine je_aload_n C dX6_token_0 1 rfl 0 rfl ?_
    obtain ⟨t1, hg, h⟩ := p_cl_inv h
    refine je_callVi (As := []) (rest := []) C (metX6_here hg) (en2_at kd66) rfl hdX6_here rfl cwX6_178 rfl ⟨Nat.le_of_ble_eq_true rfl, Nat.le_of_ble_eq_true rfl⟩ (Nat.le_of_ble_eq_true rfl) dX6_token_1 4 rfl ⟨Nat.le_refl _, Nat.le_refl _⟩ ?_
    refine je_bipush C (10) dX6_token_4 6 rfl bp_10 ?_
    refine je_icmp_eq C 18 dX6_token_6 9 rfl rfl h (fun h => ?_) (fun h => ?_)
    · exact wX6_token_18 C ih κ h
    refine je_aload_n C dX6_token_9 10 rfl 0 rfl ?_
    obtain ⟨t10, hg, h⟩ := p_cl_inv h
    refine je_callVi (As := []) (rest := []) C (metX6_here hg) (en2_at kd66) rfl hdX6_here rfl cwX6_178 rfl ⟨Nat.le_of_ble_eq_true rfl, Nat.le_of_ble_eq_true rfl⟩ (Nat.le_of_ble_eq_true rfl) dX6_token_10 13 rfl ⟨Nat.le_refl _, Nat.le_refl _⟩ ?_
    refine je_bipush C (32) dX6_token_13 15 rfl bp_32 ?_
    refine je_icmp_ne C 31 dX6_token_15 18 rfl rfl h (fun h => ?_) (fun h => ?_)
    · refine je_aload_n C dX6_token_31 32 rfl 0 rfl ?_
      refine je_aload_n C dX6_token_32 33 rfl 0 rfl ?_
      refine gX6_172 C dX6_token_33 36 rfl ?_
      refine sX6_182 C dX6_token_36 39 rfl ?_
      refine jk_lt h (fun k36 h => ?_)
      refine je_aload_n C dX6_token_39 40 rfl 0 rfl ?_
      obtain ⟨t40, hg, h⟩ := p_cl_inv h
      refine je_callVi (As := []) (rest := []) C (metX6_here hg) (en2_at kd66) rfl hdX6_here rfl cwX6_178 rfl ⟨Nat.le_of_ble_eq_true rfl, Nat.le_of_ble_eq_true rfl⟩ (Nat.le_of_ble_eq_true rfl) dX6_token_40 43 rfl ⟨Nat.le_refl _, Nat.le_refl _⟩ ?_
      refine je_istore_n C dX6_token_43 44 rfl (Nat.le_of_ble_eq_true rfl) [(1, .int t40), (0, .ref (G.2.1 + 66))] rfl ?_
      refine je_iload_n C dX6_token_44 45 rfl 0 rfl ?_
      refine je_iconst C (-1) dX6_token_45 46 rfl ic_m1 ?_
      refine je_icmp_ne C 57 dX6_token_46 49 rfl rfl h (fun h => ?_) (fun h => ?_)
      · refine je_iload_n C dX6_token_57 58 rfl 0 rfl ?_
        obtain ⟨t58, hg, h⟩ := p_cl_inv h
        refine je_callSi (As := [.int t40]) (rest := []) C (metX6_isSmall hg) hdX6_isSmall cwX6_188 rfl ⟨Nat.le_of_ble_eq_true rfl, Nat.le_of_ble_eq_true rfl⟩ (Nat.le_of_ble_eq_true rfl) dX6_token_58 61 rfl ⟨Nat.le_refl _, Nat.le_refl _⟩ ?_
        refine je_if_eq C 145 dX6_token_61 64 rfl rfl h (fun h => ?_) (fun h => ?_)
        · refine je_iload_n C dX6_token_145 146 rfl 0 rfl ?_
          obtain ⟨t146, hg, h⟩ := p_cl_inv h
          refine je_callSi (As := [.int t40]) (rest := []) C (metX6_isDigit hg) hdX6_isDigit cwX6_201 rfl ⟨Nat.le_of_ble_eq_true rfl, Nat.le_of_ble_eq_true rfl⟩ (Nat.le_of_ble_eq_true rfl) dX6_token_146 149 rfl ⟨Nat.le_refl _, Nat.le_refl _⟩ ?_
          refine je_if_eq C 221 dX6_token_149 152 rfl rfl h (fun h => ?_) (fun h => ?_)
          · refine je_aload_n C dX6_token_221 222 rfl 1 rfl ?_
            refine je_iload_n C dX6_token_222 223 rfl 0 rfl ?_
            obtain ⟨k223, hg, h⟩ := p_cl_inv h
            refine je_callVv (As := [.int t40]) (rest := []) C (metX6_sign hg) (en2_at kd66) rfl hdX6_sign rfl cwX6_204 rfl ⟨Nat.le_of_ble_eq_true rfl, Nat.le_of_ble_eq_true rfl⟩ (Nat.le_of_ble_eq_true rfl) dX6_token_223 226 rfl ⟨Nat.le_refl _, Nat.le_refl _⟩ ?_
            cases h
            exact je_vret C dX6_token_226
          refine je_aload_n C dX6_token_152 153 rfl 1 rfl ?_
          refine je_iconst C (2) dX6_token_153 154 rfl ic_2 ?_
          refine sX6_185 C dX6_token_154 157 rfl ?_
          refine jk_lt h (fun k154 h => ?_)
          refine je_aload_n C dX6_token_157 158 rfl 1 rfl ?_
          refine je_iconst C (0) dX6_token_158 159 rfl ic_0 ?_
          refine sX6_195 C dX6_token_159 162 rfl ?_
          refine jk_lt h (fun k159 h => ?_)
          refine je_sub [1] [(0, .ref (G.2.1 + 66))] rfl ?_
          exact wX6_token_162 C F k159 h
        refine je_sub [1] [(0, .ref (G.2.1 + 66))] rfl ?_
        exact wX6_token_64 C F k36 h
      refine je_aload_n C dX6_token_49 50 rfl 1 rfl ?_
      refine je_iconst C (4) dX6_token_50 51 rfl ic_4 ?_
      refine sX6_185 C dX6_token_51 54 rfl ?_
      refine jk_lt h (fun k51 h => ?_)
      refine je_goto C 226 dX6_token_54 rfl ?_
      cases h
      exact je_vret C dX6_token_226
    exact wX6_token_18 C ih κ h
set_option maxHeartbeats 4000000 in
theorem metX6_token {l : Launch} {G : je_G} {dyn : Nat → Option je_E} {sz : Nat} {F : Nat} {κ : kp_K}  {r9 : kp_K} (h : pX6_token F κ = some r9) : MetS l G yX6_token cX6_token 2 none 5 108 0 0 [.ref (G.2.1 + 66)] (en2 G κ dyn) sz none (en2 G r9 dyn) sz := by
  refine je_met "MinistryDesksModel" rfl (by decide +kernel) (Nat.le_of_ble_eq_true rfl) [(0, .ref (G.2.1 + 66))] rfl (fun p e s m args below meth c C => ?_)
  unfold pX6_token at h
  exact wX6_token_0 C F κ h
theorem gX6_219 {p : Program} {l : Launch} {e : Env} {R : Room} {s : State} {m : MethodId} {args : Array Value} {below : List Frame} {meth : Method} {c : Code} {Q : State → Prop} {G : je_G} {cc : ByteArray} {nL : Nat} {rt : Option FieldType} {sz cells slots pc : Nat} {L : List (Nat × Value)} {st : List Value} {κ : kp_K} {dyn : Nat → Option je_E} (C : Cx p s m args meth c G "MinistryDesksModel" cc nL rt) (d : decode cc pc = .ok (.getfield 219, 3)) (n : Nat) (hn : pc + 3 = n) (kk : Js p l e R s m args below meth c G nL Q (en2 G κ dyn) sz cells slots n L (.int (κ.1 66 31) :: st)) : Js p l e R s m args below meth c G nL Q (en2 G κ dyn) sz cells slots pc L (.ref (G.2.1 + 66) :: st) := jk_getI (k := 31) C kd66 rfl in_X6 rfl (by decide) q1711 rfl d n hn kk
theorem sX6_219 {p : Program} {l : Launch} {e : Env} {R : Room} {s : State} {m : MethodId} {args : Array Value} {below : List Frame} {meth : Method} {c : Code} {Q : State → Prop} {G : je_G} {cc : ByteArray} {nL : Nat} {rt : Option FieldType} {sz cells slots pc : Nat} {L : List (Nat × Value)} {st : List Value} {κ : kp_K} {dyn : Nat → Option je_E} (C : Cx p s m args meth c G "MinistryDesksModel" cc nL rt) {v : Int32} (d : decode cc pc = .ok (.putfield 219, 3)) (n : Nat) (hn : pc + 3 = n) (kk : Js p l e R s m args below meth c G nL Q (en2 G (s_i κ 66 31 v) dyn) sz cells slots n L st) : Js p l e R s m args below meth c G nL Q (en2 G κ dyn) sz cells slots pc L (.int v :: .ref (G.2.1 + 66) :: st) := jk_putI (k := 31) C kd66 rfl in_X6 tyX6 tyX6_ok nmX6 rfl (by decide) q1711 rfl rfl rfl d n hn kk
theorem sX6_222 {p : Program} {l : Launch} {e : Env} {R : Room} {s : State} {m : MethodId} {args : Array Value} {below : List Frame} {meth : Method} {c : Code} {Q : State → Prop} {G : je_G} {cc : ByteArray} {nL : Nat} {rt : Option FieldType} {sz cells slots pc : Nat} {L : List (Nat × Value)} {st : List Value} {κ : kp_K} {dyn : Nat → Option je_E} (C : Cx p s m args meth c G "MinistryDesksModel" cc nL rt) {v : Int32} (d : decode cc pc = .ok (.putfield 222, 3)) (n : Nat) (hn : pc + 3 = n) (kk : Js p l e R s m args below meth c G nL Q (en2 G (s_i κ 66 32 v) dyn) sz cells slots n L st) : Js p l e R s m args below meth c G nL Q (en2 G κ dyn) sz cells slots pc L (.int v :: .ref (G.2.1 + 66) :: st) := jk_putI (k := 32) C kd66 rfl in_X6 tyX6 tyX6_ok nmX6 rfl (by decide) q1712 rfl rfl rfl d n hn kk
set_option maxHeartbeats 4000000 in
theorem metX6_wrong {l : Launch} {G : je_G} {dyn : Nat → Option je_E} {sz : Nat} {κ : kp_K} {v1 : Int32} {r9 : kp_K} (h : pX6_wrong κ v1 = some r9) : MetS l G yX6_wrong cX6_wrong 2 none 0 0 0 0 [.ref (G.2.1 + 66), .int v1] (en2 G κ dyn) sz none (en2 G r9 dyn) sz := by
  refine je_met "MinistryDesksModel" rfl (by decide +kernel) (Nat.le_of_ble_eq_true rfl) [(0, .ref (G.2.1 + 66)), (1, .int v1)] rfl (fun p e s m args below meth c C => ?_)
  unfold pX6_wrong at h
  refine je_aload_n C dX6_wrong_0 1 rfl 0 rfl ?_
  refine gX6_219 C dX6_wrong_1 4 rfl ?_
  refine je_if_eq C 8 dX6_wrong_4 7 rfl rfl h (fun h => ?_) (fun h => ?_)
  · refine je_aload_n C dX6_wrong_8 9 rfl 0 rfl ?_
    refine je_iload_n C dX6_wrong_9 10 rfl 1 rfl ?_
    refine sX6_219 C dX6_wrong_10 13 rfl ?_
    refine jk_lt h (fun k10 h => ?_)
    refine je_aload_n C dX6_wrong_13 14 rfl 0 rfl ?_
    refine je_aload_n C dX6_wrong_14 15 rfl 0 rfl ?_
    refine gX6_182 C dX6_wrong_15 18 rfl ?_
    refine sX6_222 C dX6_wrong_18 21 rfl ?_
    refine jk_lt h (fun k18 h => ?_)
    cases h
    exact je_vret C dX6_wrong_21
  cases h
  exact je_vret C dX6_wrong_7
theorem gX6_13 {p : Program} {l : Launch} {e : Env} {R : Room} {s : State} {m : MethodId} {args : Array Value} {below : List Frame} {meth : Method} {c : Code} {Q : State → Prop} {G : je_G} {cc : ByteArray} {nL : Nat} {rt : Option FieldType} {sz cells slots pc : Nat} {L : List (Nat × Value)} {st : List Value} {κ : kp_K} {dyn : Nat → Option je_E} (C : Cx p s m args meth c G "MinistryDesksModel" cc nL rt) (d : decode cc pc = .ok (.getfield 13, 3)) (n : Nat) (hn : pc + 3 = n) (kk : Js p l e R s m args below meth c G nL Q (en2 G κ dyn) sz cells slots n L (.ref (G.2.1 + 68) :: st)) : Js p l e R s m args below meth c G nL Q (en2 G κ dyn) sz cells slots pc L (.ref (G.2.1 + 66) :: st) := jk_getR (k := 3) (z := 0) C kd66 rfl in_X6 68 rfl (by decide) q1683 rfl d n hn kk
set_option maxHeartbeats 4000000 in
theorem metX6_fresher {l : Launch} {G : je_G} {dyn : Nat → Option je_E} {sz : Nat} {κ : kp_K} {v1 : Int32} {r9 : Int32} (h : pX6_fresher κ v1 = some r9) : MetS l G yX6_fresher cX6_fresher 2 (some .int) 0 0 0 0 [.ref (G.2.1 + 66), .int v1] (en2 G κ dyn) sz (some (.int r9)) (en2 G κ dyn) sz := by
  refine je_met "MinistryDesksModel" rfl (by decide +kernel) (Nat.le_of_ble_eq_true rfl) [(0, .ref (G.2.1 + 66)), (1, .int v1)] rfl (fun p e s m args below meth c C => ?_)
  unfold pX6_fresher at h
  refine je_aload_n C dX6_fresher_0 1 rfl 0 rfl ?_
  refine gX6_13 C dX6_fresher_1 4 rfl ?_
  refine je_bipush C (8) dX6_fresher_4 6 rfl bp_8 ?_
  refine je_iload_n C dX6_fresher_6 7 rfl 1 rfl ?_
  refine je_iadd C dX6_fresher_7 8 rfl ?_
  refine je_lti h (fun i8 h => ?_)
  refine jk_iald C kd68 dX6_fresher_8 9 rfl h (fun h => ?_)
  cases h
  exact je_iret C dX6_fresher_9
theorem bp_7 : (Int8.ofInt (7)).toInt32 = (7 : Int32) := by decide +kernel
theorem hdX6_fresher : je_hd yX6_fresher 1 := ⟨by decide +kernel, by decide +kernel, by decide +kernel⟩
theorem cwX6_242 : GoodIn lw_all (wsV "MinistryDesksModel" 242 "MinistryDesksModel" yX6_fresher (ws_ yX6_fresher cX6_fresher 2 (some .int))) := lw_V q1962 q1964 qs86 q169 q1965
set_option maxHeartbeats 4000000 in
theorem wX6_isFull_72 {p : Program} {l : Launch} {e : Env} {s : State} {m : MethodId} {args : Array Value} {below : List Frame} {meth : Method} {c : Code} {G : je_G} {dyn : Nat → Option je_E} {sz : Nat} {κ : kp_K} {r9 : Int32} (C : Cx p s m args meth c G "MinistryDesksModel" cX6_isFull 2 (some .boolean)) (v1 : Int32) (h : bX6_isFull_72 κ v1 = some r9) : Js p l e ({ frames := 1, cells := 0, slots := 0, locals := 21 } : Room) s m args below meth c G 2 (MQ below (je_Q G (some (.int r9)) (en2 G κ dyn) sz) args s 0 0 (je_A G)) (en2 G κ dyn) sz 0 0 72 [(0, .ref (G.2.1 + 66)), (1, .int v1)] [] := by
  unfold bX6_isFull_72 at h
  refine je_iload_n C dX6_isFull_72 73 rfl 1 rfl ?_
  refine je_bipush C (8) dX6_isFull_73 75 rfl bp_8 ?_
  refine je_icmp_ne C 91 dX6_isFull_75 78 rfl rfl h (fun h => ?_) (fun h => ?_)
  · refine je_iconst C (0) dX6_isFull_91 92 rfl ic_0 ?_
    cases h
    exact je_zret C dX6_isFull_92 (Or.inl rfl)
  refine je_aload_n C dX6_isFull_78 79 rfl 0 rfl ?_
  refine je_iconst C (5) dX6_isFull_79 80 rfl ic_5 ?_
  obtain ⟨t80, hg, h⟩ := p_cl_inv h
  refine je_callVi (As := [.int (5 : Int32)]) (rest := []) C (metX6_fresher hg) (en2_at kd66) rfl hdX6_fresher rfl cwX6_242 rfl ⟨Nat.le_of_ble_eq_true rfl, Nat.le_of_ble_eq_true rfl⟩ (Nat.le_of_ble_eq_true rfl) dX6_isFull_80 83 rfl ⟨Nat.le_refl _, Nat.le_refl _⟩ ?_
  refine je_iconst C (4) dX6_isFull_83 84 rfl ic_4 ?_
  refine je_icmp_ne C 91 dX6_isFull_84 87 rfl rfl h (fun h => ?_) (fun h => ?_)
  · refine je_iconst C (0) dX6_isFull_91 92 rfl ic_0 ?_
    cases h
    exact je_zret C dX6_isFull_92 (Or.inl rfl)
  refine je_iconst C (1) dX6_isFull_87 88 rfl ic_1 ?_
  refine je_goto C 92 dX6_isFull_88 rfl ?_
  cases h
  exact je_zret C dX6_isFull_92 (Or.inr rfl)
set_option maxHeartbeats 4000000 in
theorem wX6_isFull_58 {p : Program} {l : Launch} {e : Env} {s : State} {m : MethodId} {args : Array Value} {below : List Frame} {meth : Method} {c : Code} {G : je_G} {dyn : Nat → Option je_E} {sz : Nat} {κ : kp_K} {r9 : Int32} (C : Cx p s m args meth c G "MinistryDesksModel" cX6_isFull 2 (some .boolean)) (v1 : Int32) (h : bX6_isFull_58 κ v1 = some r9) : Js p l e ({ frames := 1, cells := 0, slots := 0, locals := 21 } : Room) s m args below meth c G 2 (MQ below (je_Q G (some (.int r9)) (en2 G κ dyn) sz) args s 0 0 (je_A G)) (en2 G κ dyn) sz 0 0 58 [(0, .ref (G.2.1 + 66)), (1, .int v1)] [] := by
  unfold bX6_isFull_58 at h
  refine je_iload_n C dX6_isFull_58 59 rfl 1 rfl ?_
  refine je_iconst C (5) dX6_isFull_59 60 rfl ic_5 ?_
  refine je_icmp_ne C 72 dX6_isFull_60 63 rfl rfl h (fun h => ?_) (fun h => ?_)
  · exact wX6_isFull_72 C v1 h
  refine je_aload_n C dX6_isFull_63 64 rfl 0 rfl ?_
  refine je_iconst C (4) dX6_isFull_64 65 rfl ic_4 ?_
  obtain ⟨t65, hg, h⟩ := p_cl_inv h
  refine je_callVi (As := [.int (4 : Int32)]) (rest := []) C (metX6_fresher hg) (en2_at kd66) rfl hdX6_fresher rfl cwX6_242 rfl ⟨Nat.le_of_ble_eq_true rfl, Nat.le_of_ble_eq_true rfl⟩ (Nat.le_of_ble_eq_true rfl) dX6_isFull_65 68 rfl ⟨Nat.le_refl _, Nat.le_refl _⟩ ?_
  refine je_iconst C (4) dX6_isFull_68 69 rfl ic_4 ?_
  refine je_icmp_eq C 87 dX6_isFull_69 72 rfl rfl h (fun h => ?_) (fun h => ?_)
  · refine je_iconst C (1) dX6_isFull_87 88 rfl ic_1 ?_
    refine je_goto C 92 dX6_isFull_88 rfl ?_
    cases h
    exact je_zret C dX6_isFull_92 (Or.inr rfl)
  exact wX6_isFull_72 C v1 h
set_option maxHeartbeats 4000000 in
theorem wX6_isFull_43 {p : Program} {l : Launch} {e : Env} {s : State} {m : MethodId} {args : Array Value} {below : List Frame} {meth : Method} {c : Code} {G : je_G} {dyn : Nat → Option je_E} {sz : Nat} {κ : kp_K} {r9 : Int32} (C : Cx p s m args meth c G "MinistryDesksModel" cX6_isFull 2 (some .boolean)) (v1 : Int32) (h : bX6_isFull_43 κ v1 = some r9) : Js p l e ({ frames := 1, cells := 0, slots := 0, locals := 21 } : Room) s m args below meth c G 2 (MQ below (je_Q G (some (.int r9)) (en2 G κ dyn) sz) args s 0 0 (je_A G)) (en2 G κ dyn) sz 0 0 43 [(0, .ref (G.2.1 + 66)), (1, .int v1)] [] := by
  unfold bX6_isFull_43 at h
  refine je_iload_n C dX6_isFull_43 44 rfl 1 rfl ?_
  refine je_iconst C (4) dX6_isFull_44 45 rfl ic_4 ?_
  refine je_icmp_ne C 58 dX6_isFull_45 48 rfl rfl h (fun h => ?_) (fun h => ?_)
  · exact wX6_isFull_58 C v1 h
  refine je_aload_n C dX6_isFull_48 49 rfl 0 rfl ?_
  refine je_iconst C (3) dX6_isFull_49 50 rfl ic_3 ?_
  obtain ⟨t50, hg, h⟩ := p_cl_inv h
  refine je_callVi (As := [.int (3 : Int32)]) (rest := []) C (metX6_fresher hg) (en2_at kd66) rfl hdX6_fresher rfl cwX6_242 rfl ⟨Nat.le_of_ble_eq_true rfl, Nat.le_of_ble_eq_true rfl⟩ (Nat.le_of_ble_eq_true rfl) dX6_isFull_50 53 rfl ⟨Nat.le_refl _, Nat.le_refl _⟩ ?_
  refine je_bipush C (16) dX6_isFull_53 55 rfl bp_16 ?_
  refine je_icmp_eq C 87 dX6_isFull_55 58 rfl rfl h (fun h => ?_) (fun h => ?_)
  · refine je_iconst C (1) dX6_isFull_87 88 rfl ic_1 ?_
    refine je_goto C 92 dX6_isFull_88 rfl ?_
    cases h
    exact je_zret C dX6_isFull_92 (Or.inr rfl)
  exact wX6_isFull_58 C v1 h
set_option maxHeartbeats 4000000 in
theorem wX6_isFull_28 {p : Program} {l : Launch} {e : Env} {s : State} {m : MethodId} {args : Array Value} {below : List Frame} {meth : Method} {c : Code} {G : je_G} {dyn : Nat → Option je_E} {sz : Nat} {κ : kp_K} {r9 : Int32} (C : Cx p s m args meth c G "MinistryDesksModel" cX6_isFull 2 (some .boolean)) (v1 : Int32) (h : bX6_isFull_28 κ v1 = some r9) : Js p l e ({ frames := 1, cells := 0, slots := 0, locals := 21 } : Room) s m args below meth c G 2 (MQ below (je_Q G (some (.int r9)) (en2 G κ dyn) sz) args s 0 0 (je_A G)) (en2 G κ dyn) sz 0 0 28 [(0, .ref (G.2.1 + 66)), (1, .int v1)] [] := by
  unfold bX6_isFull_28 at h
  refine je_iload_n C dX6_isFull_28 29 rfl 1 rfl ?_
  refine je_iconst C (3) dX6_isFull_29 30 rfl ic_3 ?_
  refine je_icmp_ne C 43 dX6_isFull_30 33 rfl rfl h (fun h => ?_) (fun h => ?_)
  · exact wX6_isFull_43 C v1 h
  refine je_aload_n C dX6_isFull_33 34 rfl 0 rfl ?_
  refine je_iconst C (2) dX6_isFull_34 35 rfl ic_2 ?_
  obtain ⟨t35, hg, h⟩ := p_cl_inv h
  refine je_callVi (As := [.int (2 : Int32)]) (rest := []) C (metX6_fresher hg) (en2_at kd66) rfl hdX6_fresher rfl cwX6_242 rfl ⟨Nat.le_of_ble_eq_true rfl, Nat.le_of_ble_eq_true rfl⟩ (Nat.le_of_ble_eq_true rfl) dX6_isFull_35 38 rfl ⟨Nat.le_refl _, Nat.le_refl _⟩ ?_
  refine je_bipush C (16) dX6_isFull_38 40 rfl bp_16 ?_
  refine je_icmp_eq C 87 dX6_isFull_40 43 rfl rfl h (fun h => ?_) (fun h => ?_)
  · refine je_iconst C (1) dX6_isFull_87 88 rfl ic_1 ?_
    refine je_goto C 92 dX6_isFull_88 rfl ?_
    cases h
    exact je_zret C dX6_isFull_92 (Or.inr rfl)
  exact wX6_isFull_43 C v1 h
set_option maxHeartbeats 4000000 in
theorem wX6_isFull_13 {p : Program} {l : Launch} {e : Env} {s : State} {m : MethodId} {args : Array Value} {below : List Frame} {meth : Method} {c : Code} {G : je_G} {dyn : Nat → Option je_E} {sz : Nat} {κ : kp_K} {r9 : Int32} (C : Cx p s m args meth c G "MinistryDesksModel" cX6_isFull 2 (some .boolean)) (v1 : Int32) (h : bX6_isFull_13 κ v1 = some r9) : Js p l e ({ frames := 1, cells := 0, slots := 0, locals := 21 } : Room) s m args below meth c G 2 (MQ below (je_Q G (some (.int r9)) (en2 G κ dyn) sz) args s 0 0 (je_A G)) (en2 G κ dyn) sz 0 0 13 [(0, .ref (G.2.1 + 66)), (1, .int v1)] [] := by
  unfold bX6_isFull_13 at h
  refine je_iload_n C dX6_isFull_13 14 rfl 1 rfl ?_
  refine je_iconst C (2) dX6_isFull_14 15 rfl ic_2 ?_
  refine je_icmp_ne C 28 dX6_isFull_15 18 rfl rfl h (fun h => ?_) (fun h => ?_)
  · exact wX6_isFull_28 C v1 h
  refine je_aload_n C dX6_isFull_18 19 rfl 0 rfl ?_
  refine je_iconst C (1) dX6_isFull_19 20 rfl ic_1 ?_
  obtain ⟨t20, hg, h⟩ := p_cl_inv h
  refine je_callVi (As := [.int (1 : Int32)]) (rest := []) C (metX6_fresher hg) (en2_at kd66) rfl hdX6_fresher rfl cwX6_242 rfl ⟨Nat.le_of_ble_eq_true rfl, Nat.le_of_ble_eq_true rfl⟩ (Nat.le_of_ble_eq_true rfl) dX6_isFull_20 23 rfl ⟨Nat.le_refl _, Nat.le_refl _⟩ ?_
  refine je_bipush C (7) dX6_isFull_23 25 rfl bp_7 ?_
  refine je_icmp_eq C 87 dX6_isFull_25 28 rfl rfl h (fun h => ?_) (fun h => ?_)
  · refine je_iconst C (1) dX6_isFull_87 88 rfl ic_1 ?_
    refine je_goto C 92 dX6_isFull_88 rfl ?_
    cases h
    exact je_zret C dX6_isFull_92 (Or.inr rfl)
  exact wX6_isFull_28 C v1 h
set_option maxHeartbeats 4000000 in
theorem metX6_isFull {l : Launch} {G : je_G} {dyn : Nat → Option je_E} {sz : Nat} {κ : kp_K} {v1 : Int32} {r9 : Int32} (h : pX6_isFull κ v1 = some r9) : MetS l G yX6_isFull cX6_isFull 2 (some .boolean) 1 21 0 0 [.ref (G.2.1 + 66), .int v1] (en2 G κ dyn) sz (some (.int r9)) (en2 G κ dyn) sz := by
  refine je_met "MinistryDesksModel" rfl (by decide +kernel) (Nat.le_of_ble_eq_true rfl) [(0, .ref (G.2.1 + 66)), (1, .int v1)] rfl (fun p e s m args below meth c C => ?_)
  unfold pX6_isFull at h
  refine je_iload_n C dX6_isFull_0 1 rfl 1 rfl ?_
  refine je_if_ne C 13 dX6_isFull_1 4 rfl rfl h (fun h => ?_) (fun h => ?_)
  · exact wX6_isFull_13 C v1 h
  refine je_aload_n C dX6_isFull_4 5 rfl 0 rfl ?_
  refine je_iconst C (0) dX6_isFull_5 6 rfl ic_0 ?_
  obtain ⟨t6, hg, h⟩ := p_cl_inv h
  refine je_callVi (As := [.int (0 : Int32)]) (rest := []) C (metX6_fresher hg) (en2_at kd66) rfl hdX6_fresher rfl cwX6_242 rfl ⟨Nat.le_of_ble_eq_true rfl, Nat.le_of_ble_eq_true rfl⟩ (Nat.le_of_ble_eq_true rfl) dX6_isFull_6 9 rfl ⟨Nat.le_refl _, Nat.le_refl _⟩ ?_
  refine je_iconst C (4) dX6_isFull_9 10 rfl ic_4 ?_
  refine je_icmp_eq C 87 dX6_isFull_10 13 rfl rfl h (fun h => ?_) (fun h => ?_)
  · refine je_iconst C (1) dX6_isFull_87 88 rfl ic_1 ?_
    refine je_goto C 92 dX6_isFull_88 rfl ?_
    cases h
    exact je_zret C dX6_isFull_92 (Or.inr rfl)
  exact wX6_isFull_13 C v1 h
set_option maxHeartbeats 4000000 in
theorem wX6_found_3 {p : Program} {l : Launch} {e : Env} {s : State} {m : MethodId} {args : Array Value} {below : List Frame} {meth : Method} {c : Code} {G : je_G} {dyn : Nat → Option je_E} {sz : Nat} {F : Nat} {κ : kp_K} {r9 : Int32} (C : Cx p s m args meth c G "MinistryDesksModel" cX6_found 5 (some .int)) : ∀ (n : Nat) (a0 : Nat) (v1 : Int32) (v2 : Int32) (v3 : Int32) (v4 : Int32), bX6_found_3 F n κ a0 v1 v2 v3 v4 = some r9 → Js p l e ({ frames := 0, cells := 0, slots := 0, locals := 0 } : Room) s m args below meth c G 5 (MQ below (je_Q G (some (.int r9)) (en2 G κ dyn) sz) args s 0 0 (je_A G)) (en2 G κ dyn) sz 0 0 3 [(0, .ref (G.2.1 + a0)), (1, .int v1), (2, .int v2), (3, .int v3), (4, .int v4)] [] := by
  intro n
  induction n with
  | zero =>
    intro a0 v1 v2 v3 v4 h
    cases h
  | succ n ih =>
    intro a0 v1 v2 v3 v4 h
    rw [bX6_found_3] at h
    refine je_iload C dX6_found_3 5 rfl 4 rfl ?_
    refine je_iload_n C dX6_found_5 6 rfl 2 rfl ?_
    refine je_icmp_ge C 28 dX6_found_6 9 rfl rfl h (fun h => ?_) (fun h => ?_)
    · refine je_iconst C (-1) dX6_found_28 29 rfl ic_m1 ?_
      cases h
      exact je_iret C dX6_found_29
    refine je_aload_n C dX6_found_9 10 rfl 0 rfl ?_
    refine je_iload_n C dX6_found_10 11 rfl 1 rfl ?_
    refine je_iload C dX6_found_11 13 rfl 4 rfl ?_
    refine je_iadd C dX6_found_13 14 rfl ?_
    refine je_lti h (fun i14 h => ?_)
    obtain ⟨n_a0, hl_a0, h⟩ := p_cl_inv h
    refine jk_iald C (aLen_inv hl_a0) dX6_found_14 15 rfl h (fun h => ?_)
    refine je_iload_n C dX6_found_15 16 rfl 3 rfl ?_
    refine je_icmp_ne C 22 dX6_found_16 19 rfl rfl h (fun h => ?_) (fun h => ?_)
    · refine je_iinc C (1) dX6_found_22 25 rfl 4 rfl ic_1 (Nat.le_of_ble_eq_true rfl) [(4, .int (v4 + (1 : Int32))), (0, .ref (G.2.1 + a0)), (1, .int v1), (2, .int v2), (3, .int v3)] rfl ?_
      refine je_goto C 3 dX6_found_25 rfl ?_
      refine je_sub [1, 2, 3, 4, 0] [(0, .ref (G.2.1 + a0)), (1, .int v1), (2, .int v2), (3, .int v3), (4, .int (v4 + (1 : Int32)))] rfl ?_
      exact ih a0 v1 v2 v3 (v4 + (1 : Int32)) h
    refine je_iload C dX6_found_19 21 rfl 4 rfl ?_
    cases h
    exact je_iret C dX6_found_21
set_option maxHeartbeats 4000000 in
theorem metX6_found {l : Launch} {G : je_G} {dyn : Nat → Option je_E} {sz : Nat} {F : Nat} {κ : kp_K} {a0 : Nat} {v1 : Int32} {v2 : Int32} {v3 : Int32} {r9 : Int32} (h : pX6_found F κ a0 v1 v2 v3 = some r9) : MetS l G yX6_found cX6_found 5 (some .int) 0 0 0 0 [.ref (G.2.1 + a0), .int v1, .int v2, .int v3] (en2 G κ dyn) sz (some (.int r9)) (en2 G κ dyn) sz := by
  refine je_met "MinistryDesksModel" rfl (by decide +kernel) (Nat.le_of_ble_eq_true rfl) [(0, .ref (G.2.1 + a0)), (1, .int v1), (2, .int v2), (3, .int v3)] rfl (fun p e s m args below meth c C => ?_)
  unfold pX6_found at h
  refine je_iconst C (0) dX6_found_0 1 rfl ic_0 ?_
  refine je_istore C dX6_found_1 3 rfl (Nat.le_of_ble_eq_true rfl) [(4, .int (0 : Int32)), (0, .ref (G.2.1 + a0)), (1, .int v1), (2, .int v2), (3, .int v3)] rfl ?_
  refine je_sub [1, 2, 3, 4, 0] [(0, .ref (G.2.1 + a0)), (1, .int v1), (2, .int v2), (3, .int v3), (4, .int (0 : Int32))] rfl ?_
  exact wX6_found_3 C F a0 v1 v2 v3 (0 : Int32) h
theorem hdX6_found : je_hd yX6_found 4 := ⟨by decide +kernel, by decide +kernel, by decide +kernel⟩
theorem hdX6_token : je_hd yX6_token 0 := ⟨by decide +kernel, by decide +kernel, by decide +kernel⟩
theorem hdX6_wrong : je_hd yX6_wrong 1 := ⟨by decide +kernel, by decide +kernel, by decide +kernel⟩
theorem cwX6_225 : GoodIn lw_all (wsV "MinistryDesksModel" 225 "MinistryDesksModel" yX6_token (ws_ yX6_token cX6_token 2 none)) := lw_V q1921 q1923 qs78 q169 q1924
theorem cwX6_228 : GoodIn lw_all (wsV "MinistryDesksModel" 228 "MinistryDesksModel" yX6_wrong (ws_ yX6_wrong cX6_wrong 2 none)) := lw_V q1954 q1956 qs84 q169 q1957
theorem cwX6_231 : GoodIn lw_all (va_wsS "MinistryDesksModel" 231 yX6_found (ws_ yX6_found cX6_found 5 (some .int))) := lw_S q1970 q1971 q169 q1972
set_option maxHeartbeats 4000000 in
theorem wX6_fresh_44 {p : Program} {l : Launch} {e : Env} {s : State} {m : MethodId} {args : Array Value} {below : List Frame} {meth : Method} {c : Code} {G : je_G} {dyn : Nat → Option je_E} {sz : Nat} {F : Nat} {r9 : Int32 × kp_K} (C : Cx p s m args meth c G "MinistryDesksModel" cX6_fresh 5 (some .int)) (κ : kp_K) (h : bX6_fresh_44 F κ = some r9) : Js p l e ({ frames := 6, cells := 0, slots := 0, locals := 129 } : Room) s m args below meth c G 5 (MQ below (je_Q G (some (.int r9.1)) (en2 G r9.2 dyn) sz) args s 0 0 (je_A G)) (en2 G κ dyn) sz 0 0 44 [(0, .ref (G.2.1 + 66))] [] := by
  unfold bX6_fresh_44 at h
  refine je_aload_n C dX6_fresh_44 45 rfl 0 rfl ?_
  refine gX6_219 C dX6_fresh_45 48 rfl ?_
  refine je_if_eq C 53 dX6_fresh_48 51 rfl rfl h (fun h => ?_) (fun h => ?_)
  · refine je_aload_n C dX6_fresh_53 54 rfl 0 rfl ?_
    refine gX6_195 C dX6_fresh_54 57 rfl ?_
    refine je_lti h (fun t57 h => ?_)
    refine je_istore C dX6_fresh_57 59 rfl (Nat.le_of_ble_eq_true rfl) [(4, .int t57), (0, .ref (G.2.1 + 66))] rfl ?_
    refine je_aload_n C dX6_fresh_59 60 rfl 1 rfl ?_
    obtain ⟨k60, hg, h⟩ := p_cl_inv h
    refine je_callVv (As := []) (rest := []) C (metX6_token hg) (en2_at kd66) rfl hdX6_token rfl cwX6_225 rfl ⟨Nat.le_of_ble_eq_true rfl, Nat.le_of_ble_eq_true rfl⟩ (Nat.le_of_ble_eq_true rfl) dX6_fresh_60 63 rfl ⟨Nat.le_refl _, Nat.le_refl _⟩ ?_
    refine je_iload C dX6_fresh_63 65 rfl 0 rfl ?_
    cases h
    exact je_iret C dX6_fresh_65
  refine je_iconst C (0) dX6_fresh_51 52 rfl ic_0 ?_
  cases h
  exact je_iret C dX6_fresh_52
set_option maxHeartbeats 4000000 in
theorem metX6_fresh {l : Launch} {G : je_G} {dyn : Nat → Option je_E} {sz : Nat} {F : Nat} {κ : kp_K} {a1 : Nat} {v2 : Int32} {v3 : Int32} {r9 : Int32 × kp_K} (h : pX6_fresh F κ a1 v2 v3 = some r9) : MetS l G yX6_fresh cX6_fresh 5 (some .int) 6 129 0 0 [.ref (G.2.1 + 66), .ref (G.2.1 + a1), .int v2, .int v3] (en2 G κ dyn) sz (some (.int r9.1)) (en2 G r9.2 dyn) sz := by
  refine je_met "MinistryDesksModel" rfl (by decide +kernel) (Nat.le_of_ble_eq_true rfl) [(0, .ref (G.2.1 + 66)), (1, .ref (G.2.1 + a1)), (2, .int v2), (3, .int v3)] rfl (fun p e s m args below meth c C => ?_)
  unfold pX6_fresh at h
  refine je_aload_n C dX6_fresh_0 1 rfl 0 rfl ?_
  refine gX6_219 C dX6_fresh_1 4 rfl ?_
  refine je_if_eq C 9 dX6_fresh_4 7 rfl rfl h (fun h => ?_) (fun h => ?_)
  · refine je_aload_n C dX6_fresh_9 10 rfl 0 rfl ?_
    refine gX6_185 C dX6_fresh_10 13 rfl ?_
    refine je_iconst C (1) dX6_fresh_13 14 rfl ic_1 ?_
    refine je_icmp_eq C 25 dX6_fresh_14 17 rfl rfl h (fun h => ?_) (fun h => ?_)
    · refine je_aload_n C dX6_fresh_25 26 rfl 1 rfl ?_
      refine je_iload_n C dX6_fresh_26 27 rfl 2 rfl ?_
      refine je_iload_n C dX6_fresh_27 28 rfl 3 rfl ?_
      refine je_aload_n C dX6_fresh_28 29 rfl 0 rfl ?_
      refine gX6_195 C dX6_fresh_29 32 rfl ?_
      obtain ⟨t32, hg, h⟩ := p_cl_inv h
      refine je_callSi (As := [.ref (G.2.1 + a1), .int v2, .int v3, .int (κ.1 66 30)]) (rest := []) C (metX6_found hg) hdX6_found cwX6_231 rfl ⟨Nat.le_of_ble_eq_true rfl, Nat.le_of_ble_eq_true rfl⟩ (Nat.le_of_ble_eq_true rfl) dX6_fresh_32 35 rfl ⟨Nat.le_refl _, Nat.le_refl _⟩ ?_
      refine je_iconst C (-1) dX6_fresh_35 36 rfl ic_m1 ?_
      refine je_icmp_eq C 44 dX6_fresh_36 39 rfl rfl h (fun h => ?_) (fun h => ?_)
      · refine je_sub [0] [(0, .ref (G.2.1 + 66))] rfl ?_
        exact wX6_fresh_44 C κ h
      refine je_aload_n C dX6_fresh_39 40 rfl 0 rfl ?_
      refine je_iconst C (3) dX6_fresh_40 41 rfl ic_3 ?_
      obtain ⟨k41, hg, h⟩ := p_cl_inv h
      refine je_callVv (As := [.int (3 : Int32)]) (rest := []) C (metX6_wrong hg) (en2_at kd66) rfl hdX6_wrong rfl cwX6_228 rfl ⟨Nat.le_of_ble_eq_true rfl, Nat.le_of_ble_eq_true rfl⟩ (Nat.le_of_ble_eq_true rfl) dX6_fresh_41 44 rfl ⟨Nat.le_refl _, Nat.le_refl _⟩ ?_
      refine je_sub [0] [(0, .ref (G.2.1 + 66))] rfl ?_
      exact wX6_fresh_44 C k41 h
    refine je_aload_n C dX6_fresh_17 18 rfl 0 rfl ?_
    refine je_iconst C (1) dX6_fresh_18 19 rfl ic_1 ?_
    obtain ⟨k19, hg, h⟩ := p_cl_inv h
    refine je_callVv (As := [.int (1 : Int32)]) (rest := []) C (metX6_wrong hg) (en2_at kd66) rfl hdX6_wrong rfl cwX6_228 rfl ⟨Nat.le_of_ble_eq_true rfl, Nat.le_of_ble_eq_true rfl⟩ (Nat.le_of_ble_eq_true rfl) dX6_fresh_19 22 rfl ⟨Nat.le_refl _, Nat.le_refl _⟩ ?_
    refine je_goto C 44 dX6_fresh_22 rfl ?_
    refine je_sub [0] [(0, .ref (G.2.1 + 66))] rfl ?_
    exact wX6_fresh_44 C k19 h
  refine je_iconst C (0) dX6_fresh_7 8 rfl ic_0 ?_
  cases h
  exact je_iret C dX6_fresh_8
set_option maxHeartbeats 4000000 in
theorem wX6_numeral_46 {p : Program} {l : Launch} {e : Env} {s : State} {m : MethodId} {args : Array Value} {below : List Frame} {meth : Method} {c : Code} {G : je_G} {dyn : Nat → Option je_E} {sz : Nat} {F : Nat} {r9 : Int32 × kp_K} (C : Cx p s m args meth c G "MinistryDesksModel" cX6_numeral 4 (some .int)) (κ : kp_K) (v1 : Int32) (h : bX6_numeral_46 F κ v1 = some r9) : Js p l e ({ frames := 6, cells := 0, slots := 0, locals := 129 } : Room) s m args below meth c G 4 (MQ below (je_Q G (some (.int r9.1)) (en2 G r9.2 dyn) sz) args s 0 0 (je_A G)) (en2 G κ dyn) sz 0 0 46 [(0, .ref (G.2.1 + 66)), (1, .int v1)] [] := by
  unfold bX6_numeral_46 at h
  refine je_aload_n C dX6_numeral_46 47 rfl 0 rfl ?_
  refine gX6_219 C dX6_numeral_47 50 rfl ?_
  refine je_if_eq C 55 dX6_numeral_50 53 rfl rfl h (fun h => ?_) (fun h => ?_)
  · refine je_aload_n C dX6_numeral_55 56 rfl 0 rfl ?_
    refine gX6_195 C dX6_numeral_56 59 rfl ?_
    refine je_lti h (fun t59 h => ?_)
    refine je_istore_n C dX6_numeral_59 60 rfl (Nat.le_of_ble_eq_true rfl) [(3, .int t59), (0, .ref (G.2.1 + 66)), (1, .int v1)] rfl ?_
    refine je_aload_n C dX6_numeral_60 61 rfl 1 rfl ?_
    obtain ⟨k61, hg, h⟩ := p_cl_inv h
    refine je_callVv (As := []) (rest := []) C (metX6_token hg) (en2_at kd66) rfl hdX6_token rfl cwX6_225 rfl ⟨Nat.le_of_ble_eq_true rfl, Nat.le_of_ble_eq_true rfl⟩ (Nat.le_of_ble_eq_true rfl) dX6_numeral_61 64 rfl ⟨Nat.le_refl _, Nat.le_refl _⟩ ?_
    refine je_iload_n C dX6_numeral_64 65 rfl 0 rfl ?_
    cases h
    exact je_iret C dX6_numeral_65
  refine je_iload_n C dX6_numeral_53 54 rfl 1 rfl ?_
  cases h
  exact je_iret C dX6_numeral_54
set_option maxHeartbeats 4000000 in
theorem wX6_numeral_41 {p : Program} {l : Launch} {e : Env} {s : State} {m : MethodId} {args : Array Value} {below : List Frame} {meth : Method} {c : Code} {G : je_G} {dyn : Nat → Option je_E} {sz : Nat} {F : Nat} {r9 : Int32 × kp_K} (C : Cx p s m args meth c G "MinistryDesksModel" cX6_numeral 4 (some .int)) (κ : kp_K) (v1 : Int32) (h : bX6_numeral_41 F κ v1 = some r9) : Js p l e ({ frames := 6, cells := 0, slots := 0, locals := 129 } : Room) s m args below meth c G 4 (MQ below (je_Q G (some (.int r9.1)) (en2 G r9.2 dyn) sz) args s 0 0 (je_A G)) (en2 G κ dyn) sz 0 0 41 [(0, .ref (G.2.1 + 66)), (1, .int v1)] [] := by
  unfold bX6_numeral_41 at h
  refine je_aload_n C dX6_numeral_41 42 rfl 0 rfl ?_
  refine je_iconst C (2) dX6_numeral_42 43 rfl ic_2 ?_
  obtain ⟨k43, hg, h⟩ := p_cl_inv h
  refine je_callVv (As := [.int (2 : Int32)]) (rest := []) C (metX6_wrong hg) (en2_at kd66) rfl hdX6_wrong rfl cwX6_228 rfl ⟨Nat.le_of_ble_eq_true rfl, Nat.le_of_ble_eq_true rfl⟩ (Nat.le_of_ble_eq_true rfl) dX6_numeral_43 46 rfl ⟨Nat.le_refl _, Nat.le_refl _⟩ ?_
  exact wX6_numeral_46 C k43 v1 h
set_option maxHeartbeats 4000000 in
theorem metX6_numeral {l : Launch} {G : je_G} {dyn : Nat → Option je_E} {sz : Nat} {F : Nat} {κ : kp_K} {v1 : Int32} {v2 : Int32} {r9 : Int32 × kp_K} (h : pX6_numeral F κ v1 v2 = some r9) : MetS l G yX6_numeral cX6_numeral 4 (some .int) 6 129 0 0 [.ref (G.2.1 + 66), .int v1, .int v2] (en2 G κ dyn) sz (some (.int r9.1)) (en2 G r9.2 dyn) sz := by
  refine je_met "MinistryDesksModel" rfl (by decide +kernel) (Nat.le_of_ble_eq_true rfl) [(0, .ref (G.2.1 + 66)), (1, .int v1), (2, .int v2)] rfl (fun p e s m args below meth c C => ?_)
  unfold pX6_numeral at h
  refine je_aload_n C dX6_numeral_0 1 rfl 0 rfl ?_
  refine gX6_219 C dX6_numeral_1 4 rfl ?_
  refine je_if_eq C 9 dX6_numeral_4 7 rfl rfl h (fun h => ?_) (fun h => ?_)
  · refine je_aload_n C dX6_numeral_9 10 rfl 0 rfl ?_
    refine gX6_185 C dX6_numeral_10 13 rfl ?_
    refine je_iconst C (2) dX6_numeral_13 14 rfl ic_2 ?_
    refine je_icmp_eq C 25 dX6_numeral_14 17 rfl rfl h (fun h => ?_) (fun h => ?_)
    · refine je_aload_n C dX6_numeral_25 26 rfl 0 rfl ?_
      refine gX6_195 C dX6_numeral_26 29 rfl ?_
      refine je_iload_n C dX6_numeral_29 30 rfl 1 rfl ?_
      refine je_icmp_lt C 41 dX6_numeral_30 33 rfl rfl h (fun h => ?_) (fun h => ?_)
      · refine je_sub [0, 1] [(0, .ref (G.2.1 + 66)), (1, .int v1)] rfl ?_
        exact wX6_numeral_41 C κ v1 h
      refine je_aload_n C dX6_numeral_33 34 rfl 0 rfl ?_
      refine gX6_195 C dX6_numeral_34 37 rfl ?_
      refine je_iload_n C dX6_numeral_37 38 rfl 2 rfl ?_
      refine je_icmp_le C 46 dX6_numeral_38 41 rfl rfl h (fun h => ?_) (fun h => ?_)
      · refine je_sub [0, 1] [(0, .ref (G.2.1 + 66)), (1, .int v1)] rfl ?_
        exact wX6_numeral_46 C κ v1 h
      refine je_sub [0, 1] [(0, .ref (G.2.1 + 66)), (1, .int v1)] rfl ?_
      exact wX6_numeral_41 C κ v1 h
    refine je_aload_n C dX6_numeral_17 18 rfl 0 rfl ?_
    refine je_iconst C (1) dX6_numeral_18 19 rfl ic_1 ?_
    obtain ⟨k19, hg, h⟩ := p_cl_inv h
    refine je_callVv (As := [.int (1 : Int32)]) (rest := []) C (metX6_wrong hg) (en2_at kd66) rfl hdX6_wrong rfl cwX6_228 rfl ⟨Nat.le_of_ble_eq_true rfl, Nat.le_of_ble_eq_true rfl⟩ (Nat.le_of_ble_eq_true rfl) dX6_numeral_19 22 rfl ⟨Nat.le_refl _, Nat.le_refl _⟩ ?_
    refine je_goto C 46 dX6_numeral_22 rfl ?_
    refine je_sub [0, 1] [(0, .ref (G.2.1 + 66)), (1, .int v1)] rfl ?_
    exact wX6_numeral_46 C k19 v1 h
  refine je_iload_n C dX6_numeral_7 8 rfl 1 rfl ?_
  cases h
  exact je_iret C dX6_numeral_8
set_option maxHeartbeats 4000000 in
theorem metX6_oneMore {l : Launch} {G : je_G} {dyn : Nat → Option je_E} {sz : Nat} {κ : kp_K} {v1 : Int32} {r9 : kp_K} (h : pX6_oneMore κ v1 = some r9) : MetS l G yX6_oneMore cX6_oneMore 2 none 0 0 0 0 [.ref (G.2.1 + 66), .int v1] (en2 G κ dyn) sz none (en2 G r9 dyn) sz := by
  refine je_met "MinistryDesksModel" rfl (by decide +kernel) (Nat.le_of_ble_eq_true rfl) [(0, .ref (G.2.1 + 66)), (1, .int v1)] rfl (fun p e s m args below meth c C => ?_)
  unfold pX6_oneMore at h
  refine je_aload_n C dX6_oneMore_0 1 rfl 0 rfl ?_
  refine gX6_13 C dX6_oneMore_1 4 rfl ?_
  refine je_bipush C (8) dX6_oneMore_4 6 rfl bp_8 ?_
  refine je_iload_n C dX6_oneMore_6 7 rfl 1 rfl ?_
  refine je_iadd C dX6_oneMore_7 8 rfl ?_
  refine je_lti h (fun t8 h => ?_)
  refine je_dup2 C dX6_oneMore_8 9 rfl rfl rfl ?_
  refine jk_iald C kd68 dX6_oneMore_9 10 rfl h (fun h => ?_)
  refine je_iconst C (1) dX6_oneMore_10 11 rfl ic_1 ?_
  refine je_iadd C dX6_oneMore_11 12 rfl ?_
  refine jk_iast C kd68 dX6_oneMore_12 13 rfl h (fun h => ?_)
  refine jk_lt h (fun k12 h => ?_)
  cases h
  exact je_vret C dX6_oneMore_13
set_option maxHeartbeats 4000000 in
theorem wX6_atHand_44 {p : Program} {l : Launch} {e : Env} {s : State} {m : MethodId} {args : Array Value} {below : List Frame} {meth : Method} {c : Code} {G : je_G} {dyn : Nat → Option je_E} {sz : Nat} {F : Nat} {r9 : Int32 × kp_K} (C : Cx p s m args meth c G "MinistryDesksModel" cX6_atHand 4 (some .int)) (κ : kp_K) (a1 : Nat) (v2 : Int32) (v3 : Int32) (h : bX6_atHand_44 F κ a1 v2 v3 = some r9) : Js p l e ({ frames := 1, cells := 0, slots := 0, locals := 24 } : Room) s m args below meth c G 4 (MQ below (je_Q G (some (.int r9.1)) (en2 G r9.2 dyn) sz) args s 0 0 (je_A G)) (en2 G κ dyn) sz 0 0 44 [(0, .ref (G.2.1 + 66)), (1, .ref (G.2.1 + a1)), (2, .int v2), (3, .int v3)] [] := by
  unfold bX6_atHand_44 at h
  refine je_aload_n C dX6_atHand_44 45 rfl 0 rfl ?_
  refine gX6_219 C dX6_atHand_45 48 rfl ?_
  refine je_if_eq C 55 dX6_atHand_48 51 rfl rfl h (fun h => ?_) (fun h => ?_)
  · refine je_aload_n C dX6_atHand_55 56 rfl 1 rfl ?_
    refine je_iload_n C dX6_atHand_56 57 rfl 2 rfl ?_
    refine je_iload_n C dX6_atHand_57 58 rfl 3 rfl ?_
    refine je_aload_n C dX6_atHand_58 59 rfl 0 rfl ?_
    refine gX6_195 C dX6_atHand_59 62 rfl ?_
    obtain ⟨t62, hg, h⟩ := p_cl_inv h
    refine je_callSi (As := [.ref (G.2.1 + a1), .int v2, .int v3, .int (κ.1 66 30)]) (rest := []) C (metX6_found hg) hdX6_found cwX6_231 rfl ⟨Nat.le_of_ble_eq_true rfl, Nat.le_of_ble_eq_true rfl⟩ (Nat.le_of_ble_eq_true rfl) dX6_atHand_62 65 rfl ⟨Nat.le_refl _, Nat.le_refl _⟩ ?_
    cases h
    exact je_iret C dX6_atHand_65
  refine je_iconst C (0) dX6_atHand_51 52 rfl ic_0 ?_
  refine je_goto C 65 dX6_atHand_52 rfl ?_
  cases h
  exact je_iret C dX6_atHand_65
set_option maxHeartbeats 4000000 in
theorem metX6_atHand {l : Launch} {G : je_G} {dyn : Nat → Option je_E} {sz : Nat} {F : Nat} {κ : kp_K} {a1 : Nat} {v2 : Int32} {v3 : Int32} {r9 : Int32 × kp_K} (h : pX6_atHand F κ a1 v2 v3 = some r9) : MetS l G yX6_atHand cX6_atHand 4 (some .int) 1 24 0 0 [.ref (G.2.1 + 66), .ref (G.2.1 + a1), .int v2, .int v3] (en2 G κ dyn) sz (some (.int r9.1)) (en2 G r9.2 dyn) sz := by
  refine je_met "MinistryDesksModel" rfl (by decide +kernel) (Nat.le_of_ble_eq_true rfl) [(0, .ref (G.2.1 + 66)), (1, .ref (G.2.1 + a1)), (2, .int v2), (3, .int v3)] rfl (fun p e s m args below meth c C => ?_)
  unfold pX6_atHand at h
  refine je_aload_n C dX6_atHand_0 1 rfl 0 rfl ?_
  refine gX6_219 C dX6_atHand_1 4 rfl ?_
  refine je_if_eq C 9 dX6_atHand_4 7 rfl rfl h (fun h => ?_) (fun h => ?_)
  · refine je_aload_n C dX6_atHand_9 10 rfl 0 rfl ?_
    refine gX6_185 C dX6_atHand_10 13 rfl ?_
    refine je_iconst C (1) dX6_atHand_13 14 rfl ic_1 ?_
    refine je_icmp_eq C 25 dX6_atHand_14 17 rfl rfl h (fun h => ?_) (fun h => ?_)
    · refine je_aload_n C dX6_atHand_25 26 rfl 1 rfl ?_
      refine je_iload_n C dX6_atHand_26 27 rfl 2 rfl ?_
      refine je_iload_n C dX6_atHand_27 28 rfl 3 rfl ?_
      refine je_aload_n C dX6_atHand_28 29 rfl 0 rfl ?_
      refine gX6_195 C dX6_atHand_29 32 rfl ?_
      obtain ⟨t32, hg, h⟩ := p_cl_inv h
      refine je_callSi (As := [.ref (G.2.1 + a1), .int v2, .int v3, .int (κ.1 66 30)]) (rest := []) C (metX6_found hg) hdX6_found cwX6_231 rfl ⟨Nat.le_of_ble_eq_true rfl, Nat.le_of_ble_eq_true rfl⟩ (Nat.le_of_ble_eq_true rfl) dX6_atHand_32 35 rfl ⟨Nat.le_refl _, Nat.le_refl _⟩ ?_
      refine je_iconst C (-1) dX6_atHand_35 36 rfl ic_m1 ?_
      refine je_icmp_ne C 44 dX6_atHand_36 39 rfl rfl h (fun h => ?_) (fun h => ?_)
      · exact wX6_atHand_44 C κ a1 v2 v3 h
      refine je_aload_n C dX6_atHand_39 40 rfl 0 rfl ?_
      refine je_iconst C (4) dX6_atHand_40 41 rfl ic_4 ?_
      obtain ⟨k41, hg, h⟩ := p_cl_inv h
      refine je_callVv (As := [.int (4 : Int32)]) (rest := []) C (metX6_wrong hg) (en2_at kd66) rfl hdX6_wrong rfl cwX6_228 rfl ⟨Nat.le_of_ble_eq_true rfl, Nat.le_of_ble_eq_true rfl⟩ (Nat.le_of_ble_eq_true rfl) dX6_atHand_41 44 rfl ⟨Nat.le_refl _, Nat.le_refl _⟩ ?_
      exact wX6_atHand_44 C k41 a1 v2 v3 h
    refine je_aload_n C dX6_atHand_17 18 rfl 0 rfl ?_
    refine je_iconst C (1) dX6_atHand_18 19 rfl ic_1 ?_
    obtain ⟨k19, hg, h⟩ := p_cl_inv h
    refine je_callVv (As := [.int (1 : Int32)]) (rest := []) C (metX6_wrong hg) (en2_at kd66) rfl hdX6_wrong rfl cwX6_228 rfl ⟨Nat.le_of_ble_eq_true rfl, Nat.le_of_ble_eq_true rfl⟩ (Nat.le_of_ble_eq_true rfl) dX6_atHand_19 22 rfl ⟨Nat.le_refl _, Nat.le_refl _⟩ ?_
    refine je_goto C 44 dX6_atHand_22 rfl ?_
    exact wX6_atHand_44 C k19 a1 v2 v3 h
  refine je_iconst C (0) dX6_atHand_7 8 rfl ic_0 ?_
  cases h
  exact je_iret C dX6_atHand_8
set_option maxHeartbeats 4000000 in
theorem metX6_goOn {l : Launch} {G : je_G} {dyn : Nat → Option je_E} {sz : Nat} {F : Nat} {κ : kp_K}  {r9 : kp_K} (h : pX6_goOn F κ = some r9) : MetS l G yX6_goOn cX6_goOn 1 none 6 129 0 0 [.ref (G.2.1 + 66)] (en2 G κ dyn) sz none (en2 G r9 dyn) sz := by
  refine je_met "MinistryDesksModel" rfl (by decide +kernel) (Nat.le_of_ble_eq_true rfl) [(0, .ref (G.2.1 + 66))] rfl (fun p e s m args below meth c C => ?_)
  unfold pX6_goOn at h
  refine je_aload_n C dX6_goOn_0 1 rfl 0 rfl ?_
  refine gX6_219 C dX6_goOn_1 4 rfl ?_
  refine je_if_ne C 11 dX6_goOn_4 7 rfl rfl h (fun h => ?_) (fun h => ?_)
  · cases h
    exact je_vret C dX6_goOn_11
  refine je_aload_n C dX6_goOn_7 8 rfl 0 rfl ?_
  obtain ⟨k8, hg, h⟩ := p_cl_inv h
  refine je_callVv (As := []) (rest := []) C (metX6_token hg) (en2_at kd66) rfl hdX6_token rfl cwX6_225 rfl ⟨Nat.le_of_ble_eq_true rfl, Nat.le_of_ble_eq_true rfl⟩ (Nat.le_of_ble_eq_true rfl) dX6_goOn_8 11 rfl ⟨Nat.le_refl _, Nat.le_refl _⟩ ?_
  cases h
  exact je_vret C dX6_goOn_11
theorem hdX6_atHand : je_hd yX6_atHand 3 := ⟨by decide +kernel, by decide +kernel, by decide +kernel⟩
theorem hdX6_goOn : je_hd yX6_goOn 0 := ⟨by decide +kernel, by decide +kernel, by decide +kernel⟩
theorem cwX6_235 : GoodIn lw_all (wsV "MinistryDesksModel" 235 "MinistryDesksModel" yX6_atHand (ws_ yX6_atHand cX6_atHand 4 (some .int))) := lw_V q1985 q1987 qs91 q169 q1988
theorem cwX6_239 : GoodIn lw_all (wsV "MinistryDesksModel" 239 "MinistryDesksModel" yX6_goOn (ws_ yX6_goOn cX6_goOn 1 none)) := lw_V q1989 q1991 qs92 q169 q1992
theorem gX6_16 {p : Program} {l : Launch} {e : Env} {R : Room} {s : State} {m : MethodId} {args : Array Value} {below : List Frame} {meth : Method} {c : Code} {Q : State → Prop} {G : je_G} {cc : ByteArray} {nL : Nat} {rt : Option FieldType} {sz cells slots pc : Nat} {L : List (Nat × Value)} {st : List Value} {κ : kp_K} {dyn : Nat → Option je_E} (C : Cx p s m args meth c G "MinistryDesksModel" cc nL rt) (d : decode cc pc = .ok (.getfield 16, 3)) (n : Nat) (hn : pc + 3 = n) (kk : Js p l e R s m args below meth c G nL Q (en2 G κ dyn) sz cells slots n L (.ref (G.2.1 + 69) :: st)) : Js p l e R s m args below meth c G nL Q (en2 G κ dyn) sz cells slots pc L (.ref (G.2.1 + 66) :: st) := jk_getR (k := 4) (z := 0) C kd66 rfl in_X6 69 rfl (by decide) q1684 rfl d n hn kk
theorem gX6_22 {p : Program} {l : Launch} {e : Env} {R : Room} {s : State} {m : MethodId} {args : Array Value} {below : List Frame} {meth : Method} {c : Code} {Q : State → Prop} {G : je_G} {cc : ByteArray} {nL : Nat} {rt : Option FieldType} {sz cells slots pc : Nat} {L : List (Nat × Value)} {st : List Value} {κ : kp_K} {dyn : Nat → Option je_E} (C : Cx p s m args meth c G "MinistryDesksModel" cc nL rt) (d : decode cc pc = .ok (.getfield 22, 3)) (n : Nat) (hn : pc + 3 = n) (kk : Js p l e R s m args below meth c G nL Q (en2 G κ dyn) sz cells slots n L (.ref (G.2.1 + 71) :: st)) : Js p l e R s m args below meth c G nL Q (en2 G κ dyn) sz cells slots pc L (.ref (G.2.1 + 66) :: st) := jk_getR (k := 6) (z := 0) C kd66 rfl in_X6 71 rfl (by decide) q1686 rfl d n hn kk
set_option maxHeartbeats 4000000 in
theorem wX6_asksLine_75 {p : Program} {l : Launch} {e : Env} {s : State} {m : MethodId} {args : Array Value} {below : List Frame} {meth : Method} {c : Code} {G : je_G} {dyn : Nat → Option je_E} {sz : Nat} {F : Nat} {r9 : kp_K} (C : Cx p s m args meth c G "MinistryDesksModel" cX6_asksLine 3 none) (κ : kp_K) (v1 : Int32) (v2 : Int32) (h : bX6_asksLine_75 F κ v1 v2 = some r9) : Js p l e ({ frames := 7, cells := 0, slots := 0, locals := 149 } : Room) s m args below meth c G 3 (MQ below (je_Q G none (en2 G r9 dyn) sz) args s 0 0 (je_A G)) (en2 G κ dyn) sz 0 0 75 [(0, .ref (G.2.1 + 66)), (1, .int v1), (2, .int v2)] [] := by
  unfold bX6_asksLine_75 at h
  refine je_aload_n C dX6_asksLine_75 76 rfl 0 rfl ?_
  refine gX6_219 C dX6_asksLine_76 79 rfl ?_
  refine je_if_eq C 83 dX6_asksLine_79 82 rfl rfl h (fun h => ?_) (fun h => ?_)
  · refine je_aload_n C dX6_asksLine_83 84 rfl 0 rfl ?_
    refine gX6_22 C dX6_asksLine_84 87 rfl ?_
    refine je_iconst C (4) dX6_asksLine_87 88 rfl ic_4 ?_
    refine je_iload_n C dX6_asksLine_88 89 rfl 1 rfl ?_
    refine je_iadd C dX6_asksLine_89 90 rfl ?_
    refine je_iload_n C dX6_asksLine_90 91 rfl 2 rfl ?_
    refine jk_iast C kd71 dX6_asksLine_91 92 rfl h (fun h => ?_)
    refine jk_lt h (fun k91 h => ?_)
    refine je_aload_n C dX6_asksLine_92 93 rfl 0 rfl ?_
    obtain ⟨k93, hg, h⟩ := p_cl_inv h
    refine je_callVv (As := []) (rest := []) C (metX6_token hg) (en2_at kd66) rfl hdX6_token rfl cwX6_225 rfl ⟨Nat.le_of_ble_eq_true rfl, Nat.le_of_ble_eq_true rfl⟩ (Nat.le_of_ble_eq_true rfl) dX6_asksLine_93 96 rfl ⟨Nat.le_refl _, Nat.le_refl _⟩ ?_
    cases h
    exact je_vret C dX6_asksLine_96
  cases h
  exact je_vret C dX6_asksLine_82
set_option maxHeartbeats 4000000 in
theorem wX6_asksLine_39 {p : Program} {l : Launch} {e : Env} {s : State} {m : MethodId} {args : Array Value} {below : List Frame} {meth : Method} {c : Code} {G : je_G} {dyn : Nat → Option je_E} {sz : Nat} {F : Nat} {r9 : kp_K} (C : Cx p s m args meth c G "MinistryDesksModel" cX6_asksLine 3 none) (κ : kp_K) (v1 : Int32) (h : bX6_asksLine_39 F κ v1 = some r9) : Js p l e ({ frames := 7, cells := 0, slots := 0, locals := 149 } : Room) s m args below meth c G 3 (MQ below (je_Q G none (en2 G r9 dyn) sz) args s 0 0 (je_A G)) (en2 G κ dyn) sz 0 0 39 [(0, .ref (G.2.1 + 66)), (1, .int v1)] [] := by
  unfold bX6_asksLine_39 at h
  refine je_aload_n C dX6_asksLine_39 40 rfl 0 rfl ?_
  obtain ⟨k40, hg, h⟩ := p_cl_inv h
  refine je_callVv (As := []) (rest := []) C (metX6_goOn hg) (en2_at kd66) rfl hdX6_goOn rfl cwX6_239 rfl ⟨Nat.le_of_ble_eq_true rfl, Nat.le_of_ble_eq_true rfl⟩ (Nat.le_of_ble_eq_true rfl) dX6_asksLine_40 43 rfl ⟨Nat.le_refl _, Nat.le_refl _⟩ ?_
  refine je_aload_n C dX6_asksLine_43 44 rfl 0 rfl ?_
  refine je_aload_n C dX6_asksLine_44 45 rfl 0 rfl ?_
  refine gX6_16 C dX6_asksLine_45 48 rfl ?_
  refine je_iconst C (4) dX6_asksLine_48 49 rfl ic_4 ?_
  refine je_aload_n C dX6_asksLine_49 50 rfl 0 rfl ?_
  refine je_iconst C (0) dX6_asksLine_50 51 rfl ic_0 ?_
  obtain ⟨t51, hg, h⟩ := p_cl_inv h
  refine je_callVi (As := [.int (0 : Int32)]) (rest := [.int (4 : Int32), .ref (G.2.1 + 69), .ref (G.2.1 + 66)]) C (metX6_fresher hg) (en2_at kd66) rfl hdX6_fresher rfl cwX6_242 rfl ⟨Nat.le_of_ble_eq_true rfl, Nat.le_of_ble_eq_true rfl⟩ (Nat.le_of_ble_eq_true rfl) dX6_asksLine_51 54 rfl ⟨Nat.le_refl _, Nat.le_refl _⟩ ?_
  obtain ⟨q54, hg, h⟩ := p_cl_inv h
  refine je_callVi (As := [.ref (G.2.1 + 69), .int (4 : Int32), .int t51]) (rest := []) C (metX6_atHand hg) (en2_at kd66) rfl hdX6_atHand rfl cwX6_235 rfl ⟨Nat.le_of_ble_eq_true rfl, Nat.le_of_ble_eq_true rfl⟩ (Nat.le_of_ble_eq_true rfl) dX6_asksLine_54 57 rfl ⟨Nat.le_refl _, Nat.le_refl _⟩ ?_
  refine je_lti h (fun t54 h => ?_)
  refine jk_lt h (fun k54 h => ?_)
  refine je_istore_n C dX6_asksLine_57 58 rfl (Nat.le_of_ble_eq_true rfl) [(2, .int t54), (0, .ref (G.2.1 + 66)), (1, .int v1)] rfl ?_
  refine je_aload_n C dX6_asksLine_58 59 rfl 1 rfl ?_
  refine gX6_219 C dX6_asksLine_59 62 rfl ?_
  refine je_if_ne C 75 dX6_asksLine_62 65 rfl rfl h (fun h => ?_) (fun h => ?_)
  · refine je_sub [1, 2, 0] [(0, .ref (G.2.1 + 66)), (1, .int v1), (2, .int t54)] rfl ?_
    exact wX6_asksLine_75 C k54 v1 t54 h
  refine je_iload_n C dX6_asksLine_65 66 rfl 2 rfl ?_
  refine je_iload_n C dX6_asksLine_66 67 rfl 0 rfl ?_
  refine je_icmp_ne C 75 dX6_asksLine_67 70 rfl rfl h (fun h => ?_) (fun h => ?_)
  · refine je_sub [1, 2, 0] [(0, .ref (G.2.1 + 66)), (1, .int v1), (2, .int t54)] rfl ?_
    exact wX6_asksLine_75 C k54 v1 t54 h
  refine je_aload_n C dX6_asksLine_70 71 rfl 1 rfl ?_
  refine je_iconst C (5) dX6_asksLine_71 72 rfl ic_5 ?_
  obtain ⟨k72, hg, h⟩ := p_cl_inv h
  refine je_callVv (As := [.int (5 : Int32)]) (rest := []) C (metX6_wrong hg) (en2_at kd66) rfl hdX6_wrong rfl cwX6_228 rfl ⟨Nat.le_of_ble_eq_true rfl, Nat.le_of_ble_eq_true rfl⟩ (Nat.le_of_ble_eq_true rfl) dX6_asksLine_72 75 rfl ⟨Nat.le_refl _, Nat.le_refl _⟩ ?_
  refine je_sub [1, 2, 0] [(0, .ref (G.2.1 + 66)), (1, .int v1), (2, .int t54)] rfl ?_
  exact wX6_asksLine_75 C k72 v1 t54 h
set_option maxHeartbeats 4000000 in
theorem metX6_asksLine {l : Launch} {G : je_G} {dyn : Nat → Option je_E} {sz : Nat} {F : Nat} {κ : kp_K}  {r9 : kp_K} (h : pX6_asksLine F κ = some r9) : MetS l G yX6_asksLine cX6_asksLine 3 none 7 149 0 0 [.ref (G.2.1 + 66)] (en2 G κ dyn) sz none (en2 G r9 dyn) sz := by
  refine je_met "MinistryDesksModel" rfl (by decide +kernel) (Nat.le_of_ble_eq_true rfl) [(0, .ref (G.2.1 + 66))] rfl (fun p e s m args below meth c C => ?_)
  unfold pX6_asksLine at h
  refine je_aload_n C dX6_asksLine_0 1 rfl 0 rfl ?_
  refine je_aload_n C dX6_asksLine_1 2 rfl 0 rfl ?_
  refine gX6_16 C dX6_asksLine_2 5 rfl ?_
  refine je_iconst C (4) dX6_asksLine_5 6 rfl ic_4 ?_
  refine je_aload_n C dX6_asksLine_6 7 rfl 0 rfl ?_
  refine je_iconst C (0) dX6_asksLine_7 8 rfl ic_0 ?_
  obtain ⟨t8, hg, h⟩ := p_cl_inv h
  refine je_callVi (As := [.int (0 : Int32)]) (rest := [.int (4 : Int32), .ref (G.2.1 + 69), .ref (G.2.1 + 66)]) C (metX6_fresher hg) (en2_at kd66) rfl hdX6_fresher rfl cwX6_242 rfl ⟨Nat.le_of_ble_eq_true rfl, Nat.le_of_ble_eq_true rfl⟩ (Nat.le_of_ble_eq_true rfl) dX6_asksLine_8 11 rfl ⟨Nat.le_refl _, Nat.le_refl _⟩ ?_
  obtain ⟨q11, hg, h⟩ := p_cl_inv h
  refine je_callVi (As := [.ref (G.2.1 + 69), .int (4 : Int32), .int t8]) (rest := []) C (metX6_atHand hg) (en2_at kd66) rfl hdX6_atHand rfl cwX6_235 rfl ⟨Nat.le_of_ble_eq_true rfl, Nat.le_of_ble_eq_true rfl⟩ (Nat.le_of_ble_eq_true rfl) dX6_asksLine_11 14 rfl ⟨Nat.le_refl _, Nat.le_refl _⟩ ?_
  refine je_lti h (fun t11 h => ?_)
  refine jk_lt h (fun k11 h => ?_)
  refine je_istore_n C dX6_asksLine_14 15 rfl (Nat.le_of_ble_eq_true rfl) [(1, .int t11), (0, .ref (G.2.1 + 66))] rfl ?_
  refine je_aload_n C dX6_asksLine_15 16 rfl 1 rfl ?_
  refine gX6_219 C dX6_asksLine_16 19 rfl ?_
  refine je_if_ne C 39 dX6_asksLine_19 22 rfl rfl h (fun h => ?_) (fun h => ?_)
  · refine je_sub [1, 0] [(0, .ref (G.2.1 + 66)), (1, .int t11)] rfl ?_
    exact wX6_asksLine_39 C k11 t11 h
  refine je_aload_n C dX6_asksLine_22 23 rfl 1 rfl ?_
  refine gX6_22 C dX6_asksLine_23 26 rfl ?_
  refine je_iconst C (4) dX6_asksLine_26 27 rfl ic_4 ?_
  refine je_iload_n C dX6_asksLine_27 28 rfl 0 rfl ?_
  refine je_iadd C dX6_asksLine_28 29 rfl ?_
  refine je_lti h (fun i29 h => ?_)
  refine jk_iald C kd71 dX6_asksLine_29 30 rfl h (fun h => ?_)
  refine je_iconst C (-1) dX6_asksLine_30 31 rfl ic_m1 ?_
  refine je_icmp_eq C 39 dX6_asksLine_31 34 rfl rfl h (fun h => ?_) (fun h => ?_)
  · refine je_sub [1, 0] [(0, .ref (G.2.1 + 66)), (1, .int t11)] rfl ?_
    exact wX6_asksLine_39 C k11 t11 h
  refine je_aload_n C dX6_asksLine_34 35 rfl 1 rfl ?_
  refine je_iconst C (3) dX6_asksLine_35 36 rfl ic_3 ?_
  obtain ⟨k36, hg, h⟩ := p_cl_inv h
  refine je_callVv (As := [.int (3 : Int32)]) (rest := []) C (metX6_wrong hg) (en2_at kd66) rfl hdX6_wrong rfl cwX6_228 rfl ⟨Nat.le_of_ble_eq_true rfl, Nat.le_of_ble_eq_true rfl⟩ (Nat.le_of_ble_eq_true rfl) dX6_asksLine_36 39 rfl ⟨Nat.le_refl _, Nat.le_refl _⟩ ?_
  refine je_sub [1, 0] [(0, .ref (G.2.1 + 66)), (1, .int t11)] rfl ?_
  exact wX6_asksLine_39 C k36 t11 h
set_option maxHeartbeats 4000000 in
theorem metX6_ahead {l : Launch} {G : je_G} {dyn : Nat → Option je_E} {sz : Nat} {F : Nat} {κ : kp_K} {a1 : Nat} {v2 : Int32} {v3 : Int32} {r9 : Int32 × kp_K} (h : pX6_ahead F κ a1 v2 v3 = some r9) : MetS l G yX6_ahead cX6_ahead 5 (some .int) 7 149 0 0 [.ref (G.2.1 + 66), .ref (G.2.1 + a1), .int v2, .int v3] (en2 G κ dyn) sz (some (.int r9.1)) (en2 G r9.2 dyn) sz := by
  refine je_met "MinistryDesksModel" rfl (by decide +kernel) (Nat.le_of_ble_eq_true rfl) [(0, .ref (G.2.1 + 66)), (1, .ref (G.2.1 + a1)), (2, .int v2), (3, .int v3)] rfl (fun p e s m args below meth c C => ?_)
  unfold pX6_ahead at h
  refine je_aload_n C dX6_ahead_0 1 rfl 0 rfl ?_
  refine je_aload_n C dX6_ahead_1 2 rfl 1 rfl ?_
  refine je_iload_n C dX6_ahead_2 3 rfl 2 rfl ?_
  refine je_iload_n C dX6_ahead_3 4 rfl 3 rfl ?_
  obtain ⟨q4, hg, h⟩ := p_cl_inv h
  refine je_callVi (As := [.ref (G.2.1 + a1), .int v2, .int v3]) (rest := []) C (metX6_atHand hg) (en2_at kd66) rfl hdX6_atHand rfl cwX6_235 rfl ⟨Nat.le_of_ble_eq_true rfl, Nat.le_of_ble_eq_true rfl⟩ (Nat.le_of_ble_eq_true rfl) dX6_ahead_4 7 rfl ⟨Nat.le_refl _, Nat.le_refl _⟩ ?_
  refine je_lti h (fun t4 h => ?_)
  refine jk_lt h (fun k4 h => ?_)
  refine je_istore C dX6_ahead_7 9 rfl (Nat.le_of_ble_eq_true rfl) [(4, .int t4), (0, .ref (G.2.1 + 66)), (1, .ref (G.2.1 + a1)), (2, .int v2), (3, .int v3)] rfl ?_
  refine je_aload_n C dX6_ahead_9 10 rfl 1 rfl ?_
  obtain ⟨k10, hg, h⟩ := p_cl_inv h
  refine je_callVv (As := []) (rest := []) C (metX6_goOn hg) (en2_at kd66) rfl hdX6_goOn rfl cwX6_239 rfl ⟨Nat.le_of_ble_eq_true rfl, Nat.le_of_ble_eq_true rfl⟩ (Nat.le_of_ble_eq_true rfl) dX6_ahead_10 13 rfl ⟨Nat.le_refl _, Nat.le_refl _⟩ ?_
  refine je_iload C dX6_ahead_13 15 rfl 0 rfl ?_
  cases h
  exact je_iret C dX6_ahead_15
theorem hdX6_ahead : je_hd yX6_ahead 3 := ⟨by decide +kernel, by decide +kernel, by decide +kernel⟩
theorem cwX6_286 : GoodIn lw_all (wsV "MinistryDesksModel" 286 "MinistryDesksModel" yX6_ahead (ws_ yX6_ahead cX6_ahead 5 (some .int))) := lw_V q2001 q2003 qs95 q169 q2004
set_option maxHeartbeats 4000000 in
theorem metX6_desk {l : Launch} {G : je_G} {dyn : Nat → Option je_E} {sz : Nat} {F : Nat} {κ : kp_K}  {r9 : Int32 × kp_K} (h : pX6_desk F κ = some r9) : MetS l G yX6_desk cX6_desk 1 (some .int) 8 173 0 0 [.ref (G.2.1 + 66)] (en2 G κ dyn) sz (some (.int r9.1)) (en2 G r9.2 dyn) sz := by
  refine je_met "MinistryDesksModel" rfl (by decide +kernel) (Nat.le_of_ble_eq_true rfl) [(0, .ref (G.2.1 + 66))] rfl (fun p e s m args below meth c C => ?_)
  unfold pX6_desk at h
  refine je_aload_n C dX6_desk_0 1 rfl 0 rfl ?_
  refine je_aload_n C dX6_desk_1 2 rfl 0 rfl ?_
  refine gX6_16 C dX6_desk_2 5 rfl ?_
  refine je_iconst C (4) dX6_desk_5 6 rfl ic_4 ?_
  refine je_aload_n C dX6_desk_6 7 rfl 0 rfl ?_
  refine je_iconst C (0) dX6_desk_7 8 rfl ic_0 ?_
  obtain ⟨t8, hg, h⟩ := p_cl_inv h
  refine je_callVi (As := [.int (0 : Int32)]) (rest := [.int (4 : Int32), .ref (G.2.1 + 69), .ref (G.2.1 + 66)]) C (metX6_fresher hg) (en2_at kd66) rfl hdX6_fresher rfl cwX6_242 rfl ⟨Nat.le_of_ble_eq_true rfl, Nat.le_of_ble_eq_true rfl⟩ (Nat.le_of_ble_eq_true rfl) dX6_desk_8 11 rfl ⟨Nat.le_refl _, Nat.le_refl _⟩ ?_
  obtain ⟨q11, hg, h⟩ := p_cl_inv h
  refine je_callVi (As := [.ref (G.2.1 + 69), .int (4 : Int32), .int t8]) (rest := []) C (metX6_ahead hg) (en2_at kd66) rfl hdX6_ahead rfl cwX6_286 rfl ⟨Nat.le_of_ble_eq_true rfl, Nat.le_of_ble_eq_true rfl⟩ (Nat.le_of_ble_eq_true rfl) dX6_desk_11 14 rfl ⟨Nat.le_refl _, Nat.le_refl _⟩ ?_
  refine je_lti h (fun t11 h => ?_)
  refine jk_lt h (fun k11 h => ?_)
  cases h
  exact je_iret C dX6_desk_14
theorem gX6_25 {p : Program} {l : Launch} {e : Env} {R : Room} {s : State} {m : MethodId} {args : Array Value} {below : List Frame} {meth : Method} {c : Code} {Q : State → Prop} {G : je_G} {cc : ByteArray} {nL : Nat} {rt : Option FieldType} {sz cells slots pc : Nat} {L : List (Nat × Value)} {st : List Value} {κ : kp_K} {dyn : Nat → Option je_E} (C : Cx p s m args meth c G "MinistryDesksModel" cc nL rt) (d : decode cc pc = .ok (.getfield 25, 3)) (n : Nat) (hn : pc + 3 = n) (kk : Js p l e R s m args below meth c G nL Q (en2 G κ dyn) sz cells slots n L (.ref (G.2.1 + 72) :: st)) : Js p l e R s m args below meth c G nL Q (en2 G κ dyn) sz cells slots pc L (.ref (G.2.1 + 66) :: st) := jk_getR (k := 7) (z := 0) C kd66 rfl in_X6 72 rfl (by decide) q1687 rfl d n hn kk
set_option maxHeartbeats 4000000 in
theorem metX6_fact {l : Launch} {G : je_G} {dyn : Nat → Option je_E} {sz : Nat} {F : Nat} {κ : kp_K}  {r9 : Int32 × kp_K} (h : pX6_fact F κ = some r9) : MetS l G yX6_fact cX6_fact 1 (some .int) 8 173 0 0 [.ref (G.2.1 + 66)] (en2 G κ dyn) sz (some (.int r9.1)) (en2 G r9.2 dyn) sz := by
  refine je_met "MinistryDesksModel" rfl (by decide +kernel) (Nat.le_of_ble_eq_true rfl) [(0, .ref (G.2.1 + 66))] rfl (fun p e s m args below meth c C => ?_)
  unfold pX6_fact at h
  refine je_aload_n C dX6_fact_0 1 rfl 0 rfl ?_
  refine je_aload_n C dX6_fact_1 2 rfl 0 rfl ?_
  refine gX6_25 C dX6_fact_2 5 rfl ?_
  refine je_bipush C (7) dX6_fact_5 7 rfl bp_7 ?_
  refine je_aload_n C dX6_fact_7 8 rfl 0 rfl ?_
  refine je_iconst C (1) dX6_fact_8 9 rfl ic_1 ?_
  obtain ⟨t9, hg, h⟩ := p_cl_inv h
  refine je_callVi (As := [.int (1 : Int32)]) (rest := [.int (7 : Int32), .ref (G.2.1 + 72), .ref (G.2.1 + 66)]) C (metX6_fresher hg) (en2_at kd66) rfl hdX6_fresher rfl cwX6_242 rfl ⟨Nat.le_of_ble_eq_true rfl, Nat.le_of_ble_eq_true rfl⟩ (Nat.le_of_ble_eq_true rfl) dX6_fact_9 12 rfl ⟨Nat.le_refl _, Nat.le_refl _⟩ ?_
  obtain ⟨q12, hg, h⟩ := p_cl_inv h
  refine je_callVi (As := [.ref (G.2.1 + 72), .int (7 : Int32), .int t9]) (rest := []) C (metX6_ahead hg) (en2_at kd66) rfl hdX6_ahead rfl cwX6_286 rfl ⟨Nat.le_of_ble_eq_true rfl, Nat.le_of_ble_eq_true rfl⟩ (Nat.le_of_ble_eq_true rfl) dX6_fact_12 15 rfl ⟨Nat.le_refl _, Nat.le_refl _⟩ ?_
  refine je_lti h (fun t12 h => ?_)
  refine jk_lt h (fun k12 h => ?_)
  cases h
  exact je_iret C dX6_fact_15
theorem bp_99 : (Int8.ofInt (99)).toInt32 = (99 : Int32) := by decide +kernel
theorem hdX6_desk : je_hd yX6_desk 0 := ⟨by decide +kernel, by decide +kernel, by decide +kernel⟩
theorem hdX6_fact : je_hd yX6_fact 0 := ⟨by decide +kernel, by decide +kernel, by decide +kernel⟩
theorem hdX6_numeral : je_hd yX6_numeral 2 := ⟨by decide +kernel, by decide +kernel, by decide +kernel⟩
theorem hdX6_oneMore : je_hd yX6_oneMore 1 := ⟨by decide +kernel, by decide +kernel, by decide +kernel⟩
theorem cwX6_255 : GoodIn lw_all (wsV "MinistryDesksModel" 255 "MinistryDesksModel" yX6_numeral (ws_ yX6_numeral cX6_numeral 4 (some .int))) := lw_V q1973 q1975 qs88 q169 q1976
theorem cwX6_259 : GoodIn lw_all (wsV "MinistryDesksModel" 259 "MinistryDesksModel" yX6_oneMore (ws_ yX6_oneMore cX6_oneMore 2 none)) := lw_V q1977 q1979 qs89 q169 q1980
theorem cwX6_271 : GoodIn lw_all (wsV "MinistryDesksModel" 271 "MinistryDesksModel" yX6_desk (ws_ yX6_desk cX6_desk 1 (some .int))) := lw_V q1997 q1999 qs94 q169 q2000
theorem cwX6_289 : GoodIn lw_all (wsV "MinistryDesksModel" 289 "MinistryDesksModel" yX6_fact (ws_ yX6_fact cX6_fact 1 (some .int))) := lw_V q2005 q2007 qs96 q169 q2008
theorem gX6_31 {p : Program} {l : Launch} {e : Env} {R : Room} {s : State} {m : MethodId} {args : Array Value} {below : List Frame} {meth : Method} {c : Code} {Q : State → Prop} {G : je_G} {cc : ByteArray} {nL : Nat} {rt : Option FieldType} {sz cells slots pc : Nat} {L : List (Nat × Value)} {st : List Value} {κ : kp_K} {dyn : Nat → Option je_E} (C : Cx p s m args meth c G "MinistryDesksModel" cc nL rt) (d : decode cc pc = .ok (.getfield 31, 3)) (n : Nat) (hn : pc + 3 = n) (kk : Js p l e R s m args below meth c G nL Q (en2 G κ dyn) sz cells slots n L (.ref (G.2.1 + 74) :: st)) : Js p l e R s m args below meth c G nL Q (en2 G κ dyn) sz cells slots pc L (.ref (G.2.1 + 66) :: st) := jk_getR (k := 9) (z := 0) C kd66 rfl in_X6 74 rfl (by decide) q1689 rfl d n hn kk
theorem gX6_34 {p : Program} {l : Launch} {e : Env} {R : Room} {s : State} {m : MethodId} {args : Array Value} {below : List Frame} {meth : Method} {c : Code} {Q : State → Prop} {G : je_G} {cc : ByteArray} {nL : Nat} {rt : Option FieldType} {sz cells slots pc : Nat} {L : List (Nat × Value)} {st : List Value} {κ : kp_K} {dyn : Nat → Option je_E} (C : Cx p s m args meth c G "MinistryDesksModel" cc nL rt) (d : decode cc pc = .ok (.getfield 34, 3)) (n : Nat) (hn : pc + 3 = n) (kk : Js p l e R s m args below meth c G nL Q (en2 G κ dyn) sz cells slots n L (.ref (G.2.1 + 75) :: st)) : Js p l e R s m args below meth c G nL Q (en2 G κ dyn) sz cells slots pc L (.ref (G.2.1 + 66) :: st) := jk_getR (k := 10) (z := 0) C kd66 rfl in_X6 75 rfl (by decide) q1690 rfl d n hn kk
theorem gX6_37 {p : Program} {l : Launch} {e : Env} {R : Room} {s : State} {m : MethodId} {args : Array Value} {below : List Frame} {meth : Method} {c : Code} {Q : State → Prop} {G : je_G} {cc : ByteArray} {nL : Nat} {rt : Option FieldType} {sz cells slots pc : Nat} {L : List (Nat × Value)} {st : List Value} {κ : kp_K} {dyn : Nat → Option je_E} (C : Cx p s m args meth c G "MinistryDesksModel" cc nL rt) (d : decode cc pc = .ok (.getfield 37, 3)) (n : Nat) (hn : pc + 3 = n) (kk : Js p l e R s m args below meth c G nL Q (en2 G κ dyn) sz cells slots n L (.ref (G.2.1 + 76) :: st)) : Js p l e R s m args below meth c G nL Q (en2 G κ dyn) sz cells slots pc L (.ref (G.2.1 + 66) :: st) := jk_getR (k := 11) (z := 0) C kd66 rfl in_X6 76 rfl (by decide) q1691 rfl d n hn kk
theorem gX6_40 {p : Program} {l : Launch} {e : Env} {R : Room} {s : State} {m : MethodId} {args : Array Value} {below : List Frame} {meth : Method} {c : Code} {Q : State → Prop} {G : je_G} {cc : ByteArray} {nL : Nat} {rt : Option FieldType} {sz cells slots pc : Nat} {L : List (Nat × Value)} {st : List Value} {κ : kp_K} {dyn : Nat → Option je_E} (C : Cx p s m args meth c G "MinistryDesksModel" cc nL rt) (d : decode cc pc = .ok (.getfield 40, 3)) (n : Nat) (hn : pc + 3 = n) (kk : Js p l e R s m args below meth c G nL Q (en2 G κ dyn) sz cells slots n L (.ref (G.2.1 + 77) :: st)) : Js p l e R s m args below meth c G nL Q (en2 G κ dyn) sz cells slots pc L (.ref (G.2.1 + 66) :: st) := jk_getR (k := 12) (z := 0) C kd66 rfl in_X6 77 rfl (by decide) q1692 rfl d n hn kk
set_option maxHeartbeats 4000000 in
theorem metX6_comesLine {l : Launch} {G : je_G} {dyn : Nat → Option je_E} {sz : Nat} {F : Nat} {κ : kp_K} {v1 : Int32} {r9 : kp_K} (h : pX6_comesLine F κ v1 = some r9) : MetS l G yX6_comesLine cX6_comesLine 2 none 9 193 0 0 [.ref (G.2.1 + 66), .int v1] (en2 G κ dyn) sz none (en2 G r9 dyn) sz := by
  refine je_met "MinistryDesksModel" rfl (by decide +kernel) (Nat.le_of_ble_eq_true rfl) [(0, .ref (G.2.1 + 66)), (1, .int v1)] rfl (fun p e s m args below meth c C => ?_)
  unfold pX6_comesLine at h
  refine je_aload_n C dX6_comesLine_0 1 rfl 0 rfl ?_
  refine gX6_31 C dX6_comesLine_1 4 rfl ?_
  refine je_iload_n C dX6_comesLine_4 5 rfl 1 rfl ?_
  refine je_aload_n C dX6_comesLine_5 6 rfl 0 rfl ?_
  refine je_iconst C (0) dX6_comesLine_6 7 rfl ic_0 ?_
  refine je_bipush C (60) dX6_comesLine_7 9 rfl bp_60 ?_
  obtain ⟨q9, hg, h⟩ := p_cl_inv h
  refine je_callVi (As := [.int (0 : Int32), .int (60 : Int32)]) (rest := [.int v1, .ref (G.2.1 + 74)]) C (metX6_numeral hg) (en2_at kd66) rfl hdX6_numeral rfl cwX6_255 rfl ⟨Nat.le_of_ble_eq_true rfl, Nat.le_of_ble_eq_true rfl⟩ (Nat.le_of_ble_eq_true rfl) dX6_comesLine_9 12 rfl ⟨Nat.le_refl _, Nat.le_refl _⟩ ?_
  refine je_lti h (fun t9 h => ?_)
  refine jk_lt h (fun k9 h => ?_)
  refine jk_iast C kd74 dX6_comesLine_12 13 rfl h (fun h => ?_)
  refine jk_lt h (fun k12 h => ?_)
  refine je_aload_n C dX6_comesLine_13 14 rfl 0 rfl ?_
  refine gX6_34 C dX6_comesLine_14 17 rfl ?_
  refine je_iload_n C dX6_comesLine_17 18 rfl 1 rfl ?_
  refine je_aload_n C dX6_comesLine_18 19 rfl 0 rfl ?_
  obtain ⟨q19, hg, h⟩ := p_cl_inv h
  refine je_callVi (As := []) (rest := [.int v1, .ref (G.2.1 + 75)]) C (metX6_desk hg) (en2_at kd66) rfl hdX6_desk rfl cwX6_271 rfl ⟨Nat.le_of_ble_eq_true rfl, Nat.le_of_ble_eq_true rfl⟩ (Nat.le_of_ble_eq_true rfl) dX6_comesLine_19 22 rfl ⟨Nat.le_refl _, Nat.le_refl _⟩ ?_
  refine je_lti h (fun t19 h => ?_)
  refine jk_lt h (fun k19 h => ?_)
  refine jk_iast C kd75 dX6_comesLine_22 23 rfl h (fun h => ?_)
  refine jk_lt h (fun k22 h => ?_)
  refine je_aload_n C dX6_comesLine_23 24 rfl 0 rfl ?_
  refine gX6_37 C dX6_comesLine_24 27 rfl ?_
  refine je_iload_n C dX6_comesLine_27 28 rfl 1 rfl ?_
  refine je_aload_n C dX6_comesLine_28 29 rfl 0 rfl ?_
  obtain ⟨q29, hg, h⟩ := p_cl_inv h
  refine je_callVi (As := []) (rest := [.int v1, .ref (G.2.1 + 76)]) C (metX6_fact hg) (en2_at kd66) rfl hdX6_fact rfl cwX6_289 rfl ⟨Nat.le_of_ble_eq_true rfl, Nat.le_of_ble_eq_true rfl⟩ (Nat.le_of_ble_eq_true rfl) dX6_comesLine_29 32 rfl ⟨Nat.le_refl _, Nat.le_refl _⟩ ?_
  refine je_lti h (fun t29 h => ?_)
  refine jk_lt h (fun k29 h => ?_)
  refine jk_iast C kd76 dX6_comesLine_32 33 rfl h (fun h => ?_)
  refine jk_lt h (fun k32 h => ?_)
  refine je_aload_n C dX6_comesLine_33 34 rfl 0 rfl ?_
  refine gX6_40 C dX6_comesLine_34 37 rfl ?_
  refine je_iload_n C dX6_comesLine_37 38 rfl 1 rfl ?_
  refine je_aload_n C dX6_comesLine_38 39 rfl 0 rfl ?_
  refine je_aload_n C dX6_comesLine_39 40 rfl 0 rfl ?_
  refine gX6_31 C dX6_comesLine_40 43 rfl ?_
  refine je_iload_n C dX6_comesLine_43 44 rfl 1 rfl ?_
  refine jk_iald C kd74 dX6_comesLine_44 45 rfl h (fun h => ?_)
  refine je_bipush C (99) dX6_comesLine_45 47 rfl bp_99 ?_
  obtain ⟨q47, hg, h⟩ := p_cl_inv h
  refine je_callVi (As := [.int (k32.1 74 v1.toNatClampNeg), .int (99 : Int32)]) (rest := [.int v1, .ref (G.2.1 + 77)]) C (metX6_numeral hg) (en2_at kd66) rfl hdX6_numeral rfl cwX6_255 rfl ⟨Nat.le_of_ble_eq_true rfl, Nat.le_of_ble_eq_true rfl⟩ (Nat.le_of_ble_eq_true rfl) dX6_comesLine_47 50 rfl ⟨Nat.le_refl _, Nat.le_refl _⟩ ?_
  refine je_lti h (fun t47 h => ?_)
  refine jk_lt h (fun k47 h => ?_)
  refine jk_iast C kd77 dX6_comesLine_50 51 rfl h (fun h => ?_)
  refine jk_lt h (fun k50 h => ?_)
  refine je_aload_n C dX6_comesLine_51 52 rfl 0 rfl ?_
  refine je_iconst C (2) dX6_comesLine_52 53 rfl ic_2 ?_
  obtain ⟨k53, hg, h⟩ := p_cl_inv h
  refine je_callVv (As := [.int (2 : Int32)]) (rest := []) C (metX6_oneMore hg) (en2_at kd66) rfl hdX6_oneMore rfl cwX6_259 rfl ⟨Nat.le_of_ble_eq_true rfl, Nat.le_of_ble_eq_true rfl⟩ (Nat.le_of_ble_eq_true rfl) dX6_comesLine_53 56 rfl ⟨Nat.le_refl _, Nat.le_refl _⟩ ?_
  cases h
  exact je_vret C dX6_comesLine_56
theorem bp_100 : (Int8.ofInt (100)).toInt32 = (100 : Int32) := by decide +kernel
theorem gX6_43 {p : Program} {l : Launch} {e : Env} {R : Room} {s : State} {m : MethodId} {args : Array Value} {below : List Frame} {meth : Method} {c : Code} {Q : State → Prop} {G : je_G} {cc : ByteArray} {nL : Nat} {rt : Option FieldType} {sz cells slots pc : Nat} {L : List (Nat × Value)} {st : List Value} {κ : kp_K} {dyn : Nat → Option je_E} (C : Cx p s m args meth c G "MinistryDesksModel" cc nL rt) (d : decode cc pc = .ok (.getfield 43, 3)) (n : Nat) (hn : pc + 3 = n) (kk : Js p l e R s m args below meth c G nL Q (en2 G κ dyn) sz cells slots n L (.ref (G.2.1 + 78) :: st)) : Js p l e R s m args below meth c G nL Q (en2 G κ dyn) sz cells slots pc L (.ref (G.2.1 + 66) :: st) := jk_getR (k := 13) (z := 0) C kd66 rfl in_X6 78 rfl (by decide) q1693 rfl d n hn kk
theorem gX6_46 {p : Program} {l : Launch} {e : Env} {R : Room} {s : State} {m : MethodId} {args : Array Value} {below : List Frame} {meth : Method} {c : Code} {Q : State → Prop} {G : je_G} {cc : ByteArray} {nL : Nat} {rt : Option FieldType} {sz cells slots pc : Nat} {L : List (Nat × Value)} {st : List Value} {κ : kp_K} {dyn : Nat → Option je_E} (C : Cx p s m args meth c G "MinistryDesksModel" cc nL rt) (d : decode cc pc = .ok (.getfield 46, 3)) (n : Nat) (hn : pc + 3 = n) (kk : Js p l e R s m args below meth c G nL Q (en2 G κ dyn) sz cells slots n L (.ref (G.2.1 + 79) :: st)) : Js p l e R s m args below meth c G nL Q (en2 G κ dyn) sz cells slots pc L (.ref (G.2.1 + 66) :: st) := jk_getR (k := 14) (z := 0) C kd66 rfl in_X6 79 rfl (by decide) q1694 rfl d n hn kk
theorem gX6_49 {p : Program} {l : Launch} {e : Env} {R : Room} {s : State} {m : MethodId} {args : Array Value} {below : List Frame} {meth : Method} {c : Code} {Q : State → Prop} {G : je_G} {cc : ByteArray} {nL : Nat} {rt : Option FieldType} {sz cells slots pc : Nat} {L : List (Nat × Value)} {st : List Value} {κ : kp_K} {dyn : Nat → Option je_E} (C : Cx p s m args meth c G "MinistryDesksModel" cc nL rt) (d : decode cc pc = .ok (.getfield 49, 3)) (n : Nat) (hn : pc + 3 = n) (kk : Js p l e R s m args below meth c G nL Q (en2 G κ dyn) sz cells slots n L (.ref (G.2.1 + 80) :: st)) : Js p l e R s m args below meth c G nL Q (en2 G κ dyn) sz cells slots pc L (.ref (G.2.1 + 66) :: st) := jk_getR (k := 15) (z := 0) C kd66 rfl in_X6 80 rfl (by decide) q1695 rfl d n hn kk
theorem gX6_52 {p : Program} {l : Launch} {e : Env} {R : Room} {s : State} {m : MethodId} {args : Array Value} {below : List Frame} {meth : Method} {c : Code} {Q : State → Prop} {G : je_G} {cc : ByteArray} {nL : Nat} {rt : Option FieldType} {sz cells slots pc : Nat} {L : List (Nat × Value)} {st : List Value} {κ : kp_K} {dyn : Nat → Option je_E} (C : Cx p s m args meth c G "MinistryDesksModel" cc nL rt) (d : decode cc pc = .ok (.getfield 52, 3)) (n : Nat) (hn : pc + 3 = n) (kk : Js p l e R s m args below meth c G nL Q (en2 G κ dyn) sz cells slots n L (.ref (G.2.1 + 81) :: st)) : Js p l e R s m args below meth c G nL Q (en2 G κ dyn) sz cells slots pc L (.ref (G.2.1 + 66) :: st) := jk_getR (k := 16) (z := 0) C kd66 rfl in_X6 81 rfl (by decide) q1696 rfl d n hn kk
set_option maxHeartbeats 4000000 in
theorem metX6_questionLine {l : Launch} {G : je_G} {dyn : Nat → Option je_E} {sz : Nat} {F : Nat} {κ : kp_K} {v1 : Int32} {r9 : kp_K} (h : pX6_questionLine F κ v1 = some r9) : MetS l G yX6_questionLine cX6_questionLine 2 none 9 193 0 0 [.ref (G.2.1 + 66), .int v1] (en2 G κ dyn) sz none (en2 G r9 dyn) sz := by
  refine je_met "MinistryDesksModel" rfl (by decide +kernel) (Nat.le_of_ble_eq_true rfl) [(0, .ref (G.2.1 + 66)), (1, .int v1)] rfl (fun p e s m args below meth c C => ?_)
  unfold pX6_questionLine at h
  refine je_aload_n C dX6_questionLine_0 1 rfl 0 rfl ?_
  refine gX6_43 C dX6_questionLine_1 4 rfl ?_
  refine je_iload_n C dX6_questionLine_4 5 rfl 1 rfl ?_
  refine je_aload_n C dX6_questionLine_5 6 rfl 0 rfl ?_
  refine je_iconst C (0) dX6_questionLine_6 7 rfl ic_0 ?_
  refine je_bipush C (60) dX6_questionLine_7 9 rfl bp_60 ?_
  obtain ⟨q9, hg, h⟩ := p_cl_inv h
  refine je_callVi (As := [.int (0 : Int32), .int (60 : Int32)]) (rest := [.int v1, .ref (G.2.1 + 78)]) C (metX6_numeral hg) (en2_at kd66) rfl hdX6_numeral rfl cwX6_255 rfl ⟨Nat.le_of_ble_eq_true rfl, Nat.le_of_ble_eq_true rfl⟩ (Nat.le_of_ble_eq_true rfl) dX6_questionLine_9 12 rfl ⟨Nat.le_refl _, Nat.le_refl _⟩ ?_
  refine je_lti h (fun t9 h => ?_)
  refine jk_lt h (fun k9 h => ?_)
  refine jk_iast C kd78 dX6_questionLine_12 13 rfl h (fun h => ?_)
  refine jk_lt h (fun k12 h => ?_)
  refine je_aload_n C dX6_questionLine_13 14 rfl 0 rfl ?_
  refine gX6_46 C dX6_questionLine_14 17 rfl ?_
  refine je_iload_n C dX6_questionLine_17 18 rfl 1 rfl ?_
  refine je_aload_n C dX6_questionLine_18 19 rfl 0 rfl ?_
  obtain ⟨q19, hg, h⟩ := p_cl_inv h
  refine je_callVi (As := []) (rest := [.int v1, .ref (G.2.1 + 79)]) C (metX6_desk hg) (en2_at kd66) rfl hdX6_desk rfl cwX6_271 rfl ⟨Nat.le_of_ble_eq_true rfl, Nat.le_of_ble_eq_true rfl⟩ (Nat.le_of_ble_eq_true rfl) dX6_questionLine_19 22 rfl ⟨Nat.le_refl _, Nat.le_refl _⟩ ?_
  refine je_lti h (fun t19 h => ?_)
  refine jk_lt h (fun k19 h => ?_)
  refine jk_iast C kd79 dX6_questionLine_22 23 rfl h (fun h => ?_)
  refine jk_lt h (fun k22 h => ?_)
  refine je_aload_n C dX6_questionLine_23 24 rfl 0 rfl ?_
  refine gX6_49 C dX6_questionLine_24 27 rfl ?_
  refine je_iload_n C dX6_questionLine_27 28 rfl 1 rfl ?_
  refine je_aload_n C dX6_questionLine_28 29 rfl 0 rfl ?_
  obtain ⟨q29, hg, h⟩ := p_cl_inv h
  refine je_callVi (As := []) (rest := [.int v1, .ref (G.2.1 + 80)]) C (metX6_fact hg) (en2_at kd66) rfl hdX6_fact rfl cwX6_289 rfl ⟨Nat.le_of_ble_eq_true rfl, Nat.le_of_ble_eq_true rfl⟩ (Nat.le_of_ble_eq_true rfl) dX6_questionLine_29 32 rfl ⟨Nat.le_refl _, Nat.le_refl _⟩ ?_
  refine je_lti h (fun t29 h => ?_)
  refine jk_lt h (fun k29 h => ?_)
  refine jk_iast C kd80 dX6_questionLine_32 33 rfl h (fun h => ?_)
  refine jk_lt h (fun k32 h => ?_)
  refine je_aload_n C dX6_questionLine_33 34 rfl 0 rfl ?_
  refine gX6_52 C dX6_questionLine_34 37 rfl ?_
  refine je_iload_n C dX6_questionLine_37 38 rfl 1 rfl ?_
  refine je_aload_n C dX6_questionLine_38 39 rfl 0 rfl ?_
  refine je_iconst C (0) dX6_questionLine_39 40 rfl ic_0 ?_
  refine je_bipush C (100) dX6_questionLine_40 42 rfl bp_100 ?_
  obtain ⟨q42, hg, h⟩ := p_cl_inv h
  refine je_callVi (As := [.int (0 : Int32), .int (100 : Int32)]) (rest := [.int v1, .ref (G.2.1 + 81)]) C (metX6_numeral hg) (en2_at kd66) rfl hdX6_numeral rfl cwX6_255 rfl ⟨Nat.le_of_ble_eq_true rfl, Nat.le_of_ble_eq_true rfl⟩ (Nat.le_of_ble_eq_true rfl) dX6_questionLine_42 45 rfl ⟨Nat.le_refl _, Nat.le_refl _⟩ ?_
  refine je_lti h (fun t42 h => ?_)
  refine jk_lt h (fun k42 h => ?_)
  refine jk_iast C kd81 dX6_questionLine_45 46 rfl h (fun h => ?_)
  refine jk_lt h (fun k45 h => ?_)
  refine je_aload_n C dX6_questionLine_46 47 rfl 0 rfl ?_
  refine je_iconst C (3) dX6_questionLine_47 48 rfl ic_3 ?_
  obtain ⟨k48, hg, h⟩ := p_cl_inv h
  refine je_callVv (As := [.int (3 : Int32)]) (rest := []) C (metX6_oneMore hg) (en2_at kd66) rfl hdX6_oneMore rfl cwX6_259 rfl ⟨Nat.le_of_ble_eq_true rfl, Nat.le_of_ble_eq_true rfl⟩ (Nat.le_of_ble_eq_true rfl) dX6_questionLine_48 51 rfl ⟨Nat.le_refl _, Nat.le_refl _⟩ ?_
  cases h
  exact je_vret C dX6_questionLine_51
set_option maxHeartbeats 4000000 in
theorem metX6_isWord {l : Launch} {G : je_G} {dyn : Nat → Option je_E} {sz : Nat} {κ : kp_K} {v1 : Int32} {r9 : Int32} (h : pX6_isWord κ v1 = some r9) : MetS l G yX6_isWord cX6_isWord 2 (some .boolean) 0 0 0 0 [.ref (G.2.1 + 66), .int v1] (en2 G κ dyn) sz (some (.int r9)) (en2 G κ dyn) sz := by
  refine je_met "MinistryDesksModel" rfl (by decide +kernel) (Nat.le_of_ble_eq_true rfl) [(0, .ref (G.2.1 + 66)), (1, .int v1)] rfl (fun p e s m args below meth c C => ?_)
  unfold pX6_isWord at h
  refine je_aload_n C dX6_isWord_0 1 rfl 0 rfl ?_
  refine gX6_219 C dX6_isWord_1 4 rfl ?_
  refine je_if_ne C 26 dX6_isWord_4 7 rfl rfl h (fun h => ?_) (fun h => ?_)
  · refine je_iconst C (0) dX6_isWord_26 27 rfl ic_0 ?_
    cases h
    exact je_zret C dX6_isWord_27 (Or.inl rfl)
  refine je_aload_n C dX6_isWord_7 8 rfl 0 rfl ?_
  refine gX6_185 C dX6_isWord_8 11 rfl ?_
  refine je_if_ne C 26 dX6_isWord_11 14 rfl rfl h (fun h => ?_) (fun h => ?_)
  · refine je_iconst C (0) dX6_isWord_26 27 rfl ic_0 ?_
    cases h
    exact je_zret C dX6_isWord_27 (Or.inl rfl)
  refine je_aload_n C dX6_isWord_14 15 rfl 0 rfl ?_
  refine gX6_195 C dX6_isWord_15 18 rfl ?_
  refine je_iload_n C dX6_isWord_18 19 rfl 1 rfl ?_
  refine je_icmp_ne C 26 dX6_isWord_19 22 rfl rfl h (fun h => ?_) (fun h => ?_)
  · refine je_iconst C (0) dX6_isWord_26 27 rfl ic_0 ?_
    cases h
    exact je_zret C dX6_isWord_27 (Or.inl rfl)
  refine je_iconst C (1) dX6_isWord_22 23 rfl ic_1 ?_
  refine je_goto C 27 dX6_isWord_23 rfl ?_
  cases h
  exact je_zret C dX6_isWord_27 (Or.inr rfl)
theorem bp_64 : (Int8.ofInt (64)).toInt32 = (64 : Int32) := by decide +kernel
theorem gX6_292 {p : Program} {l : Launch} {e : Env} {R : Room} {s : State} {m : MethodId} {args : Array Value} {below : List Frame} {meth : Method} {c : Code} {Q : State → Prop} {G : je_G} {cc : ByteArray} {nL : Nat} {rt : Option FieldType} {sz cells slots pc : Nat} {L : List (Nat × Value)} {st : List Value} {κ : kp_K} {dyn : Nat → Option je_E} (C : Cx p s m args meth c G "MinistryDesksModel" cc nL rt) (d : decode cc pc = .ok (.getfield 292, 3)) (n : Nat) (hn : pc + 3 = n) (kk : Js p l e R s m args below meth c G nL Q (en2 G κ dyn) sz cells slots n L (.int (κ.1 66 36) :: st)) : Js p l e R s m args below meth c G nL Q (en2 G κ dyn) sz cells slots pc L (.ref (G.2.1 + 66) :: st) := jk_getI (k := 36) C kd66 rfl in_X6 rfl (by decide) q1716 rfl d n hn kk
theorem sX6_292 {p : Program} {l : Launch} {e : Env} {R : Room} {s : State} {m : MethodId} {args : Array Value} {below : List Frame} {meth : Method} {c : Code} {Q : State → Prop} {G : je_G} {cc : ByteArray} {nL : Nat} {rt : Option FieldType} {sz cells slots pc : Nat} {L : List (Nat × Value)} {st : List Value} {κ : kp_K} {dyn : Nat → Option je_E} (C : Cx p s m args meth c G "MinistryDesksModel" cc nL rt) {v : Int32} (d : decode cc pc = .ok (.putfield 292, 3)) (n : Nat) (hn : pc + 3 = n) (kk : Js p l e R s m args below meth c G nL Q (en2 G (s_i κ 66 36 v) dyn) sz cells slots n L st) : Js p l e R s m args below meth c G nL Q (en2 G κ dyn) sz cells slots pc L (.int v :: .ref (G.2.1 + 66) :: st) := jk_putI (k := 36) C kd66 rfl in_X6 tyX6 tyX6_ok nmX6 rfl (by decide) q1716 rfl rfl rfl d n hn kk
set_option maxHeartbeats 4000000 in
theorem metX6_knot {l : Launch} {G : je_G} {dyn : Nat → Option je_E} {sz : Nat} {κ : kp_K}  {r9 : kp_K} (h : pX6_knot κ = some r9) : MetS l G yX6_knot cX6_knot 1 none 1 21 0 0 [.ref (G.2.1 + 66)] (en2 G κ dyn) sz none (en2 G r9 dyn) sz := by
  refine je_met "MinistryDesksModel" rfl (by decide +kernel) (Nat.le_of_ble_eq_true rfl) [(0, .ref (G.2.1 + 66))] rfl (fun p e s m args below meth c C => ?_)
  unfold pX6_knot at h
  refine je_aload_n C dX6_knot_0 1 rfl 0 rfl ?_
  refine gX6_219 C dX6_knot_1 4 rfl ?_
  refine je_if_eq C 8 dX6_knot_4 7 rfl rfl h (fun h => ?_) (fun h => ?_)
  · refine je_aload_n C dX6_knot_8 9 rfl 0 rfl ?_
    refine gX6_292 C dX6_knot_9 12 rfl ?_
    refine je_bipush C (64) dX6_knot_12 14 rfl bp_64 ?_
    refine je_icmp_ne C 25 dX6_knot_14 17 rfl rfl h (fun h => ?_) (fun h => ?_)
    · refine je_aload_n C dX6_knot_25 26 rfl 0 rfl ?_
      refine je_dup C dX6_knot_26 27 rfl rfl ?_
      refine gX6_292 C dX6_knot_27 30 rfl ?_
      refine je_iconst C (1) dX6_knot_30 31 rfl ic_1 ?_
      refine je_iadd C dX6_knot_31 32 rfl ?_
      refine sX6_292 C dX6_knot_32 35 rfl ?_
      refine jk_lt h (fun k32 h => ?_)
      cases h
      exact je_vret C dX6_knot_35
    refine je_aload_n C dX6_knot_17 18 rfl 0 rfl ?_
    refine je_iconst C (2) dX6_knot_18 19 rfl ic_2 ?_
    obtain ⟨k19, hg, h⟩ := p_cl_inv h
    refine je_callVv (As := [.int (2 : Int32)]) (rest := []) C (metX6_wrong hg) (en2_at kd66) rfl hdX6_wrong rfl cwX6_228 rfl ⟨Nat.le_of_ble_eq_true rfl, Nat.le_of_ble_eq_true rfl⟩ (Nat.le_of_ble_eq_true rfl) dX6_knot_19 22 rfl ⟨Nat.le_refl _, Nat.le_refl _⟩ ?_
    refine je_goto C 35 dX6_knot_22 rfl ?_
    cases h
    exact je_vret C dX6_knot_35
  cases h
  exact je_vret C dX6_knot_7
theorem gX6_70 {p : Program} {l : Launch} {e : Env} {R : Room} {s : State} {m : MethodId} {args : Array Value} {below : List Frame} {meth : Method} {c : Code} {Q : State → Prop} {G : je_G} {cc : ByteArray} {nL : Nat} {rt : Option FieldType} {sz cells slots pc : Nat} {L : List (Nat × Value)} {st : List Value} {κ : kp_K} {dyn : Nat → Option je_E} (C : Cx p s m args meth c G "MinistryDesksModel" cc nL rt) (d : decode cc pc = .ok (.getfield 70, 3)) (n : Nat) (hn : pc + 3 = n) (kk : Js p l e R s m args below meth c G nL Q (en2 G κ dyn) sz cells slots n L (.ref (G.2.1 + 87) :: st)) : Js p l e R s m args below meth c G nL Q (en2 G κ dyn) sz cells slots pc L (.ref (G.2.1 + 66) :: st) := jk_getR (k := 22) (z := 0) C kd66 rfl in_X6 87 rfl (by decide) q1702 rfl d n hn kk
theorem gX6_73 {p : Program} {l : Launch} {e : Env} {R : Room} {s : State} {m : MethodId} {args : Array Value} {below : List Frame} {meth : Method} {c : Code} {Q : State → Prop} {G : je_G} {cc : ByteArray} {nL : Nat} {rt : Option FieldType} {sz cells slots pc : Nat} {L : List (Nat × Value)} {st : List Value} {κ : kp_K} {dyn : Nat → Option je_E} (C : Cx p s m args meth c G "MinistryDesksModel" cc nL rt) (d : decode cc pc = .ok (.getfield 73, 3)) (n : Nat) (hn : pc + 3 = n) (kk : Js p l e R s m args below meth c G nL Q (en2 G κ dyn) sz cells slots n L (.ref (G.2.1 + 88) :: st)) : Js p l e R s m args below meth c G nL Q (en2 G κ dyn) sz cells slots pc L (.ref (G.2.1 + 66) :: st) := jk_getR (k := 23) (z := 0) C kd66 rfl in_X6 88 rfl (by decide) q1703 rfl d n hn kk
set_option maxHeartbeats 4000000 in
theorem metX6_puts {l : Launch} {G : je_G} {dyn : Nat → Option je_E} {sz : Nat} {κ : kp_K} {v1 : Int32} {v2 : Int32} {r9 : kp_K} (h : pX6_puts κ v1 v2 = some r9) : MetS l G yX6_puts cX6_puts 3 none 1 21 0 0 [.ref (G.2.1 + 66), .int v1, .int v2] (en2 G κ dyn) sz none (en2 G r9 dyn) sz := by
  refine je_met "MinistryDesksModel" rfl (by decide +kernel) (Nat.le_of_ble_eq_true rfl) [(0, .ref (G.2.1 + 66)), (1, .int v1), (2, .int v2)] rfl (fun p e s m args below meth c C => ?_)
  unfold pX6_puts at h
  refine je_aload_n C dX6_puts_0 1 rfl 0 rfl ?_
  refine gX6_219 C dX6_puts_1 4 rfl ?_
  refine je_if_eq C 8 dX6_puts_4 7 rfl rfl h (fun h => ?_) (fun h => ?_)
  · refine je_aload_n C dX6_puts_8 9 rfl 0 rfl ?_
    refine gX6_70 C dX6_puts_9 12 rfl ?_
    refine je_bipush C (64) dX6_puts_12 14 rfl bp_64 ?_
    refine je_aload_n C dX6_puts_14 15 rfl 0 rfl ?_
    refine je_bipush C (7) dX6_puts_15 17 rfl bp_7 ?_
    obtain ⟨t17, hg, h⟩ := p_cl_inv h
    refine je_callVi (As := [.int (7 : Int32)]) (rest := [.int (64 : Int32), .ref (G.2.1 + 87)]) C (metX6_fresher hg) (en2_at kd66) rfl hdX6_fresher rfl cwX6_242 rfl ⟨Nat.le_of_ble_eq_true rfl, Nat.le_of_ble_eq_true rfl⟩ (Nat.le_of_ble_eq_true rfl) dX6_puts_17 20 rfl ⟨Nat.le_refl _, Nat.le_refl _⟩ ?_
    refine je_iadd C dX6_puts_20 21 rfl ?_
    refine je_iload_n C dX6_puts_21 22 rfl 1 rfl ?_
    refine jk_iast C kd87 dX6_puts_22 23 rfl h (fun h => ?_)
    refine jk_lt h (fun k22 h => ?_)
    refine je_aload_n C dX6_puts_23 24 rfl 0 rfl ?_
    refine gX6_73 C dX6_puts_24 27 rfl ?_
    refine je_bipush C (64) dX6_puts_27 29 rfl bp_64 ?_
    refine je_aload_n C dX6_puts_29 30 rfl 0 rfl ?_
    refine je_bipush C (7) dX6_puts_30 32 rfl bp_7 ?_
    obtain ⟨t32, hg, h⟩ := p_cl_inv h
    refine je_callVi (As := [.int (7 : Int32)]) (rest := [.int (64 : Int32), .ref (G.2.1 + 88)]) C (metX6_fresher hg) (en2_at kd66) rfl hdX6_fresher rfl cwX6_242 rfl ⟨Nat.le_of_ble_eq_true rfl, Nat.le_of_ble_eq_true rfl⟩ (Nat.le_of_ble_eq_true rfl) dX6_puts_32 35 rfl ⟨Nat.le_refl _, Nat.le_refl _⟩ ?_
    refine je_iadd C dX6_puts_35 36 rfl ?_
    refine je_iload_n C dX6_puts_36 37 rfl 2 rfl ?_
    refine jk_iast C kd88 dX6_puts_37 38 rfl h (fun h => ?_)
    refine jk_lt h (fun k37 h => ?_)
    refine je_aload_n C dX6_puts_38 39 rfl 0 rfl ?_
    refine je_bipush C (7) dX6_puts_39 41 rfl bp_7 ?_
    obtain ⟨k41, hg, h⟩ := p_cl_inv h
    refine je_callVv (As := [.int (7 : Int32)]) (rest := []) C (metX6_oneMore hg) (en2_at kd66) rfl hdX6_oneMore rfl cwX6_259 rfl ⟨Nat.le_of_ble_eq_true rfl, Nat.le_of_ble_eq_true rfl⟩ (Nat.le_of_ble_eq_true rfl) dX6_puts_41 44 rfl ⟨Nat.le_refl _, Nat.le_refl _⟩ ?_
    cases h
    exact je_vret C dX6_puts_44
  cases h
  exact je_vret C dX6_puts_7
set_option maxHeartbeats 4000000 in
theorem metX6_isSign {l : Launch} {G : je_G} {dyn : Nat → Option je_E} {sz : Nat} {κ : kp_K} {v1 : Int32} {r9 : Int32} (h : pX6_isSign κ v1 = some r9) : MetS l G yX6_isSign cX6_isSign 2 (some .boolean) 0 0 0 0 [.ref (G.2.1 + 66), .int v1] (en2 G κ dyn) sz (some (.int r9)) (en2 G κ dyn) sz := by
  refine je_met "MinistryDesksModel" rfl (by decide +kernel) (Nat.le_of_ble_eq_true rfl) [(0, .ref (G.2.1 + 66)), (1, .int v1)] rfl (fun p e s m args below meth c C => ?_)
  unfold pX6_isSign at h
  refine je_aload_n C dX6_isSign_0 1 rfl 0 rfl ?_
  refine gX6_219 C dX6_isSign_1 4 rfl ?_
  refine je_if_ne C 27 dX6_isSign_4 7 rfl rfl h (fun h => ?_) (fun h => ?_)
  · refine je_iconst C (0) dX6_isSign_27 28 rfl ic_0 ?_
    cases h
    exact je_zret C dX6_isSign_28 (Or.inl rfl)
  refine je_aload_n C dX6_isSign_7 8 rfl 0 rfl ?_
  refine gX6_185 C dX6_isSign_8 11 rfl ?_
  refine je_iconst C (3) dX6_isSign_11 12 rfl ic_3 ?_
  refine je_icmp_ne C 27 dX6_isSign_12 15 rfl rfl h (fun h => ?_) (fun h => ?_)
  · refine je_iconst C (0) dX6_isSign_27 28 rfl ic_0 ?_
    cases h
    exact je_zret C dX6_isSign_28 (Or.inl rfl)
  refine je_aload_n C dX6_isSign_15 16 rfl 0 rfl ?_
  refine gX6_195 C dX6_isSign_16 19 rfl ?_
  refine je_iload_n C dX6_isSign_19 20 rfl 1 rfl ?_
  refine je_icmp_ne C 27 dX6_isSign_20 23 rfl rfl h (fun h => ?_) (fun h => ?_)
  · refine je_iconst C (0) dX6_isSign_27 28 rfl ic_0 ?_
    cases h
    exact je_zret C dX6_isSign_28 (Or.inl rfl)
  refine je_iconst C (1) dX6_isSign_23 24 rfl ic_1 ?_
  refine je_goto C 28 dX6_isSign_24 rfl ?_
  cases h
  exact je_zret C dX6_isSign_28 (Or.inr rfl)
/-- the group's contracts at depth d -/
def hX6 (l : Launch) (G : je_G) (dyn : Nat → Option je_E) (sz d : Nat) (rc : Nat → kp_K → Option kp_K) : Prop := ∀ κ κ2 : kp_K, (rc 0 κ = some κ2 → MetS l G yX6_expression cX6_expression 1 none (7 + d) (149 + d * 21) 0 0 [.ref (G.2.1 + 66)] (en2 G κ dyn) sz none (en2 G κ2 dyn) sz) ∧ (rc 1 κ = some κ2 → MetS l G yX6_conjunction cX6_conjunction 1 none (7 + d) (149 + d * 21) 0 0 [.ref (G.2.1 + 66)] (en2 G κ dyn) sz none (en2 G κ2 dyn) sz) ∧ (rc 2 κ = some κ2 → MetS l G yX6_negation cX6_negation 2 none (7 + d) (149 + d * 21) 0 0 [.ref (G.2.1 + 66)] (en2 G κ dyn) sz none (en2 G κ2 dyn) sz) ∧ (rc 3 κ = some κ2 → MetS l G yX6_sum cX6_sum 2 none (7 + d) (149 + d * 21) 0 0 [.ref (G.2.1 + 66)] (en2 G κ dyn) sz none (en2 G κ2 dyn) sz) ∧ (rc 4 κ = some κ2 → MetS l G yX6_product cX6_product 2 none (7 + d) (149 + d * 21) 0 0 [.ref (G.2.1 + 66)] (en2 G κ dyn) sz none (en2 G κ2 dyn) sz) ∧ (rc 5 κ = some κ2 → MetS l G yX6_primary cX6_primary 2 none (7 + d) (149 + d * 21) 0 0 [.ref (G.2.1 + 66)] (en2 G κ dyn) sz none (en2 G κ2 dyn) sz)
theorem bp_11 : (Int8.ofInt (11)).toInt32 = (11 : Int32) := by decide +kernel
theorem sp_262 : (Int16.ofInt (262)).toInt32 = (262 : Int32) := by decide +kernel
theorem hdX6_conjunction : je_hd yX6_conjunction 0 := ⟨by decide +kernel, by decide +kernel, by decide +kernel⟩
theorem hdX6_isWord : je_hd yX6_isWord 1 := ⟨by decide +kernel, by decide +kernel, by decide +kernel⟩
theorem hdX6_knot : je_hd yX6_knot 0 := ⟨by decide +kernel, by decide +kernel, by decide +kernel⟩
theorem hdX6_puts : je_hd yX6_puts 2 := ⟨by decide +kernel, by decide +kernel, by decide +kernel⟩
theorem cwX6_295 : GoodIn lw_all (wsV "MinistryDesksModel" 295 "MinistryDesksModel" yX6_conjunction (ws_ yX6_conjunction cX6_conjunction 1 none)) := lw_V q2021 q2023 qs100 q169 q2024
theorem cwX6_298 : GoodIn lw_all (wsV "MinistryDesksModel" 298 "MinistryDesksModel" yX6_isWord (ws_ yX6_isWord cX6_isWord 2 (some .boolean))) := lw_V q2029 q2031 qs102 q169 q2032
theorem cwX6_301 : GoodIn lw_all (wsV "MinistryDesksModel" 301 "MinistryDesksModel" yX6_knot (ws_ yX6_knot cX6_knot 1 none)) := lw_V q2033 q2035 qs103 q169 q2036
theorem cwX6_304 : GoodIn lw_all (wsV "MinistryDesksModel" 304 "MinistryDesksModel" yX6_puts (ws_ yX6_puts cX6_puts 3 none)) := lw_V q2037 q2039 qs104 q169 q2040
set_option maxHeartbeats 4000000 in
theorem wX6_expression_4 {p : Program} {l : Launch} {e : Env} {s : State} {m : MethodId} {args : Array Value} {below : List Frame} {meth : Method} {c : Code} {G : je_G} {dyn : Nat → Option je_E} {sz : Nat} {F : Nat} {d : Nat} {rc : Nat → kp_K → Option kp_K} {r9 : kp_K} (C : Cx p s m args meth c G "MinistryDesksModel" cX6_expression 1 none) (hrc : hX6 l G dyn sz d rc) : ∀ (n : Nat) (κ : kp_K), bX6_expression_4 F rc n κ = some r9 → Js p l e ({ frames := (7 + (d + 1)), cells := 0, slots := 0, locals := (149 + (d + 1) * 21) } : Room) s m args below meth c G 1 (MQ below (je_Q G none (en2 G r9 dyn) sz) args s 0 0 (je_A G)) (en2 G κ dyn) sz 0 0 4 [(0, .ref (G.2.1 + 66))] [] := by
  intro n
  induction n with
  | zero =>
    intro κ h
    cases h
  | succ n ih =>
    intro κ h
    rw [bX6_expression_4] at h
    refine je_aload_n C dX6_expression_4 5 rfl 0 rfl ?_
    refine je_bipush C (11) dX6_expression_5 7 rfl bp_11 ?_
    obtain ⟨t7, hg, h⟩ := p_cl_inv h
    refine je_callVi (As := [.int (11 : Int32)]) (rest := []) C (metX6_isWord hg) (en2_at kd66) rfl hdX6_isWord rfl cwX6_298 rfl ⟨(show 0 + 1 ≤ 7 + (d + 1) from by omega), (show 8 + (2 + 11) + 0 ≤ 149 + (d + 1) * 21 from by omega)⟩ (Nat.le_of_ble_eq_true rfl) dX6_expression_7 10 rfl ⟨Nat.le_refl _, Nat.le_refl _⟩ ?_
    refine je_if_eq C 36 dX6_expression_10 13 rfl rfl h (fun h => ?_) (fun h => ?_)
    · cases h
      exact je_vret C dX6_expression_36
    refine je_aload_n C dX6_expression_13 14 rfl 0 rfl ?_
    obtain ⟨k14, hg, h⟩ := p_cl_inv h
    refine je_callVv (As := []) (rest := []) C (metX6_knot hg) (en2_at kd66) rfl hdX6_knot rfl cwX6_301 rfl ⟨(show 1 + 1 ≤ 7 + (d + 1) from by omega), (show 8 + (1 + 11) + 21 ≤ 149 + (d + 1) * 21 from by omega)⟩ (Nat.le_of_ble_eq_true rfl) dX6_expression_14 17 rfl ⟨Nat.le_refl _, Nat.le_refl _⟩ ?_
    refine je_aload_n C dX6_expression_17 18 rfl 0 rfl ?_
    obtain ⟨k18, hg, h⟩ := p_cl_inv h
    refine je_callVv (As := []) (rest := []) C (metX6_goOn hg) (en2_at kd66) rfl hdX6_goOn rfl cwX6_239 rfl ⟨(show 6 + 1 ≤ 7 + (d + 1) from by omega), (show 8 + (1 + 11) + 129 ≤ 149 + (d + 1) * 21 from by omega)⟩ (Nat.le_of_ble_eq_true rfl) dX6_expression_18 21 rfl ⟨Nat.le_refl _, Nat.le_refl _⟩ ?_
    refine je_aload_n C dX6_expression_21 22 rfl 0 rfl ?_
    obtain ⟨k22, hg, h⟩ := p_cl_inv h
    refine je_callVv (As := []) (rest := []) C ((hrc _ _).2.1 hg) (en2_at kd66) rfl hdX6_conjunction rfl cwX6_295 rfl ⟨Nat.le_refl _, (show 8 + (1 + 11) + (149 + d * 21) ≤ 149 + (d + 1) * 21 from by omega)⟩ (Nat.le_of_ble_eq_true rfl) dX6_expression_22 25 rfl ⟨Nat.le_refl _, Nat.le_refl _⟩ ?_
    refine je_aload_n C dX6_expression_25 26 rfl 0 rfl ?_
    refine je_iconst C (2) dX6_expression_26 27 rfl ic_2 ?_
    refine je_sipush C (262) dX6_expression_27 30 rfl sp_262 ?_
    obtain ⟨k30, hg, h⟩ := p_cl_inv h
    refine je_callVv (As := [.int (2 : Int32), .int (262 : Int32)]) (rest := []) C (metX6_puts hg) (en2_at kd66) rfl hdX6_puts rfl cwX6_304 rfl ⟨(show 1 + 1 ≤ 7 + (d + 1) from by omega), (show 8 + (3 + 11) + 21 ≤ 149 + (d + 1) * 21 from by omega)⟩ (Nat.le_of_ble_eq_true rfl) dX6_expression_30 33 rfl ⟨Nat.le_refl _, Nat.le_refl _⟩ ?_
    refine je_goto C 4 dX6_expression_33 rfl ?_
    exact ih k30 h
set_option maxHeartbeats 4000000 in
theorem metX6_expression {l : Launch} {G : je_G} {dyn : Nat → Option je_E} {sz : Nat} {F : Nat} {d : Nat} {rc : Nat → kp_K → Option kp_K} {κ : kp_K}  {r9 : kp_K} (hrc : hX6 l G dyn sz d rc) (h : pX6_expression F rc κ = some r9) : MetS l G yX6_expression cX6_expression 1 none (7 + (d + 1)) (149 + (d + 1) * 21) 0 0 [.ref (G.2.1 + 66)] (en2 G κ dyn) sz none (en2 G r9 dyn) sz := by
  refine je_met "MinistryDesksModel" rfl (by decide +kernel) (Nat.le_of_ble_eq_true rfl) [(0, .ref (G.2.1 + 66))] rfl (fun p e s m args below meth c C => ?_)
  unfold pX6_expression at h
  refine je_aload_n C dX6_expression_0 1 rfl 0 rfl ?_
  obtain ⟨k1, hg, h⟩ := p_cl_inv h
  refine je_callVv (As := []) (rest := []) C ((hrc _ _).2.1 hg) (en2_at kd66) rfl hdX6_conjunction rfl cwX6_295 rfl ⟨Nat.le_refl _, (show 8 + (1 + 11) + (149 + d * 21) ≤ 149 + (d + 1) * 21 from by omega)⟩ (Nat.le_of_ble_eq_true rfl) dX6_expression_1 4 rfl ⟨Nat.le_refl _, Nat.le_refl _⟩ ?_
  exact wX6_expression_4 C hrc F k1 h
theorem sp_261 : (Int16.ofInt (261)).toInt32 = (261 : Int32) := by decide +kernel
theorem hdX6_negation : je_hd yX6_negation 0 := ⟨by decide +kernel, by decide +kernel, by decide +kernel⟩
theorem cwX6_308 : GoodIn lw_all (wsV "MinistryDesksModel" 308 "MinistryDesksModel" yX6_negation (ws_ yX6_negation cX6_negation 2 none)) := lw_V q2025 q2027 qs101 q169 q2028
set_option maxHeartbeats 4000000 in
theorem wX6_conjunction_4 {p : Program} {l : Launch} {e : Env} {s : State} {m : MethodId} {args : Array Value} {below : List Frame} {meth : Method} {c : Code} {G : je_G} {dyn : Nat → Option je_E} {sz : Nat} {F : Nat} {d : Nat} {rc : Nat → kp_K → Option kp_K} {r9 : kp_K} (C : Cx p s m args meth c G "MinistryDesksModel" cX6_conjunction 1 none) (hrc : hX6 l G dyn sz d rc) : ∀ (n : Nat) (κ : kp_K), bX6_conjunction_4 F rc n κ = some r9 → Js p l e ({ frames := (7 + (d + 1)), cells := 0, slots := 0, locals := (149 + (d + 1) * 21) } : Room) s m args below meth c G 1 (MQ below (je_Q G none (en2 G r9 dyn) sz) args s 0 0 (je_A G)) (en2 G κ dyn) sz 0 0 4 [(0, .ref (G.2.1 + 66))] [] := by
  intro n
  induction n with
  | zero =>
    intro κ h
    cases h
  | succ n ih =>
    intro κ h
    rw [bX6_conjunction_4] at h
    refine je_aload_n C dX6_conjunction_4 5 rfl 0 rfl ?_
    refine je_bipush C (12) dX6_conjunction_5 7 rfl bp_12 ?_
    obtain ⟨t7, hg, h⟩ := p_cl_inv h
    refine je_callVi (As := [.int (12 : Int32)]) (rest := []) C (metX6_isWord hg) (en2_at kd66) rfl hdX6_isWord rfl cwX6_298 rfl ⟨(show 0 + 1 ≤ 7 + (d + 1) from by omega), (show 8 + (2 + 11) + 0 ≤ 149 + (d + 1) * 21 from by omega)⟩ (Nat.le_of_ble_eq_true rfl) dX6_conjunction_7 10 rfl ⟨Nat.le_refl _, Nat.le_refl _⟩ ?_
    refine je_if_eq C 36 dX6_conjunction_10 13 rfl rfl h (fun h => ?_) (fun h => ?_)
    · cases h
      exact je_vret C dX6_conjunction_36
    refine je_aload_n C dX6_conjunction_13 14 rfl 0 rfl ?_
    obtain ⟨k14, hg, h⟩ := p_cl_inv h
    refine je_callVv (As := []) (rest := []) C (metX6_knot hg) (en2_at kd66) rfl hdX6_knot rfl cwX6_301 rfl ⟨(show 1 + 1 ≤ 7 + (d + 1) from by omega), (show 8 + (1 + 11) + 21 ≤ 149 + (d + 1) * 21 from by omega)⟩ (Nat.le_of_ble_eq_true rfl) dX6_conjunction_14 17 rfl ⟨Nat.le_refl _, Nat.le_refl _⟩ ?_
    refine je_aload_n C dX6_conjunction_17 18 rfl 0 rfl ?_
    obtain ⟨k18, hg, h⟩ := p_cl_inv h
    refine je_callVv (As := []) (rest := []) C (metX6_goOn hg) (en2_at kd66) rfl hdX6_goOn rfl cwX6_239 rfl ⟨(show 6 + 1 ≤ 7 + (d + 1) from by omega), (show 8 + (1 + 11) + 129 ≤ 149 + (d + 1) * 21 from by omega)⟩ (Nat.le_of_ble_eq_true rfl) dX6_conjunction_18 21 rfl ⟨Nat.le_refl _, Nat.le_refl _⟩ ?_
    refine je_aload_n C dX6_conjunction_21 22 rfl 0 rfl ?_
    obtain ⟨k22, hg, h⟩ := p_cl_inv h
    refine je_callVv (As := []) (rest := []) C ((hrc _ _).2.2.1 hg) (en2_at kd66) rfl hdX6_negation rfl cwX6_308 rfl ⟨Nat.le_refl _, (show 8 + (2 + 11) + (149 + d * 21) ≤ 149 + (d + 1) * 21 from by omega)⟩ (Nat.le_of_ble_eq_true rfl) dX6_conjunction_22 25 rfl ⟨Nat.le_refl _, Nat.le_refl _⟩ ?_
    refine je_aload_n C dX6_conjunction_25 26 rfl 0 rfl ?_
    refine je_iconst C (2) dX6_conjunction_26 27 rfl ic_2 ?_
    refine je_sipush C (261) dX6_conjunction_27 30 rfl sp_261 ?_
    obtain ⟨k30, hg, h⟩ := p_cl_inv h
    refine je_callVv (As := [.int (2 : Int32), .int (261 : Int32)]) (rest := []) C (metX6_puts hg) (en2_at kd66) rfl hdX6_puts rfl cwX6_304 rfl ⟨(show 1 + 1 ≤ 7 + (d + 1) from by omega), (show 8 + (3 + 11) + 21 ≤ 149 + (d + 1) * 21 from by omega)⟩ (Nat.le_of_ble_eq_true rfl) dX6_conjunction_30 33 rfl ⟨Nat.le_refl _, Nat.le_refl _⟩ ?_
    refine je_goto C 4 dX6_conjunction_33 rfl ?_
    exact ih k30 h
set_option maxHeartbeats 4000000 in
theorem metX6_conjunction {l : Launch} {G : je_G} {dyn : Nat → Option je_E} {sz : Nat} {F : Nat} {d : Nat} {rc : Nat → kp_K → Option kp_K} {κ : kp_K}  {r9 : kp_K} (hrc : hX6 l G dyn sz d rc) (h : pX6_conjunction F rc κ = some r9) : MetS l G yX6_conjunction cX6_conjunction 1 none (7 + (d + 1)) (149 + (d + 1) * 21) 0 0 [.ref (G.2.1 + 66)] (en2 G κ dyn) sz none (en2 G r9 dyn) sz := by
  refine je_met "MinistryDesksModel" rfl (by decide +kernel) (Nat.le_of_ble_eq_true rfl) [(0, .ref (G.2.1 + 66))] rfl (fun p e s m args below meth c C => ?_)
  unfold pX6_conjunction at h
  refine je_aload_n C dX6_conjunction_0 1 rfl 0 rfl ?_
  obtain ⟨k1, hg, h⟩ := p_cl_inv h
  refine je_callVv (As := []) (rest := []) C ((hrc _ _).2.2.1 hg) (en2_at kd66) rfl hdX6_negation rfl cwX6_308 rfl ⟨Nat.le_refl _, (show 8 + (2 + 11) + (149 + d * 21) ≤ 149 + (d + 1) * 21 from by omega)⟩ (Nat.le_of_ble_eq_true rfl) dX6_conjunction_1 4 rfl ⟨Nat.le_refl _, Nat.le_refl _⟩ ?_
  exact wX6_conjunction_4 C hrc F k1 h
theorem bp_13 : (Int8.ofInt (13)).toInt32 = (13 : Int32) := by decide +kernel
theorem sp_260 : (Int16.ofInt (260)).toInt32 = (260 : Int32) := by decide +kernel
theorem hdX6_sum : je_hd yX6_sum 0 := ⟨by decide +kernel, by decide +kernel, by decide +kernel⟩
theorem cwX6_311 : GoodIn lw_all (wsV "MinistryDesksModel" 311 "MinistryDesksModel" yX6_sum (ws_ yX6_sum cX6_sum 2 none)) := lw_V q2041 q2043 qs105 q169 q2044
set_option maxHeartbeats 4000000 in
theorem wX6_negation_87 {p : Program} {l : Launch} {e : Env} {s : State} {m : MethodId} {args : Array Value} {below : List Frame} {meth : Method} {c : Code} {G : je_G} {dyn : Nat → Option je_E} {sz : Nat} {F : Nat} {d : Nat} {rc : Nat → kp_K → Option kp_K} {r9 : kp_K} (C : Cx p s m args meth c G "MinistryDesksModel" cX6_negation 2 none) (hrc : hX6 l G dyn sz d rc) (κ : kp_K) (h : bX6_negation_87 F rc κ = some r9) : Js p l e ({ frames := (7 + (d + 1)), cells := 0, slots := 0, locals := (149 + (d + 1) * 21) } : Room) s m args below meth c G 2 (MQ below (je_Q G none (en2 G r9 dyn) sz) args s 0 0 (je_A G)) (en2 G κ dyn) sz 0 0 87 [(0, .ref (G.2.1 + 66))] [] := by
  unfold bX6_negation_87 at h
  refine je_aload_n C dX6_negation_87 88 rfl 0 rfl ?_
  refine gX6_195 C dX6_negation_88 91 rfl ?_
  refine je_lti h (fun t91 h => ?_)
  refine je_istore_n C dX6_negation_91 92 rfl (Nat.le_of_ble_eq_true rfl) [(1, .int t91), (0, .ref (G.2.1 + 66))] rfl ?_
  refine je_aload_n C dX6_negation_92 93 rfl 1 rfl ?_
  obtain ⟨k93, hg, h⟩ := p_cl_inv h
  refine je_callVv (As := []) (rest := []) C (metX6_knot hg) (en2_at kd66) rfl hdX6_knot rfl cwX6_301 rfl ⟨(show 1 + 1 ≤ 7 + (d + 1) from by omega), (show 8 + (1 + 11) + 21 ≤ 149 + (d + 1) * 21 from by omega)⟩ (Nat.le_of_ble_eq_true rfl) dX6_negation_93 96 rfl ⟨Nat.le_refl _, Nat.le_refl _⟩ ?_
  refine je_aload_n C dX6_negation_96 97 rfl 1 rfl ?_
  obtain ⟨k97, hg, h⟩ := p_cl_inv h
  refine je_callVv (As := []) (rest := []) C (metX6_goOn hg) (en2_at kd66) rfl hdX6_goOn rfl cwX6_239 rfl ⟨(show 6 + 1 ≤ 7 + (d + 1) from by omega), (show 8 + (1 + 11) + 129 ≤ 149 + (d + 1) * 21 from by omega)⟩ (Nat.le_of_ble_eq_true rfl) dX6_negation_97 100 rfl ⟨Nat.le_refl _, Nat.le_refl _⟩ ?_
  refine je_aload_n C dX6_negation_100 101 rfl 1 rfl ?_
  obtain ⟨k101, hg, h⟩ := p_cl_inv h
  refine je_callVv (As := []) (rest := []) C ((hrc _ _).2.2.2.1 hg) (en2_at kd66) rfl hdX6_sum rfl cwX6_311 rfl ⟨Nat.le_refl _, (show 8 + (2 + 11) + (149 + d * 21) ≤ 149 + (d + 1) * 21 from by omega)⟩ (Nat.le_of_ble_eq_true rfl) dX6_negation_101 104 rfl ⟨Nat.le_refl _, Nat.le_refl _⟩ ?_
  refine je_aload_n C dX6_negation_104 105 rfl 1 rfl ?_
  refine je_iconst C (2) dX6_negation_105 106 rfl ic_2 ?_
  refine je_iload_n C dX6_negation_106 107 rfl 0 rfl ?_
  obtain ⟨k107, hg, h⟩ := p_cl_inv h
  refine je_callVv (As := [.int (2 : Int32), .int t91]) (rest := []) C (metX6_puts hg) (en2_at kd66) rfl hdX6_puts rfl cwX6_304 rfl ⟨(show 1 + 1 ≤ 7 + (d + 1) from by omega), (show 8 + (3 + 11) + 21 ≤ 149 + (d + 1) * 21 from by omega)⟩ (Nat.le_of_ble_eq_true rfl) dX6_negation_107 110 rfl ⟨Nat.le_refl _, Nat.le_refl _⟩ ?_
  cases h
  exact je_vret C dX6_negation_110
set_option maxHeartbeats 4000000 in
theorem metX6_negation {l : Launch} {G : je_G} {dyn : Nat → Option je_E} {sz : Nat} {F : Nat} {d : Nat} {rc : Nat → kp_K → Option kp_K} {κ : kp_K}  {r9 : kp_K} (hrc : hX6 l G dyn sz d rc) (h : pX6_negation F rc κ = some r9) : MetS l G yX6_negation cX6_negation 2 none (7 + (d + 1)) (149 + (d + 1) * 21) 0 0 [.ref (G.2.1 + 66)] (en2 G κ dyn) sz none (en2 G r9 dyn) sz := by
  refine je_met "MinistryDesksModel" rfl (by decide +kernel) (Nat.le_of_ble_eq_true rfl) [(0, .ref (G.2.1 + 66))] rfl (fun p e s m args below meth c C => ?_)
  unfold pX6_negation at h
  refine je_aload_n C dX6_negation_0 1 rfl 0 rfl ?_
  refine je_bipush C (13) dX6_negation_1 3 rfl bp_13 ?_
  obtain ⟨t3, hg, h⟩ := p_cl_inv h
  refine je_callVi (As := [.int (13 : Int32)]) (rest := []) C (metX6_isWord hg) (en2_at kd66) rfl hdX6_isWord rfl cwX6_298 rfl ⟨(show 0 + 1 ≤ 7 + (d + 1) from by omega), (show 8 + (2 + 11) + 0 ≤ 149 + (d + 1) * 21 from by omega)⟩ (Nat.le_of_ble_eq_true rfl) dX6_negation_3 6 rfl ⟨Nat.le_refl _, Nat.le_refl _⟩ ?_
  refine je_if_eq C 30 dX6_negation_6 9 rfl rfl h (fun h => ?_) (fun h => ?_)
  · refine je_aload_n C dX6_negation_30 31 rfl 0 rfl ?_
    obtain ⟨k31, hg, h⟩ := p_cl_inv h
    refine je_callVv (As := []) (rest := []) C ((hrc _ _).2.2.2.1 hg) (en2_at kd66) rfl hdX6_sum rfl cwX6_311 rfl ⟨Nat.le_refl _, (show 8 + (2 + 11) + (149 + d * 21) ≤ 149 + (d + 1) * 21 from by omega)⟩ (Nat.le_of_ble_eq_true rfl) dX6_negation_31 34 rfl ⟨Nat.le_refl _, Nat.le_refl _⟩ ?_
    refine je_aload_n C dX6_negation_34 35 rfl 0 rfl ?_
    refine gX6_219 C dX6_negation_35 38 rfl ?_
    refine je_if_ne C 86 dX6_negation_38 41 rfl rfl h (fun h => ?_) (fun h => ?_)
    · cases h
      exact je_vret C dX6_negation_86
    refine je_aload_n C dX6_negation_41 42 rfl 0 rfl ?_
    refine gX6_185 C dX6_negation_42 45 rfl ?_
    refine je_iconst C (3) dX6_negation_45 46 rfl ic_3 ?_
    refine je_icmp_ne C 86 dX6_negation_46 49 rfl rfl h (fun h => ?_) (fun h => ?_)
    · cases h
      exact je_vret C dX6_negation_86
    refine je_aload_n C dX6_negation_49 50 rfl 0 rfl ?_
    refine gX6_195 C dX6_negation_50 53 rfl ?_
    refine je_bipush C (60) dX6_negation_53 55 rfl bp_60 ?_
    refine je_icmp_eq C 87 dX6_negation_55 58 rfl rfl h (fun h => ?_) (fun h => ?_)
    · exact wX6_negation_87 C hrc k31 h
    refine je_aload_n C dX6_negation_58 59 rfl 0 rfl ?_
    refine gX6_195 C dX6_negation_59 62 rfl ?_
    refine je_bipush C (62) dX6_negation_62 64 rfl bp_62 ?_
    refine je_icmp_eq C 87 dX6_negation_64 67 rfl rfl h (fun h => ?_) (fun h => ?_)
    · exact wX6_negation_87 C hrc k31 h
    refine je_aload_n C dX6_negation_67 68 rfl 0 rfl ?_
    refine gX6_195 C dX6_negation_68 71 rfl ?_
    refine je_bipush C (61) dX6_negation_71 73 rfl bp_61 ?_
    refine je_icmp_eq C 87 dX6_negation_73 76 rfl rfl h (fun h => ?_) (fun h => ?_)
    · exact wX6_negation_87 C hrc k31 h
    refine je_aload_n C dX6_negation_76 77 rfl 0 rfl ?_
    refine gX6_195 C dX6_negation_77 80 rfl ?_
    refine je_sipush C (256) dX6_negation_80 83 rfl sp_256 ?_
    refine je_icmp_ge C 87 dX6_negation_83 86 rfl rfl h (fun h => ?_) (fun h => ?_)
    · exact wX6_negation_87 C hrc k31 h
    cases h
    exact je_vret C dX6_negation_86
  refine je_aload_n C dX6_negation_9 10 rfl 0 rfl ?_
  obtain ⟨k10, hg, h⟩ := p_cl_inv h
  refine je_callVv (As := []) (rest := []) C (metX6_knot hg) (en2_at kd66) rfl hdX6_knot rfl cwX6_301 rfl ⟨(show 1 + 1 ≤ 7 + (d + 1) from by omega), (show 8 + (1 + 11) + 21 ≤ 149 + (d + 1) * 21 from by omega)⟩ (Nat.le_of_ble_eq_true rfl) dX6_negation_10 13 rfl ⟨Nat.le_refl _, Nat.le_refl _⟩ ?_
  refine je_aload_n C dX6_negation_13 14 rfl 0 rfl ?_
  obtain ⟨k14, hg, h⟩ := p_cl_inv h
  refine je_callVv (As := []) (rest := []) C (metX6_goOn hg) (en2_at kd66) rfl hdX6_goOn rfl cwX6_239 rfl ⟨(show 6 + 1 ≤ 7 + (d + 1) from by omega), (show 8 + (1 + 11) + 129 ≤ 149 + (d + 1) * 21 from by omega)⟩ (Nat.le_of_ble_eq_true rfl) dX6_negation_14 17 rfl ⟨Nat.le_refl _, Nat.le_refl _⟩ ?_
  refine je_aload_n C dX6_negation_17 18 rfl 0 rfl ?_
  obtain ⟨k18, hg, h⟩ := p_cl_inv h
  refine je_callVv (As := []) (rest := []) C ((hrc _ _).2.2.1 hg) (en2_at kd66) rfl hdX6_negation rfl cwX6_308 rfl ⟨Nat.le_refl _, (show 8 + (2 + 11) + (149 + d * 21) ≤ 149 + (d + 1) * 21 from by omega)⟩ (Nat.le_of_ble_eq_true rfl) dX6_negation_18 21 rfl ⟨Nat.le_refl _, Nat.le_refl _⟩ ?_
  refine je_aload_n C dX6_negation_21 22 rfl 0 rfl ?_
  refine je_iconst C (2) dX6_negation_22 23 rfl ic_2 ?_
  refine je_sipush C (260) dX6_negation_23 26 rfl sp_260 ?_
  obtain ⟨k26, hg, h⟩ := p_cl_inv h
  refine je_callVv (As := [.int (2 : Int32), .int (260 : Int32)]) (rest := []) C (metX6_puts hg) (en2_at kd66) rfl hdX6_puts rfl cwX6_304 rfl ⟨(show 1 + 1 ≤ 7 + (d + 1) from by omega), (show 8 + (3 + 11) + 21 ≤ 149 + (d + 1) * 21 from by omega)⟩ (Nat.le_of_ble_eq_true rfl) dX6_negation_26 29 rfl ⟨Nat.le_refl _, Nat.le_refl _⟩ ?_
  cases h
  exact je_vret C dX6_negation_29
theorem hdX6_isSign : je_hd yX6_isSign 1 := ⟨by decide +kernel, by decide +kernel, by decide +kernel⟩
theorem hdX6_product : je_hd yX6_product 0 := ⟨by decide +kernel, by decide +kernel, by decide +kernel⟩
theorem cwX6_280 : GoodIn lw_all (wsV "MinistryDesksModel" 280 "MinistryDesksModel" yX6_isSign (ws_ yX6_isSign cX6_isSign 2 (some .boolean))) := lw_V q2053 q2055 qs108 q169 q2056
theorem cwX6_314 : GoodIn lw_all (wsV "MinistryDesksModel" 314 "MinistryDesksModel" yX6_product (ws_ yX6_product cX6_product 2 none)) := lw_V q2045 q2047 qs106 q169 q2048
set_option maxHeartbeats 4000000 in
theorem wX6_sum_22 {p : Program} {l : Launch} {e : Env} {s : State} {m : MethodId} {args : Array Value} {below : List Frame} {meth : Method} {c : Code} {G : je_G} {dyn : Nat → Option je_E} {sz : Nat} {F : Nat} {d : Nat} {rc : Nat → kp_K → Option kp_K} {r9 : kp_K} {k4 : kp_K → Option (kp_K)} (C : Cx p s m args meth c G "MinistryDesksModel" cX6_sum 2 none) (hrc : hX6 l G dyn sz d rc) (hk4 : ∀ (kq : kp_K), k4 kq = some r9 → Js p l e ({ frames := (7 + (d + 1)), cells := 0, slots := 0, locals := (149 + (d + 1) * 21) } : Room) s m args below meth c G 2 (MQ below (je_Q G none (en2 G r9 dyn) sz) args s 0 0 (je_A G)) (en2 G kq dyn) sz 0 0 4 [(0, .ref (G.2.1 + 66))] []) (κ : kp_K) (h : bX6_sum_22 F rc k4 κ = some r9) : Js p l e ({ frames := (7 + (d + 1)), cells := 0, slots := 0, locals := (149 + (d + 1) * 21) } : Room) s m args below meth c G 2 (MQ below (je_Q G none (en2 G r9 dyn) sz) args s 0 0 (je_A G)) (en2 G κ dyn) sz 0 0 22 [(0, .ref (G.2.1 + 66))] [] := by
  unfold bX6_sum_22 at h
  refine je_aload_n C dX6_sum_22 23 rfl 0 rfl ?_
  refine gX6_195 C dX6_sum_23 26 rfl ?_
  refine je_lti h (fun t26 h => ?_)
  refine je_istore_n C dX6_sum_26 27 rfl (Nat.le_of_ble_eq_true rfl) [(1, .int t26), (0, .ref (G.2.1 + 66))] rfl ?_
  refine je_aload_n C dX6_sum_27 28 rfl 1 rfl ?_
  obtain ⟨k28, hg, h⟩ := p_cl_inv h
  refine je_callVv (As := []) (rest := []) C (metX6_knot hg) (en2_at kd66) rfl hdX6_knot rfl cwX6_301 rfl ⟨(show 1 + 1 ≤ 7 + (d + 1) from by omega), (show 8 + (1 + 11) + 21 ≤ 149 + (d + 1) * 21 from by omega)⟩ (Nat.le_of_ble_eq_true rfl) dX6_sum_28 31 rfl ⟨Nat.le_refl _, Nat.le_refl _⟩ ?_
  refine je_aload_n C dX6_sum_31 32 rfl 1 rfl ?_
  obtain ⟨k32, hg, h⟩ := p_cl_inv h
  refine je_callVv (As := []) (rest := []) C (metX6_goOn hg) (en2_at kd66) rfl hdX6_goOn rfl cwX6_239 rfl ⟨(show 6 + 1 ≤ 7 + (d + 1) from by omega), (show 8 + (1 + 11) + 129 ≤ 149 + (d + 1) * 21 from by omega)⟩ (Nat.le_of_ble_eq_true rfl) dX6_sum_32 35 rfl ⟨Nat.le_refl _, Nat.le_refl _⟩ ?_
  refine je_aload_n C dX6_sum_35 36 rfl 1 rfl ?_
  obtain ⟨k36, hg, h⟩ := p_cl_inv h
  refine je_callVv (As := []) (rest := []) C ((hrc _ _).2.2.2.2.1 hg) (en2_at kd66) rfl hdX6_product rfl cwX6_314 rfl ⟨Nat.le_refl _, (show 8 + (2 + 11) + (149 + d * 21) ≤ 149 + (d + 1) * 21 from by omega)⟩ (Nat.le_of_ble_eq_true rfl) dX6_sum_36 39 rfl ⟨Nat.le_refl _, Nat.le_refl _⟩ ?_
  refine je_aload_n C dX6_sum_39 40 rfl 1 rfl ?_
  refine je_iconst C (2) dX6_sum_40 41 rfl ic_2 ?_
  refine je_iload_n C dX6_sum_41 42 rfl 0 rfl ?_
  obtain ⟨k42, hg, h⟩ := p_cl_inv h
  refine je_callVv (As := [.int (2 : Int32), .int t26]) (rest := []) C (metX6_puts hg) (en2_at kd66) rfl hdX6_puts rfl cwX6_304 rfl ⟨(show 1 + 1 ≤ 7 + (d + 1) from by omega), (show 8 + (3 + 11) + 21 ≤ 149 + (d + 1) * 21 from by omega)⟩ (Nat.le_of_ble_eq_true rfl) dX6_sum_42 45 rfl ⟨Nat.le_refl _, Nat.le_refl _⟩ ?_
  refine je_goto C 4 dX6_sum_45 rfl ?_
  refine je_sub [1] [(0, .ref (G.2.1 + 66))] rfl ?_
  exact hk4 k42 h
set_option maxHeartbeats 4000000 in
theorem wX6_sum_4 {p : Program} {l : Launch} {e : Env} {s : State} {m : MethodId} {args : Array Value} {below : List Frame} {meth : Method} {c : Code} {G : je_G} {dyn : Nat → Option je_E} {sz : Nat} {F : Nat} {d : Nat} {rc : Nat → kp_K → Option kp_K} {r9 : kp_K} (C : Cx p s m args meth c G "MinistryDesksModel" cX6_sum 2 none) (hrc : hX6 l G dyn sz d rc) : ∀ (n : Nat) (κ : kp_K), bX6_sum_4 F rc n κ = some r9 → Js p l e ({ frames := (7 + (d + 1)), cells := 0, slots := 0, locals := (149 + (d + 1) * 21) } : Room) s m args below meth c G 2 (MQ below (je_Q G none (en2 G r9 dyn) sz) args s 0 0 (je_A G)) (en2 G κ dyn) sz 0 0 4 [(0, .ref (G.2.1 + 66))] [] := by
  intro n
  induction n with
  | zero =>
    intro κ h
    cases h
  | succ n ih =>
    intro κ h
    rw [bX6_sum_4] at h
    refine je_aload_n C dX6_sum_4 5 rfl 0 rfl ?_
    refine je_bipush C (43) dX6_sum_5 7 rfl bp_43 ?_
    obtain ⟨t7, hg, h⟩ := p_cl_inv h
    refine je_callVi (As := [.int (43 : Int32)]) (rest := []) C (metX6_isSign hg) (en2_at kd66) rfl hdX6_isSign rfl cwX6_280 rfl ⟨(show 0 + 1 ≤ 7 + (d + 1) from by omega), (show 8 + (2 + 11) + 0 ≤ 149 + (d + 1) * 21 from by omega)⟩ (Nat.le_of_ble_eq_true rfl) dX6_sum_7 10 rfl ⟨Nat.le_refl _, Nat.le_refl _⟩ ?_
    refine je_if_ne C 22 dX6_sum_10 13 rfl rfl h (fun h => ?_) (fun h => ?_)
    · exact wX6_sum_22 C hrc ih κ h
    refine je_aload_n C dX6_sum_13 14 rfl 0 rfl ?_
    refine je_bipush C (45) dX6_sum_14 16 rfl bp_45 ?_
    obtain ⟨t16, hg, h⟩ := p_cl_inv h
    refine je_callVi (As := [.int (45 : Int32)]) (rest := []) C (metX6_isSign hg) (en2_at kd66) rfl hdX6_isSign rfl cwX6_280 rfl ⟨(show 0 + 1 ≤ 7 + (d + 1) from by omega), (show 8 + (2 + 11) + 0 ≤ 149 + (d + 1) * 21 from by omega)⟩ (Nat.le_of_ble_eq_true rfl) dX6_sum_16 19 rfl ⟨Nat.le_refl _, Nat.le_refl _⟩ ?_
    refine je_if_eq C 48 dX6_sum_19 22 rfl rfl h (fun h => ?_) (fun h => ?_)
    · cases h
      exact je_vret C dX6_sum_48
    exact wX6_sum_22 C hrc ih κ h
set_option maxHeartbeats 4000000 in
theorem metX6_sum {l : Launch} {G : je_G} {dyn : Nat → Option je_E} {sz : Nat} {F : Nat} {d : Nat} {rc : Nat → kp_K → Option kp_K} {κ : kp_K}  {r9 : kp_K} (hrc : hX6 l G dyn sz d rc) (h : pX6_sum F rc κ = some r9) : MetS l G yX6_sum cX6_sum 2 none (7 + (d + 1)) (149 + (d + 1) * 21) 0 0 [.ref (G.2.1 + 66)] (en2 G κ dyn) sz none (en2 G r9 dyn) sz := by
  refine je_met "MinistryDesksModel" rfl (by decide +kernel) (Nat.le_of_ble_eq_true rfl) [(0, .ref (G.2.1 + 66))] rfl (fun p e s m args below meth c C => ?_)
  unfold pX6_sum at h
  refine je_aload_n C dX6_sum_0 1 rfl 0 rfl ?_
  obtain ⟨k1, hg, h⟩ := p_cl_inv h
  refine je_callVv (As := []) (rest := []) C ((hrc _ _).2.2.2.2.1 hg) (en2_at kd66) rfl hdX6_product rfl cwX6_314 rfl ⟨Nat.le_refl _, (show 8 + (2 + 11) + (149 + d * 21) ≤ 149 + (d + 1) * 21 from by omega)⟩ (Nat.le_of_ble_eq_true rfl) dX6_sum_1 4 rfl ⟨Nat.le_refl _, Nat.le_refl _⟩ ?_
  exact wX6_sum_4 C hrc F k1 h
theorem hdX6_primary : je_hd yX6_primary 0 := ⟨by decide +kernel, by decide +kernel, by decide +kernel⟩
theorem cwX6_317 : GoodIn lw_all (wsV "MinistryDesksModel" 317 "MinistryDesksModel" yX6_primary (ws_ yX6_primary cX6_primary 2 none)) := lw_V q2049 q2051 qs107 q169 q2052
set_option maxHeartbeats 4000000 in
theorem wX6_product_22 {p : Program} {l : Launch} {e : Env} {s : State} {m : MethodId} {args : Array Value} {below : List Frame} {meth : Method} {c : Code} {G : je_G} {dyn : Nat → Option je_E} {sz : Nat} {F : Nat} {d : Nat} {rc : Nat → kp_K → Option kp_K} {r9 : kp_K} {k4 : kp_K → Option (kp_K)} (C : Cx p s m args meth c G "MinistryDesksModel" cX6_product 2 none) (hrc : hX6 l G dyn sz d rc) (hk4 : ∀ (kq : kp_K), k4 kq = some r9 → Js p l e ({ frames := (7 + (d + 1)), cells := 0, slots := 0, locals := (149 + (d + 1) * 21) } : Room) s m args below meth c G 2 (MQ below (je_Q G none (en2 G r9 dyn) sz) args s 0 0 (je_A G)) (en2 G kq dyn) sz 0 0 4 [(0, .ref (G.2.1 + 66))] []) (κ : kp_K) (h : bX6_product_22 F rc k4 κ = some r9) : Js p l e ({ frames := (7 + (d + 1)), cells := 0, slots := 0, locals := (149 + (d + 1) * 21) } : Room) s m args below meth c G 2 (MQ below (je_Q G none (en2 G r9 dyn) sz) args s 0 0 (je_A G)) (en2 G κ dyn) sz 0 0 22 [(0, .ref (G.2.1 + 66))] [] := by
  unfold bX6_product_22 at h
  refine je_aload_n C dX6_product_22 23 rfl 0 rfl ?_
  refine gX6_195 C dX6_product_23 26 rfl ?_
  refine je_lti h (fun t26 h => ?_)
  refine je_istore_n C dX6_product_26 27 rfl (Nat.le_of_ble_eq_true rfl) [(1, .int t26), (0, .ref (G.2.1 + 66))] rfl ?_
  refine je_aload_n C dX6_product_27 28 rfl 1 rfl ?_
  obtain ⟨k28, hg, h⟩ := p_cl_inv h
  refine je_callVv (As := []) (rest := []) C (metX6_knot hg) (en2_at kd66) rfl hdX6_knot rfl cwX6_301 rfl ⟨(show 1 + 1 ≤ 7 + (d + 1) from by omega), (show 8 + (1 + 11) + 21 ≤ 149 + (d + 1) * 21 from by omega)⟩ (Nat.le_of_ble_eq_true rfl) dX6_product_28 31 rfl ⟨Nat.le_refl _, Nat.le_refl _⟩ ?_
  refine je_aload_n C dX6_product_31 32 rfl 1 rfl ?_
  obtain ⟨k32, hg, h⟩ := p_cl_inv h
  refine je_callVv (As := []) (rest := []) C (metX6_goOn hg) (en2_at kd66) rfl hdX6_goOn rfl cwX6_239 rfl ⟨(show 6 + 1 ≤ 7 + (d + 1) from by omega), (show 8 + (1 + 11) + 129 ≤ 149 + (d + 1) * 21 from by omega)⟩ (Nat.le_of_ble_eq_true rfl) dX6_product_32 35 rfl ⟨Nat.le_refl _, Nat.le_refl _⟩ ?_
  refine je_aload_n C dX6_product_35 36 rfl 1 rfl ?_
  obtain ⟨k36, hg, h⟩ := p_cl_inv h
  refine je_callVv (As := []) (rest := []) C ((hrc _ _).2.2.2.2.2 hg) (en2_at kd66) rfl hdX6_primary rfl cwX6_317 rfl ⟨Nat.le_refl _, (show 8 + (2 + 11) + (149 + d * 21) ≤ 149 + (d + 1) * 21 from by omega)⟩ (Nat.le_of_ble_eq_true rfl) dX6_product_36 39 rfl ⟨Nat.le_refl _, Nat.le_refl _⟩ ?_
  refine je_aload_n C dX6_product_39 40 rfl 1 rfl ?_
  refine je_iconst C (2) dX6_product_40 41 rfl ic_2 ?_
  refine je_iload_n C dX6_product_41 42 rfl 0 rfl ?_
  obtain ⟨k42, hg, h⟩ := p_cl_inv h
  refine je_callVv (As := [.int (2 : Int32), .int t26]) (rest := []) C (metX6_puts hg) (en2_at kd66) rfl hdX6_puts rfl cwX6_304 rfl ⟨(show 1 + 1 ≤ 7 + (d + 1) from by omega), (show 8 + (3 + 11) + 21 ≤ 149 + (d + 1) * 21 from by omega)⟩ (Nat.le_of_ble_eq_true rfl) dX6_product_42 45 rfl ⟨Nat.le_refl _, Nat.le_refl _⟩ ?_
  refine je_goto C 4 dX6_product_45 rfl ?_
  refine je_sub [1] [(0, .ref (G.2.1 + 66))] rfl ?_
  exact hk4 k42 h
set_option maxHeartbeats 4000000 in
theorem wX6_product_4 {p : Program} {l : Launch} {e : Env} {s : State} {m : MethodId} {args : Array Value} {below : List Frame} {meth : Method} {c : Code} {G : je_G} {dyn : Nat → Option je_E} {sz : Nat} {F : Nat} {d : Nat} {rc : Nat → kp_K → Option kp_K} {r9 : kp_K} (C : Cx p s m args meth c G "MinistryDesksModel" cX6_product 2 none) (hrc : hX6 l G dyn sz d rc) : ∀ (n : Nat) (κ : kp_K), bX6_product_4 F rc n κ = some r9 → Js p l e ({ frames := (7 + (d + 1)), cells := 0, slots := 0, locals := (149 + (d + 1) * 21) } : Room) s m args below meth c G 2 (MQ below (je_Q G none (en2 G r9 dyn) sz) args s 0 0 (je_A G)) (en2 G κ dyn) sz 0 0 4 [(0, .ref (G.2.1 + 66))] [] := by
  intro n
  induction n with
  | zero =>
    intro κ h
    cases h
  | succ n ih =>
    intro κ h
    rw [bX6_product_4] at h
    refine je_aload_n C dX6_product_4 5 rfl 0 rfl ?_
    refine je_bipush C (42) dX6_product_5 7 rfl bp_42 ?_
    obtain ⟨t7, hg, h⟩ := p_cl_inv h
    refine je_callVi (As := [.int (42 : Int32)]) (rest := []) C (metX6_isSign hg) (en2_at kd66) rfl hdX6_isSign rfl cwX6_280 rfl ⟨(show 0 + 1 ≤ 7 + (d + 1) from by omega), (show 8 + (2 + 11) + 0 ≤ 149 + (d + 1) * 21 from by omega)⟩ (Nat.le_of_ble_eq_true rfl) dX6_product_7 10 rfl ⟨Nat.le_refl _, Nat.le_refl _⟩ ?_
    refine je_if_ne C 22 dX6_product_10 13 rfl rfl h (fun h => ?_) (fun h => ?_)
    · exact wX6_product_22 C hrc ih κ h
    refine je_aload_n C dX6_product_13 14 rfl 0 rfl ?_
    refine je_bipush C (47) dX6_product_14 16 rfl bp_47 ?_
    obtain ⟨t16, hg, h⟩ := p_cl_inv h
    refine je_callVi (As := [.int (47 : Int32)]) (rest := []) C (metX6_isSign hg) (en2_at kd66) rfl hdX6_isSign rfl cwX6_280 rfl ⟨(show 0 + 1 ≤ 7 + (d + 1) from by omega), (show 8 + (2 + 11) + 0 ≤ 149 + (d + 1) * 21 from by omega)⟩ (Nat.le_of_ble_eq_true rfl) dX6_product_16 19 rfl ⟨Nat.le_refl _, Nat.le_refl _⟩ ?_
    refine je_if_eq C 48 dX6_product_19 22 rfl rfl h (fun h => ?_) (fun h => ?_)
    · cases h
      exact je_vret C dX6_product_48
    exact wX6_product_22 C hrc ih κ h
set_option maxHeartbeats 4000000 in
theorem metX6_product {l : Launch} {G : je_G} {dyn : Nat → Option je_E} {sz : Nat} {F : Nat} {d : Nat} {rc : Nat → kp_K → Option kp_K} {κ : kp_K}  {r9 : kp_K} (hrc : hX6 l G dyn sz d rc) (h : pX6_product F rc κ = some r9) : MetS l G yX6_product cX6_product 2 none (7 + (d + 1)) (149 + (d + 1) * 21) 0 0 [.ref (G.2.1 + 66)] (en2 G κ dyn) sz none (en2 G r9 dyn) sz := by
  refine je_met "MinistryDesksModel" rfl (by decide +kernel) (Nat.le_of_ble_eq_true rfl) [(0, .ref (G.2.1 + 66))] rfl (fun p e s m args below meth c C => ?_)
  unfold pX6_product at h
  refine je_aload_n C dX6_product_0 1 rfl 0 rfl ?_
  obtain ⟨k1, hg, h⟩ := p_cl_inv h
  refine je_callVv (As := []) (rest := []) C ((hrc _ _).2.2.2.2.2 hg) (en2_at kd66) rfl hdX6_primary rfl cwX6_317 rfl ⟨Nat.le_refl _, (show 8 + (2 + 11) + (149 + d * 21) ≤ 149 + (d + 1) * 21 from by omega)⟩ (Nat.le_of_ble_eq_true rfl) dX6_product_1 4 rfl ⟨Nat.le_refl _, Nat.le_refl _⟩ ?_
  exact wX6_product_4 C hrc F k1 h
theorem bp_14 : (Int8.ofInt (14)).toInt32 = (14 : Int32) := by decide +kernel
theorem hdX6_expression : je_hd yX6_expression 0 := ⟨by decide +kernel, by decide +kernel, by decide +kernel⟩
theorem cwX6_277 : GoodIn lw_all (wsV "MinistryDesksModel" 277 "MinistryDesksModel" yX6_expression (ws_ yX6_expression cX6_expression 1 none)) := lw_V q2017 q2019 qs99 q169 q2020
theorem gX6_320 {p : Program} {l : Launch} {e : Env} {R : Room} {s : State} {m : MethodId} {args : Array Value} {below : List Frame} {meth : Method} {c : Code} {Q : State → Prop} {G : je_G} {cc : ByteArray} {nL : Nat} {rt : Option FieldType} {sz cells slots pc : Nat} {L : List (Nat × Value)} {st : List Value} {κ : kp_K} {dyn : Nat → Option je_E} (C : Cx p s m args meth c G "MinistryDesksModel" cc nL rt) (d : decode cc pc = .ok (.getfield 320, 3)) (n : Nat) (hn : pc + 3 = n) (kk : Js p l e R s m args below meth c G nL Q (en2 G κ dyn) sz cells slots n L (.int (κ.1 66 35) :: st)) : Js p l e R s m args below meth c G nL Q (en2 G κ dyn) sz cells slots pc L (.ref (G.2.1 + 66) :: st) := jk_getI (k := 35) C kd66 rfl in_X6 rfl (by decide) q1715 rfl d n hn kk
theorem sX6_320 {p : Program} {l : Launch} {e : Env} {R : Room} {s : State} {m : MethodId} {args : Array Value} {below : List Frame} {meth : Method} {c : Code} {Q : State → Prop} {G : je_G} {cc : ByteArray} {nL : Nat} {rt : Option FieldType} {sz cells slots pc : Nat} {L : List (Nat × Value)} {st : List Value} {κ : kp_K} {dyn : Nat → Option je_E} (C : Cx p s m args meth c G "MinistryDesksModel" cc nL rt) {v : Int32} (d : decode cc pc = .ok (.putfield 320, 3)) (n : Nat) (hn : pc + 3 = n) (kk : Js p l e R s m args below meth c G nL Q (en2 G (s_i κ 66 35 v) dyn) sz cells slots n L st) : Js p l e R s m args below meth c G nL Q (en2 G κ dyn) sz cells slots pc L (.int v :: .ref (G.2.1 + 66) :: st) := jk_putI (k := 35) C kd66 rfl in_X6 tyX6 tyX6_ok nmX6 rfl (by decide) q1715 rfl rfl rfl d n hn kk
set_option maxHeartbeats 4000000 in
theorem wX6_primary_194 {p : Program} {l : Launch} {e : Env} {s : State} {m : MethodId} {args : Array Value} {below : List Frame} {meth : Method} {c : Code} {G : je_G} {dyn : Nat → Option je_E} {sz : Nat} {F : Nat} {d : Nat} {rc : Nat → kp_K → Option kp_K} {r9 : kp_K} (C : Cx p s m args meth c G "MinistryDesksModel" cX6_primary 2 none) (hrc : hX6 l G dyn sz d rc) (κ : kp_K) (s0 : Int32) (s1 : Int32) (h : bX6_primary_194 F rc κ s0 s1 = some r9) : Js p l e ({ frames := (7 + (d + 1)), cells := 0, slots := 0, locals := (149 + (d + 1) * 21) } : Room) s m args below meth c G 2 (MQ below (je_Q G none (en2 G r9 dyn) sz) args s 0 0 (je_A G)) (en2 G κ dyn) sz 0 0 194 [(0, .ref (G.2.1 + 66))] [.int s0, .int s1, .ref (G.2.1 + 66)] := by
  unfold bX6_primary_194 at h
  obtain ⟨k194, hg, h⟩ := p_cl_inv h
  refine je_callVv (As := [.int s1, .int s0]) (rest := []) C (metX6_puts hg) (en2_at kd66) rfl hdX6_puts rfl cwX6_304 rfl ⟨(show 1 + 1 ≤ 7 + (d + 1) from by omega), (show 8 + (3 + 11) + 21 ≤ 149 + (d + 1) * 21 from by omega)⟩ (Nat.le_of_ble_eq_true rfl) dX6_primary_194 197 rfl ⟨Nat.le_refl _, Nat.le_refl _⟩ ?_
  refine je_aload_n C dX6_primary_197 198 rfl 0 rfl ?_
  obtain ⟨k198, hg, h⟩ := p_cl_inv h
  refine je_callVv (As := []) (rest := []) C (metX6_goOn hg) (en2_at kd66) rfl hdX6_goOn rfl cwX6_239 rfl ⟨(show 6 + 1 ≤ 7 + (d + 1) from by omega), (show 8 + (1 + 11) + 129 ≤ 149 + (d + 1) * 21 from by omega)⟩ (Nat.le_of_ble_eq_true rfl) dX6_primary_198 201 rfl ⟨Nat.le_refl _, Nat.le_refl _⟩ ?_
  cases h
  exact je_vret C dX6_primary_201
set_option maxHeartbeats 4000000 in
theorem wX6_primary_176 {p : Program} {l : Launch} {e : Env} {s : State} {m : MethodId} {args : Array Value} {below : List Frame} {meth : Method} {c : Code} {G : je_G} {dyn : Nat → Option je_E} {sz : Nat} {F : Nat} {d : Nat} {rc : Nat → kp_K → Option kp_K} {r9 : kp_K} (C : Cx p s m args meth c G "MinistryDesksModel" cX6_primary 2 none) (hrc : hX6 l G dyn sz d rc) (κ : kp_K) (v1 : Int32) (s0 : Int32) (h : bX6_primary_176 F rc κ v1 s0 = some r9) : Js p l e ({ frames := (7 + (d + 1)), cells := 0, slots := 0, locals := (149 + (d + 1) * 21) } : Room) s m args below meth c G 2 (MQ below (je_Q G none (en2 G r9 dyn) sz) args s 0 0 (je_A G)) (en2 G κ dyn) sz 0 0 176 [(0, .ref (G.2.1 + 66)), (1, .int v1)] [.int s0, .ref (G.2.1 + 66)] := by
  unfold bX6_primary_176 at h
  refine je_iload_n C dX6_primary_176 177 rfl 1 rfl ?_
  refine je_if_eq C 187 dX6_primary_177 180 rfl rfl h (fun h => ?_) (fun h => ?_)
  · refine je_aload_n C dX6_primary_187 188 rfl 0 rfl ?_
    refine gX6_195 C dX6_primary_188 191 rfl ?_
    refine je_bipush C (14) dX6_primary_191 193 rfl bp_14 ?_
    refine je_isub C dX6_primary_193 194 rfl ?_
    refine je_sub [0] [(0, .ref (G.2.1 + 66))] rfl ?_
    exact wX6_primary_194 C hrc κ ((κ.1 66 30) - (14 : Int32)) s0 h
  refine je_aload_n C dX6_primary_180 181 rfl 0 rfl ?_
  refine gX6_195 C dX6_primary_181 184 rfl ?_
  refine je_goto C 194 dX6_primary_184 rfl ?_
  refine je_sub [0] [(0, .ref (G.2.1 + 66))] rfl ?_
  exact wX6_primary_194 C hrc κ (κ.1 66 30) s0 h
set_option maxHeartbeats 4000000 in
theorem wX6_primary_162 {p : Program} {l : Launch} {e : Env} {s : State} {m : MethodId} {args : Array Value} {below : List Frame} {meth : Method} {c : Code} {G : je_G} {dyn : Nat → Option je_E} {sz : Nat} {F : Nat} {d : Nat} {rc : Nat → kp_K → Option kp_K} {r9 : kp_K} (C : Cx p s m args meth c G "MinistryDesksModel" cX6_primary 2 none) (hrc : hX6 l G dyn sz d rc) (κ : kp_K) (v1 : Int32) (h : bX6_primary_162 F rc κ v1 = some r9) : Js p l e ({ frames := (7 + (d + 1)), cells := 0, slots := 0, locals := (149 + (d + 1) * 21) } : Room) s m args below meth c G 2 (MQ below (je_Q G none (en2 G r9 dyn) sz) args s 0 0 (je_A G)) (en2 G κ dyn) sz 0 0 162 [(0, .ref (G.2.1 + 66)), (1, .int v1)] [] := by
  unfold bX6_primary_162 at h
  refine je_aload_n C dX6_primary_162 163 rfl 0 rfl ?_
  obtain ⟨k163, hg, h⟩ := p_cl_inv h
  refine je_callVv (As := []) (rest := []) C (metX6_knot hg) (en2_at kd66) rfl hdX6_knot rfl cwX6_301 rfl ⟨(show 1 + 1 ≤ 7 + (d + 1) from by omega), (show 8 + (1 + 11) + 21 ≤ 149 + (d + 1) * 21 from by omega)⟩ (Nat.le_of_ble_eq_true rfl) dX6_primary_163 166 rfl ⟨Nat.le_refl _, Nat.le_refl _⟩ ?_
  refine je_aload_n C dX6_primary_166 167 rfl 0 rfl ?_
  refine je_iload_n C dX6_primary_167 168 rfl 1 rfl ?_
  refine je_if_eq C 175 dX6_primary_168 171 rfl rfl h (fun h => ?_) (fun h => ?_)
  · refine je_iconst C (1) dX6_primary_175 176 rfl ic_1 ?_
    exact wX6_primary_176 C hrc k163 v1 (1 : Int32) h
  refine je_iconst C (0) dX6_primary_171 172 rfl ic_0 ?_
  refine je_goto C 176 dX6_primary_172 rfl ?_
  exact wX6_primary_176 C hrc k163 v1 (0 : Int32) h
set_option maxHeartbeats 4000000 in
theorem wX6_primary_157 {p : Program} {l : Launch} {e : Env} {s : State} {m : MethodId} {args : Array Value} {below : List Frame} {meth : Method} {c : Code} {G : je_G} {dyn : Nat → Option je_E} {sz : Nat} {F : Nat} {d : Nat} {rc : Nat → kp_K → Option kp_K} {r9 : kp_K} (C : Cx p s m args meth c G "MinistryDesksModel" cX6_primary 2 none) (hrc : hX6 l G dyn sz d rc) (κ : kp_K) (v1 : Int32) (h : bX6_primary_157 F rc κ v1 = some r9) : Js p l e ({ frames := (7 + (d + 1)), cells := 0, slots := 0, locals := (149 + (d + 1) * 21) } : Room) s m args below meth c G 2 (MQ below (je_Q G none (en2 G r9 dyn) sz) args s 0 0 (je_A G)) (en2 G κ dyn) sz 0 0 157 [(0, .ref (G.2.1 + 66)), (1, .int v1)] [] := by
  unfold bX6_primary_157 at h
  refine je_aload_n C dX6_primary_157 158 rfl 0 rfl ?_
  refine je_iconst C (1) dX6_primary_158 159 rfl ic_1 ?_
  obtain ⟨k159, hg, h⟩ := p_cl_inv h
  refine je_callVv (As := [.int (1 : Int32)]) (rest := []) C (metX6_wrong hg) (en2_at kd66) rfl hdX6_wrong rfl cwX6_228 rfl ⟨(show 0 + 1 ≤ 7 + (d + 1) from by omega), (show 8 + (2 + 11) + 0 ≤ 149 + (d + 1) * 21 from by omega)⟩ (Nat.le_of_ble_eq_true rfl) dX6_primary_159 162 rfl ⟨Nat.le_refl _, Nat.le_refl _⟩ ?_
  exact wX6_primary_162 C hrc k159 v1 h
set_option maxHeartbeats 4000000 in
theorem wX6_primary_137 {p : Program} {l : Launch} {e : Env} {s : State} {m : MethodId} {args : Array Value} {below : List Frame} {meth : Method} {c : Code} {G : je_G} {dyn : Nat → Option je_E} {sz : Nat} {F : Nat} {d : Nat} {rc : Nat → kp_K → Option kp_K} {r9 : kp_K} (C : Cx p s m args meth c G "MinistryDesksModel" cX6_primary 2 none) (hrc : hX6 l G dyn sz d rc) (κ : kp_K) (v1 : Int32) (h : bX6_primary_137 F rc κ v1 = some r9) : Js p l e ({ frames := (7 + (d + 1)), cells := 0, slots := 0, locals := (149 + (d + 1) * 21) } : Room) s m args below meth c G 2 (MQ below (je_Q G none (en2 G r9 dyn) sz) args s 0 0 (je_A G)) (en2 G κ dyn) sz 0 0 137 [(0, .ref (G.2.1 + 66)), (1, .int v1)] [] := by
  unfold bX6_primary_137 at h
  refine je_iload_n C dX6_primary_137 138 rfl 1 rfl ?_
  refine je_if_ne C 162 dX6_primary_138 141 rfl rfl h (fun h => ?_) (fun h => ?_)
  · exact wX6_primary_162 C hrc κ v1 h
  refine je_aload_n C dX6_primary_141 142 rfl 0 rfl ?_
  refine gX6_185 C dX6_primary_142 145 rfl ?_
  refine je_if_ne C 157 dX6_primary_145 148 rfl rfl h (fun h => ?_) (fun h => ?_)
  · exact wX6_primary_157 C hrc κ v1 h
  refine je_aload_n C dX6_primary_148 149 rfl 0 rfl ?_
  refine gX6_195 C dX6_primary_149 152 rfl ?_
  refine je_bipush C (14) dX6_primary_152 154 rfl bp_14 ?_
  refine je_icmp_ge C 162 dX6_primary_154 157 rfl rfl h (fun h => ?_) (fun h => ?_)
  · exact wX6_primary_162 C hrc κ v1 h
  exact wX6_primary_157 C hrc κ v1 h
set_option maxHeartbeats 4000000 in
theorem wX6_primary_114 {p : Program} {l : Launch} {e : Env} {s : State} {m : MethodId} {args : Array Value} {below : List Frame} {meth : Method} {c : Code} {G : je_G} {dyn : Nat → Option je_E} {sz : Nat} {F : Nat} {d : Nat} {rc : Nat → kp_K → Option kp_K} {r9 : kp_K} (C : Cx p s m args meth c G "MinistryDesksModel" cX6_primary 2 none) (hrc : hX6 l G dyn sz d rc) (κ : kp_K) (s0 : Int32) (h : bX6_primary_114 F rc κ s0 = some r9) : Js p l e ({ frames := (7 + (d + 1)), cells := 0, slots := 0, locals := (149 + (d + 1) * 21) } : Room) s m args below meth c G 2 (MQ below (je_Q G none (en2 G r9 dyn) sz) args s 0 0 (je_A G)) (en2 G κ dyn) sz 0 0 114 [(0, .ref (G.2.1 + 66))] [.int s0] := by
  unfold bX6_primary_114 at h
  refine je_istore_n C dX6_primary_114 115 rfl (Nat.le_of_ble_eq_true rfl) [(1, .int s0), (0, .ref (G.2.1 + 66))] rfl ?_
  refine je_iload_n C dX6_primary_115 116 rfl 0 rfl ?_
  refine je_if_eq C 137 dX6_primary_116 119 rfl rfl h (fun h => ?_) (fun h => ?_)
  · refine je_sub [1, 0] [(0, .ref (G.2.1 + 66)), (1, .int s0)] rfl ?_
    exact wX6_primary_137 C hrc κ s0 h
  refine je_aload_n C dX6_primary_119 120 rfl 1 rfl ?_
  refine gX6_195 C dX6_primary_120 123 rfl ?_
  refine je_sipush C (9999) dX6_primary_123 126 rfl sp_9999 ?_
  refine je_icmp_le C 137 dX6_primary_126 129 rfl rfl h (fun h => ?_) (fun h => ?_)
  · refine je_sub [1, 0] [(0, .ref (G.2.1 + 66)), (1, .int s0)] rfl ?_
    exact wX6_primary_137 C hrc κ s0 h
  refine je_aload_n C dX6_primary_129 130 rfl 1 rfl ?_
  refine je_iconst C (2) dX6_primary_130 131 rfl ic_2 ?_
  obtain ⟨k131, hg, h⟩ := p_cl_inv h
  refine je_callVv (As := [.int (2 : Int32)]) (rest := []) C (metX6_wrong hg) (en2_at kd66) rfl hdX6_wrong rfl cwX6_228 rfl ⟨(show 0 + 1 ≤ 7 + (d + 1) from by omega), (show 8 + (2 + 11) + 0 ≤ 149 + (d + 1) * 21 from by omega)⟩ (Nat.le_of_ble_eq_true rfl) dX6_primary_131 134 rfl ⟨Nat.le_refl _, Nat.le_refl _⟩ ?_
  refine je_goto C 162 dX6_primary_134 rfl ?_
  refine je_sub [1, 0] [(0, .ref (G.2.1 + 66)), (1, .int s0)] rfl ?_
  exact wX6_primary_162 C hrc k131 s0 h
set_option maxHeartbeats 4000000 in
theorem wX6_primary_78 {p : Program} {l : Launch} {e : Env} {s : State} {m : MethodId} {args : Array Value} {below : List Frame} {meth : Method} {c : Code} {G : je_G} {dyn : Nat → Option je_E} {sz : Nat} {F : Nat} {d : Nat} {rc : Nat → kp_K → Option kp_K} {r9 : kp_K} (C : Cx p s m args meth c G "MinistryDesksModel" cX6_primary 2 none) (hrc : hX6 l G dyn sz d rc) (κ : kp_K) (h : bX6_primary_78 F rc κ = some r9) : Js p l e ({ frames := (7 + (d + 1)), cells := 0, slots := 0, locals := (149 + (d + 1) * 21) } : Room) s m args below meth c G 2 (MQ below (je_Q G none (en2 G r9 dyn) sz) args s 0 0 (je_A G)) (en2 G κ dyn) sz 0 0 78 [(0, .ref (G.2.1 + 66))] [] := by
  unfold bX6_primary_78 at h
  refine je_aload_n C dX6_primary_78 79 rfl 0 rfl ?_
  refine gX6_219 C dX6_primary_79 82 rfl ?_
  refine je_if_eq C 86 dX6_primary_82 85 rfl rfl h (fun h => ?_) (fun h => ?_)
  · refine je_aload_n C dX6_primary_86 87 rfl 0 rfl ?_
    refine je_dup C dX6_primary_87 88 rfl rfl ?_
    refine gX6_320 C dX6_primary_88 91 rfl ?_
    refine je_iconst C (1) dX6_primary_91 92 rfl ic_1 ?_
    refine je_isub C dX6_primary_92 93 rfl ?_
    refine sX6_320 C dX6_primary_93 96 rfl ?_
    refine jk_lt h (fun k93 h => ?_)
    refine je_aload_n C dX6_primary_96 97 rfl 0 rfl ?_
    obtain ⟨k97, hg, h⟩ := p_cl_inv h
    refine je_callVv (As := []) (rest := []) C (metX6_token hg) (en2_at kd66) rfl hdX6_token rfl cwX6_225 rfl ⟨(show 5 + 1 ≤ 7 + (d + 1) from by omega), (show 8 + (2 + 11) + 108 ≤ 149 + (d + 1) * 21 from by omega)⟩ (Nat.le_of_ble_eq_true rfl) dX6_primary_97 100 rfl ⟨Nat.le_refl _, Nat.le_refl _⟩ ?_
    cases h
    exact je_vret C dX6_primary_100
  cases h
  exact je_vret C dX6_primary_85
set_option maxHeartbeats 4000000 in
theorem wX6_primary_31 {p : Program} {l : Launch} {e : Env} {s : State} {m : MethodId} {args : Array Value} {below : List Frame} {meth : Method} {c : Code} {G : je_G} {dyn : Nat → Option je_E} {sz : Nat} {F : Nat} {d : Nat} {rc : Nat → kp_K → Option kp_K} {r9 : kp_K} (C : Cx p s m args meth c G "MinistryDesksModel" cX6_primary 2 none) (hrc : hX6 l G dyn sz d rc) (κ : kp_K) (h : bX6_primary_31 F rc κ = some r9) : Js p l e ({ frames := (7 + (d + 1)), cells := 0, slots := 0, locals := (149 + (d + 1) * 21) } : Room) s m args below meth c G 2 (MQ below (je_Q G none (en2 G r9 dyn) sz) args s 0 0 (je_A G)) (en2 G κ dyn) sz 0 0 31 [(0, .ref (G.2.1 + 66))] [] := by
  unfold bX6_primary_31 at h
  refine je_aload_n C dX6_primary_31 32 rfl 0 rfl ?_
  refine gX6_219 C dX6_primary_32 35 rfl ?_
  refine je_if_eq C 39 dX6_primary_35 38 rfl rfl h (fun h => ?_) (fun h => ?_)
  · refine je_aload_n C dX6_primary_39 40 rfl 0 rfl ?_
    refine je_dup C dX6_primary_40 41 rfl rfl ?_
    refine gX6_320 C dX6_primary_41 44 rfl ?_
    refine je_iconst C (1) dX6_primary_44 45 rfl ic_1 ?_
    refine je_iadd C dX6_primary_45 46 rfl ?_
    refine sX6_320 C dX6_primary_46 49 rfl ?_
    refine jk_lt h (fun k46 h => ?_)
    refine je_aload_n C dX6_primary_49 50 rfl 0 rfl ?_
    obtain ⟨k50, hg, h⟩ := p_cl_inv h
    refine je_callVv (As := []) (rest := []) C (metX6_token hg) (en2_at kd66) rfl hdX6_token rfl cwX6_225 rfl ⟨(show 5 + 1 ≤ 7 + (d + 1) from by omega), (show 8 + (2 + 11) + 108 ≤ 149 + (d + 1) * 21 from by omega)⟩ (Nat.le_of_ble_eq_true rfl) dX6_primary_50 53 rfl ⟨Nat.le_refl _, Nat.le_refl _⟩ ?_
    refine je_aload_n C dX6_primary_53 54 rfl 0 rfl ?_
    obtain ⟨k54, hg, h⟩ := p_cl_inv h
    refine je_callVv (As := []) (rest := []) C ((hrc _ _).1 hg) (en2_at kd66) rfl hdX6_expression rfl cwX6_277 rfl ⟨Nat.le_refl _, (show 8 + (1 + 11) + (149 + d * 21) ≤ 149 + (d + 1) * 21 from by omega)⟩ (Nat.le_of_ble_eq_true rfl) dX6_primary_54 57 rfl ⟨Nat.le_refl _, Nat.le_refl _⟩ ?_
    refine je_aload_n C dX6_primary_57 58 rfl 0 rfl ?_
    refine gX6_219 C dX6_primary_58 61 rfl ?_
    refine je_if_ne C 78 dX6_primary_61 64 rfl rfl h (fun h => ?_) (fun h => ?_)
    · exact wX6_primary_78 C hrc k54 h
    refine je_aload_n C dX6_primary_64 65 rfl 0 rfl ?_
    refine je_bipush C (41) dX6_primary_65 67 rfl bp_41 ?_
    obtain ⟨t67, hg, h⟩ := p_cl_inv h
    refine je_callVi (As := [.int (41 : Int32)]) (rest := []) C (metX6_isSign hg) (en2_at kd66) rfl hdX6_isSign rfl cwX6_280 rfl ⟨(show 0 + 1 ≤ 7 + (d + 1) from by omega), (show 8 + (2 + 11) + 0 ≤ 149 + (d + 1) * 21 from by omega)⟩ (Nat.le_of_ble_eq_true rfl) dX6_primary_67 70 rfl ⟨Nat.le_refl _, Nat.le_refl _⟩ ?_
    refine je_if_ne C 78 dX6_primary_70 73 rfl rfl h (fun h => ?_) (fun h => ?_)
    · exact wX6_primary_78 C hrc k54 h
    refine je_aload_n C dX6_primary_73 74 rfl 0 rfl ?_
    refine je_iconst C (1) dX6_primary_74 75 rfl ic_1 ?_
    obtain ⟨k75, hg, h⟩ := p_cl_inv h
    refine je_callVv (As := [.int (1 : Int32)]) (rest := []) C (metX6_wrong hg) (en2_at kd66) rfl hdX6_wrong rfl cwX6_228 rfl ⟨(show 0 + 1 ≤ 7 + (d + 1) from by omega), (show 8 + (2 + 11) + 0 ≤ 149 + (d + 1) * 21 from by omega)⟩ (Nat.le_of_ble_eq_true rfl) dX6_primary_75 78 rfl ⟨Nat.le_refl _, Nat.le_refl _⟩ ?_
    exact wX6_primary_78 C hrc k75 h
  cases h
  exact je_vret C dX6_primary_38
set_option maxHeartbeats 4000000 in
theorem metX6_primary {l : Launch} {G : je_G} {dyn : Nat → Option je_E} {sz : Nat} {F : Nat} {d : Nat} {rc : Nat → kp_K → Option kp_K} {κ : kp_K}  {r9 : kp_K} (hrc : hX6 l G dyn sz d rc) (h : pX6_primary F rc κ = some r9) : MetS l G yX6_primary cX6_primary 2 none (7 + (d + 1)) (149 + (d + 1) * 21) 0 0 [.ref (G.2.1 + 66)] (en2 G κ dyn) sz none (en2 G r9 dyn) sz := by
  refine je_met "MinistryDesksModel" rfl (by decide +kernel) (Nat.le_of_ble_eq_true rfl) [(0, .ref (G.2.1 + 66))] rfl (fun p e s m args below meth c C => ?_)
  unfold pX6_primary at h
  refine je_aload_n C dX6_primary_0 1 rfl 0 rfl ?_
  refine gX6_219 C dX6_primary_1 4 rfl ?_
  refine je_if_eq C 8 dX6_primary_4 7 rfl rfl h (fun h => ?_) (fun h => ?_)
  · refine je_aload_n C dX6_primary_8 9 rfl 0 rfl ?_
    refine je_bipush C (40) dX6_primary_9 11 rfl bp_40 ?_
    obtain ⟨t11, hg, h⟩ := p_cl_inv h
    refine je_callVi (As := [.int (40 : Int32)]) (rest := []) C (metX6_isSign hg) (en2_at kd66) rfl hdX6_isSign rfl cwX6_280 rfl ⟨(show 0 + 1 ≤ 7 + (d + 1) from by omega), (show 8 + (2 + 11) + 0 ≤ 149 + (d + 1) * 21 from by omega)⟩ (Nat.le_of_ble_eq_true rfl) dX6_primary_11 14 rfl ⟨Nat.le_refl _, Nat.le_refl _⟩ ?_
    refine je_if_eq C 101 dX6_primary_14 17 rfl rfl h (fun h => ?_) (fun h => ?_)
    · refine je_aload_n C dX6_primary_101 102 rfl 0 rfl ?_
      refine gX6_185 C dX6_primary_102 105 rfl ?_
      refine je_iconst C (2) dX6_primary_105 106 rfl ic_2 ?_
      refine je_icmp_ne C 113 dX6_primary_106 109 rfl rfl h (fun h => ?_) (fun h => ?_)
      · refine je_iconst C (0) dX6_primary_113 114 rfl ic_0 ?_
        exact wX6_primary_114 C hrc κ (0 : Int32) h
      refine je_iconst C (1) dX6_primary_109 110 rfl ic_1 ?_
      refine je_goto C 114 dX6_primary_110 rfl ?_
      exact wX6_primary_114 C hrc κ (1 : Int32) h
    refine je_aload_n C dX6_primary_17 18 rfl 0 rfl ?_
    refine gX6_320 C dX6_primary_18 21 rfl ?_
    refine je_bipush C (8) dX6_primary_21 23 rfl bp_8 ?_
    refine je_icmp_ne C 31 dX6_primary_23 26 rfl rfl h (fun h => ?_) (fun h => ?_)
    · exact wX6_primary_31 C hrc κ h
    refine je_aload_n C dX6_primary_26 27 rfl 0 rfl ?_
    refine je_iconst C (2) dX6_primary_27 28 rfl ic_2 ?_
    obtain ⟨k28, hg, h⟩ := p_cl_inv h
    refine je_callVv (As := [.int (2 : Int32)]) (rest := []) C (metX6_wrong hg) (en2_at kd66) rfl hdX6_wrong rfl cwX6_228 rfl ⟨(show 0 + 1 ≤ 7 + (d + 1) from by omega), (show 8 + (2 + 11) + 0 ≤ 149 + (d + 1) * 21 from by omega)⟩ (Nat.le_of_ble_eq_true rfl) dX6_primary_28 31 rfl ⟨Nat.le_refl _, Nat.le_refl _⟩ ?_
    exact wX6_primary_31 C hrc k28 h
  cases h
  exact je_vret C dX6_primary_7
theorem met_gdX6 {l : Launch} {G : je_G} {dyn : Nat → Option je_E} {sz : Nat} (F : Nat) : ∀ d, hX6 l G dyn sz d (gX6 F d)
  | 0 => fun κ κ2 => ⟨(fun h => by cases h), (fun h => by cases h), (fun h => by cases h), (fun h => by cases h), (fun h => by cases h), (fun h => by cases h)⟩
  | d + 1 => fun κ κ2 => ⟨fun h => metX6_expression (d := d) (met_gdX6 F d) h, fun h => metX6_conjunction (d := d) (met_gdX6 F d) h, fun h => metX6_negation (d := d) (met_gdX6 F d) h, fun h => metX6_sum (d := d) (met_gdX6 F d) h, fun h => metX6_product (d := d) (met_gdX6 F d) h, fun h => metX6_primary (d := d) (met_gdX6 F d) h⟩
theorem met_gX6 {l : Launch} {G : je_G} {dyn : Nat → Option je_E} {sz : Nat} (F : Nat) : hX6 l G dyn sz DG (gX6 F DG) := met_gdX6 F DG
theorem bp_9 : (Int8.ofInt (9)).toInt32 = (9 : Int32) := by decide +kernel
theorem gX6_249 {p : Program} {l : Launch} {e : Env} {R : Room} {s : State} {m : MethodId} {args : Array Value} {below : List Frame} {meth : Method} {c : Code} {Q : State → Prop} {G : je_G} {cc : ByteArray} {nL : Nat} {rt : Option FieldType} {sz cells slots pc : Nat} {L : List (Nat × Value)} {st : List Value} {κ : kp_K} {dyn : Nat → Option je_E} (C : Cx p s m args meth c G "MinistryDesksModel" cc nL rt) (d : decode cc pc = .ok (.getfield 249, 3)) (n : Nat) (hn : pc + 3 = n) (kk : Js p l e R s m args below meth c G nL Q (en2 G κ dyn) sz cells slots n L (.int (κ.1 66 24) :: st)) : Js p l e R s m args below meth c G nL Q (en2 G κ dyn) sz cells slots pc L (.ref (G.2.1 + 66) :: st) := jk_getI (k := 24) C kd66 rfl in_X6 rfl (by decide) q1704 rfl d n hn kk
theorem gX6_64 {p : Program} {l : Launch} {e : Env} {R : Room} {s : State} {m : MethodId} {args : Array Value} {below : List Frame} {meth : Method} {c : Code} {Q : State → Prop} {G : je_G} {cc : ByteArray} {nL : Nat} {rt : Option FieldType} {sz cells slots pc : Nat} {L : List (Nat × Value)} {st : List Value} {κ : kp_K} {dyn : Nat → Option je_E} (C : Cx p s m args meth c G "MinistryDesksModel" cc nL rt) (d : decode cc pc = .ok (.getfield 64, 3)) (n : Nat) (hn : pc + 3 = n) (kk : Js p l e R s m args below meth c G nL Q (en2 G κ dyn) sz cells slots n L (.ref (G.2.1 + 85) :: st)) : Js p l e R s m args below meth c G nL Q (en2 G κ dyn) sz cells slots pc L (.ref (G.2.1 + 66) :: st) := jk_getR (k := 20) (z := 0) C kd66 rfl in_X6 85 rfl (by decide) q1700 rfl d n hn kk
theorem gX6_67 {p : Program} {l : Launch} {e : Env} {R : Room} {s : State} {m : MethodId} {args : Array Value} {below : List Frame} {meth : Method} {c : Code} {Q : State → Prop} {G : je_G} {cc : ByteArray} {nL : Nat} {rt : Option FieldType} {sz cells slots pc : Nat} {L : List (Nat × Value)} {st : List Value} {κ : kp_K} {dyn : Nat → Option je_E} (C : Cx p s m args meth c G "MinistryDesksModel" cc nL rt) (d : decode cc pc = .ok (.getfield 67, 3)) (n : Nat) (hn : pc + 3 = n) (kk : Js p l e R s m args below meth c G nL Q (en2 G κ dyn) sz cells slots n L (.ref (G.2.1 + 86) :: st)) : Js p l e R s m args below meth c G nL Q (en2 G κ dyn) sz cells slots pc L (.ref (G.2.1 + 66) :: st) := jk_getR (k := 21) (z := 0) C kd66 rfl in_X6 86 rfl (by decide) q1701 rfl d n hn kk
theorem sX6_249 {p : Program} {l : Launch} {e : Env} {R : Room} {s : State} {m : MethodId} {args : Array Value} {below : List Frame} {meth : Method} {c : Code} {Q : State → Prop} {G : je_G} {cc : ByteArray} {nL : Nat} {rt : Option FieldType} {sz cells slots pc : Nat} {L : List (Nat × Value)} {st : List Value} {κ : kp_K} {dyn : Nat → Option je_E} (C : Cx p s m args meth c G "MinistryDesksModel" cc nL rt) {v : Int32} (d : decode cc pc = .ok (.putfield 249, 3)) (n : Nat) (hn : pc + 3 = n) (kk : Js p l e R s m args below meth c G nL Q (en2 G (s_i κ 66 24 v) dyn) sz cells slots n L st) : Js p l e R s m args below meth c G nL Q (en2 G κ dyn) sz cells slots pc L (.int v :: .ref (G.2.1 + 66) :: st) := jk_putI (k := 24) C kd66 rfl in_X6 tyX6 tyX6_ok nmX6 rfl (by decide) q1704 rfl rfl rfl d n hn kk
set_option maxHeartbeats 4000000 in
theorem wX6_lawLine_64 {p : Program} {l : Launch} {e : Env} {s : State} {m : MethodId} {args : Array Value} {below : List Frame} {meth : Method} {c : Code} {G : je_G} {dyn : Nat → Option je_E} {sz : Nat} {F : Nat} {r9 : kp_K} (C : Cx p s m args meth c G "MinistryDesksModel" cX6_lawLine 2 none) (κ : kp_K) (v1 : Int32) (h : bX6_lawLine_64 F κ v1 = some r9) : Js p l e ({ frames := 708, cells := 0, slots := 0, locals := 14869 } : Room) s m args below meth c G 2 (MQ below (je_Q G none (en2 G r9 dyn) sz) args s 0 0 (je_A G)) (en2 G κ dyn) sz 0 0 64 [(0, .ref (G.2.1 + 66)), (1, .int v1)] [] := by
  unfold bX6_lawLine_64 at h
  refine je_aload_n C dX6_lawLine_64 65 rfl 0 rfl ?_
  refine gX6_219 C dX6_lawLine_65 68 rfl ?_
  refine je_if_eq C 72 dX6_lawLine_68 71 rfl rfl h (fun h => ?_) (fun h => ?_)
  · refine je_aload_n C dX6_lawLine_72 73 rfl 0 rfl ?_
    refine je_dup C dX6_lawLine_73 74 rfl rfl ?_
    refine gX6_249 C dX6_lawLine_74 77 rfl ?_
    refine je_iconst C (2) dX6_lawLine_77 78 rfl ic_2 ?_
    refine je_iload_n C dX6_lawLine_78 79 rfl 1 rfl ?_
    refine je_ishl C dX6_lawLine_79 80 rfl ?_
    refine je_ior C dX6_lawLine_80 81 rfl ?_
    refine sX6_249 C dX6_lawLine_81 84 rfl ?_
    refine jk_lt h (fun k81 h => ?_)
    refine je_aload_n C dX6_lawLine_84 85 rfl 0 rfl ?_
    obtain ⟨k85, hg, h⟩ := p_cl_inv h
    refine je_callVv (As := []) (rest := []) C (metX6_token hg) (en2_at kd66) rfl hdX6_token rfl cwX6_225 rfl ⟨Nat.le_of_ble_eq_true rfl, Nat.le_of_ble_eq_true rfl⟩ (Nat.le_of_ble_eq_true rfl) dX6_lawLine_85 88 rfl ⟨Nat.le_refl _, Nat.le_refl _⟩ ?_
    refine je_aload_n C dX6_lawLine_88 89 rfl 0 rfl ?_
    refine gX6_64 C dX6_lawLine_89 92 rfl ?_
    refine je_bipush C (6) dX6_lawLine_92 94 rfl bp_6 ?_
    refine je_iload_n C dX6_lawLine_94 95 rfl 1 rfl ?_
    refine je_iadd C dX6_lawLine_95 96 rfl ?_
    refine je_aload_n C dX6_lawLine_96 97 rfl 0 rfl ?_
    refine je_bipush C (7) dX6_lawLine_97 99 rfl bp_7 ?_
    obtain ⟨t99, hg, h⟩ := p_cl_inv h
    refine je_callVi (As := [.int (7 : Int32)]) (rest := [.int ((6 : Int32) + v1), .ref (G.2.1 + 85)]) C (metX6_fresher hg) (en2_at kd66) rfl hdX6_fresher rfl cwX6_242 rfl ⟨Nat.le_of_ble_eq_true rfl, Nat.le_of_ble_eq_true rfl⟩ (Nat.le_of_ble_eq_true rfl) dX6_lawLine_99 102 rfl ⟨Nat.le_refl _, Nat.le_refl _⟩ ?_
    refine jk_iast C kd85 dX6_lawLine_102 103 rfl h (fun h => ?_)
    refine jk_lt h (fun k102 h => ?_)
    refine je_aload_n C dX6_lawLine_103 104 rfl 0 rfl ?_
    obtain ⟨k104, hg, h⟩ := p_cl_inv h
    refine je_callVv (As := []) (rest := []) C ((met_gX6 F _ _).1 hg) (en2_at kd66) rfl hdX6_expression rfl cwX6_277 rfl ⟨Nat.le_of_ble_eq_true rfl, Nat.le_of_ble_eq_true rfl⟩ (Nat.le_of_ble_eq_true rfl) dX6_lawLine_104 107 rfl ⟨Nat.le_refl _, Nat.le_refl _⟩ ?_
    refine je_aload_n C dX6_lawLine_107 108 rfl 0 rfl ?_
    refine gX6_67 C dX6_lawLine_108 111 rfl ?_
    refine je_bipush C (6) dX6_lawLine_111 113 rfl bp_6 ?_
    refine je_iload_n C dX6_lawLine_113 114 rfl 1 rfl ?_
    refine je_iadd C dX6_lawLine_114 115 rfl ?_
    refine je_aload_n C dX6_lawLine_115 116 rfl 0 rfl ?_
    refine je_bipush C (7) dX6_lawLine_116 118 rfl bp_7 ?_
    obtain ⟨t118, hg, h⟩ := p_cl_inv h
    refine je_callVi (As := [.int (7 : Int32)]) (rest := [.int ((6 : Int32) + v1), .ref (G.2.1 + 86)]) C (metX6_fresher hg) (en2_at kd66) rfl hdX6_fresher rfl cwX6_242 rfl ⟨Nat.le_of_ble_eq_true rfl, Nat.le_of_ble_eq_true rfl⟩ (Nat.le_of_ble_eq_true rfl) dX6_lawLine_118 121 rfl ⟨Nat.le_refl _, Nat.le_refl _⟩ ?_
    refine jk_iast C kd86 dX6_lawLine_121 122 rfl h (fun h => ?_)
    refine jk_lt h (fun k121 h => ?_)
    cases h
    exact je_vret C dX6_lawLine_122
  cases h
  exact je_vret C dX6_lawLine_71
set_option maxHeartbeats 4000000 in
theorem wX6_lawLine_30 {p : Program} {l : Launch} {e : Env} {s : State} {m : MethodId} {args : Array Value} {below : List Frame} {meth : Method} {c : Code} {G : je_G} {dyn : Nat → Option je_E} {sz : Nat} {F : Nat} {r9 : kp_K} (C : Cx p s m args meth c G "MinistryDesksModel" cX6_lawLine 2 none) (κ : kp_K) (h : bX6_lawLine_30 F κ = some r9) : Js p l e ({ frames := 708, cells := 0, slots := 0, locals := 14869 } : Room) s m args below meth c G 2 (MQ below (je_Q G none (en2 G r9 dyn) sz) args s 0 0 (je_A G)) (en2 G κ dyn) sz 0 0 30 [(0, .ref (G.2.1 + 66))] [] := by
  unfold bX6_lawLine_30 at h
  refine je_aload_n C dX6_lawLine_30 31 rfl 0 rfl ?_
  refine gX6_195 C dX6_lawLine_31 34 rfl ?_
  refine je_bipush C (9) dX6_lawLine_34 36 rfl bp_9 ?_
  refine je_isub C dX6_lawLine_36 37 rfl ?_
  refine je_lti h (fun t37 h => ?_)
  refine je_istore_n C dX6_lawLine_37 38 rfl (Nat.le_of_ble_eq_true rfl) [(1, .int t37), (0, .ref (G.2.1 + 66))] rfl ?_
  refine je_aload_n C dX6_lawLine_38 39 rfl 1 rfl ?_
  refine gX6_219 C dX6_lawLine_39 42 rfl ?_
  refine je_if_ne C 64 dX6_lawLine_42 45 rfl rfl h (fun h => ?_) (fun h => ?_)
  · refine je_sub [1, 0] [(0, .ref (G.2.1 + 66)), (1, .int t37)] rfl ?_
    exact wX6_lawLine_64 C κ t37 h
  refine je_aload_n C dX6_lawLine_45 46 rfl 1 rfl ?_
  refine gX6_249 C dX6_lawLine_46 49 rfl ?_
  refine je_iconst C (1) dX6_lawLine_49 50 rfl ic_1 ?_
  refine je_iload_n C dX6_lawLine_50 51 rfl 0 rfl ?_
  refine je_iadd C dX6_lawLine_51 52 rfl ?_
  refine je_ishr C dX6_lawLine_52 53 rfl ?_
  refine je_iconst C (1) dX6_lawLine_53 54 rfl ic_1 ?_
  refine je_iand C dX6_lawLine_54 55 rfl ?_
  refine je_iconst C (1) dX6_lawLine_55 56 rfl ic_1 ?_
  refine je_icmp_ne C 64 dX6_lawLine_56 59 rfl rfl h (fun h => ?_) (fun h => ?_)
  · refine je_sub [1, 0] [(0, .ref (G.2.1 + 66)), (1, .int t37)] rfl ?_
    exact wX6_lawLine_64 C κ t37 h
  refine je_aload_n C dX6_lawLine_59 60 rfl 1 rfl ?_
  refine je_iconst C (3) dX6_lawLine_60 61 rfl ic_3 ?_
  obtain ⟨k61, hg, h⟩ := p_cl_inv h
  refine je_callVv (As := [.int (3 : Int32)]) (rest := []) C (metX6_wrong hg) (en2_at kd66) rfl hdX6_wrong rfl cwX6_228 rfl ⟨Nat.le_of_ble_eq_true rfl, Nat.le_of_ble_eq_true rfl⟩ (Nat.le_of_ble_eq_true rfl) dX6_lawLine_61 64 rfl ⟨Nat.le_refl _, Nat.le_refl _⟩ ?_
  refine je_sub [1, 0] [(0, .ref (G.2.1 + 66)), (1, .int t37)] rfl ?_
  exact wX6_lawLine_64 C k61 t37 h
set_option maxHeartbeats 4000000 in
theorem wX6_lawLine_25 {p : Program} {l : Launch} {e : Env} {s : State} {m : MethodId} {args : Array Value} {below : List Frame} {meth : Method} {c : Code} {G : je_G} {dyn : Nat → Option je_E} {sz : Nat} {F : Nat} {r9 : kp_K} (C : Cx p s m args meth c G "MinistryDesksModel" cX6_lawLine 2 none) (κ : kp_K) (h : bX6_lawLine_25 F κ = some r9) : Js p l e ({ frames := 708, cells := 0, slots := 0, locals := 14869 } : Room) s m args below meth c G 2 (MQ below (je_Q G none (en2 G r9 dyn) sz) args s 0 0 (je_A G)) (en2 G κ dyn) sz 0 0 25 [(0, .ref (G.2.1 + 66))] [] := by
  unfold bX6_lawLine_25 at h
  refine je_aload_n C dX6_lawLine_25 26 rfl 0 rfl ?_
  refine je_iconst C (1) dX6_lawLine_26 27 rfl ic_1 ?_
  obtain ⟨k27, hg, h⟩ := p_cl_inv h
  refine je_callVv (As := [.int (1 : Int32)]) (rest := []) C (metX6_wrong hg) (en2_at kd66) rfl hdX6_wrong rfl cwX6_228 rfl ⟨Nat.le_of_ble_eq_true rfl, Nat.le_of_ble_eq_true rfl⟩ (Nat.le_of_ble_eq_true rfl) dX6_lawLine_27 30 rfl ⟨Nat.le_refl _, Nat.le_refl _⟩ ?_
  exact wX6_lawLine_30 C k27 h
set_option maxHeartbeats 4000000 in
theorem metX6_lawLine {l : Launch} {G : je_G} {dyn : Nat → Option je_E} {sz : Nat} {F : Nat} {κ : kp_K}  {r9 : kp_K} (h : pX6_lawLine F κ = some r9) : MetS l G yX6_lawLine cX6_lawLine 2 none 708 14869 0 0 [.ref (G.2.1 + 66)] (en2 G κ dyn) sz none (en2 G r9 dyn) sz := by
  refine je_met "MinistryDesksModel" rfl (by decide +kernel) (Nat.le_of_ble_eq_true rfl) [(0, .ref (G.2.1 + 66))] rfl (fun p e s m args below meth c C => ?_)
  unfold pX6_lawLine at h
  refine je_aload_n C dX6_lawLine_0 1 rfl 0 rfl ?_
  refine gX6_185 C dX6_lawLine_1 4 rfl ?_
  refine je_if_ne C 25 dX6_lawLine_4 7 rfl rfl h (fun h => ?_) (fun h => ?_)
  · exact wX6_lawLine_25 C κ h
  refine je_aload_n C dX6_lawLine_7 8 rfl 0 rfl ?_
  refine gX6_195 C dX6_lawLine_8 11 rfl ?_
  refine je_bipush C (9) dX6_lawLine_11 13 rfl bp_9 ?_
  refine je_icmp_eq C 30 dX6_lawLine_13 16 rfl rfl h (fun h => ?_) (fun h => ?_)
  · exact wX6_lawLine_30 C κ h
  refine je_aload_n C dX6_lawLine_16 17 rfl 0 rfl ?_
  refine gX6_195 C dX6_lawLine_17 20 rfl ?_
  refine je_bipush C (10) dX6_lawLine_20 22 rfl bp_10 ?_
  refine je_icmp_eq C 30 dX6_lawLine_22 25 rfl rfl h (fun h => ?_) (fun h => ?_)
  · exact wX6_lawLine_30 C κ h
  exact wX6_lawLine_25 C κ h
theorem sp_999 : (Int16.ofInt (999)).toInt32 = (999 : Int32) := by decide +kernel
theorem hdX6_asksLine : je_hd yX6_asksLine 0 := ⟨by decide +kernel, by decide +kernel, by decide +kernel⟩
theorem hdX6_comesLine : je_hd yX6_comesLine 1 := ⟨by decide +kernel, by decide +kernel, by decide +kernel⟩
theorem hdX6_fresh : je_hd yX6_fresh 3 := ⟨by decide +kernel, by decide +kernel, by decide +kernel⟩
theorem hdX6_isFull : je_hd yX6_isFull 1 := ⟨by decide +kernel, by decide +kernel, by decide +kernel⟩
theorem hdX6_lawLine : je_hd yX6_lawLine 0 := ⟨by decide +kernel, by decide +kernel, by decide +kernel⟩
theorem hdX6_questionLine : je_hd yX6_questionLine 1 := ⟨by decide +kernel, by decide +kernel, by decide +kernel⟩
theorem cwX6_246 : GoodIn lw_all (wsV "MinistryDesksModel" 246 "MinistryDesksModel" yX6_isFull (ws_ yX6_isFull cX6_isFull 2 (some .boolean))) := lw_V q1958 q1960 qs85 q169 q1961
theorem cwX6_252 : GoodIn lw_all (wsV "MinistryDesksModel" 252 "MinistryDesksModel" yX6_fresh (ws_ yX6_fresh cX6_fresh 5 (some .int))) := lw_V q1966 q1968 qs87 q169 q1969
theorem cwX6_262 : GoodIn lw_all (wsV "MinistryDesksModel" 262 "MinistryDesksModel" yX6_asksLine (ws_ yX6_asksLine cX6_asksLine 3 none)) := lw_V q1981 q1983 qs90 q169 q1984
theorem cwX6_265 : GoodIn lw_all (wsV "MinistryDesksModel" 265 "MinistryDesksModel" yX6_comesLine (ws_ yX6_comesLine cX6_comesLine 2 none)) := lw_V q1993 q1995 qs93 q169 q1996
theorem cwX6_268 : GoodIn lw_all (wsV "MinistryDesksModel" 268 "MinistryDesksModel" yX6_questionLine (ws_ yX6_questionLine cX6_questionLine 2 none)) := lw_V q2009 q2011 qs97 q169 q2012
theorem cwX6_274 : GoodIn lw_all (wsV "MinistryDesksModel" 274 "MinistryDesksModel" yX6_lawLine (ws_ yX6_lawLine cX6_lawLine 2 none)) := lw_V q2013 q2015 qs98 q169 q2016
theorem gX6_19 {p : Program} {l : Launch} {e : Env} {R : Room} {s : State} {m : MethodId} {args : Array Value} {below : List Frame} {meth : Method} {c : Code} {Q : State → Prop} {G : je_G} {cc : ByteArray} {nL : Nat} {rt : Option FieldType} {sz cells slots pc : Nat} {L : List (Nat × Value)} {st : List Value} {κ : kp_K} {dyn : Nat → Option je_E} (C : Cx p s m args meth c G "MinistryDesksModel" cc nL rt) (d : decode cc pc = .ok (.getfield 19, 3)) (n : Nat) (hn : pc + 3 = n) (kk : Js p l e R s m args below meth c G nL Q (en2 G κ dyn) sz cells slots n L (.ref (G.2.1 + 70) :: st)) : Js p l e R s m args below meth c G nL Q (en2 G κ dyn) sz cells slots pc L (.ref (G.2.1 + 66) :: st) := jk_getR (k := 5) (z := 0) C kd66 rfl in_X6 70 rfl (by decide) q1685 rfl d n hn kk
theorem gX6_28 {p : Program} {l : Launch} {e : Env} {R : Room} {s : State} {m : MethodId} {args : Array Value} {below : List Frame} {meth : Method} {c : Code} {Q : State → Prop} {G : je_G} {cc : ByteArray} {nL : Nat} {rt : Option FieldType} {sz cells slots pc : Nat} {L : List (Nat × Value)} {st : List Value} {κ : kp_K} {dyn : Nat → Option je_E} (C : Cx p s m args meth c G "MinistryDesksModel" cc nL rt) (d : decode cc pc = .ok (.getfield 28, 3)) (n : Nat) (hn : pc + 3 = n) (kk : Js p l e R s m args below meth c G nL Q (en2 G κ dyn) sz cells slots n L (.ref (G.2.1 + 73) :: st)) : Js p l e R s m args below meth c G nL Q (en2 G κ dyn) sz cells slots pc L (.ref (G.2.1 + 66) :: st) := jk_getR (k := 8) (z := 0) C kd66 rfl in_X6 73 rfl (by decide) q1688 rfl d n hn kk
theorem gX6_283 {p : Program} {l : Launch} {e : Env} {R : Room} {s : State} {m : MethodId} {args : Array Value} {below : List Frame} {meth : Method} {c : Code} {Q : State → Prop} {G : je_G} {cc : ByteArray} {nL : Nat} {rt : Option FieldType} {sz cells slots pc : Nat} {L : List (Nat × Value)} {st : List Value} {κ : kp_K} {dyn : Nat → Option je_E} (C : Cx p s m args meth c G "MinistryDesksModel" cc nL rt) (d : decode cc pc = .ok (.getfield 283, 3)) (n : Nat) (hn : pc + 3 = n) (kk : Js p l e R s m args below meth c G nL Q (en2 G κ dyn) sz cells slots n L (.int (κ.1 66 25) :: st)) : Js p l e R s m args below meth c G nL Q (en2 G κ dyn) sz cells slots pc L (.ref (G.2.1 + 66) :: st) := jk_getI (k := 25) C kd66 rfl in_X6 rfl (by decide) q1705 rfl d n hn kk
theorem gX6_55 {p : Program} {l : Launch} {e : Env} {R : Room} {s : State} {m : MethodId} {args : Array Value} {below : List Frame} {meth : Method} {c : Code} {Q : State → Prop} {G : je_G} {cc : ByteArray} {nL : Nat} {rt : Option FieldType} {sz cells slots pc : Nat} {L : List (Nat × Value)} {st : List Value} {κ : kp_K} {dyn : Nat → Option je_E} (C : Cx p s m args meth c G "MinistryDesksModel" cc nL rt) (d : decode cc pc = .ok (.getfield 55, 3)) (n : Nat) (hn : pc + 3 = n) (kk : Js p l e R s m args below meth c G nL Q (en2 G κ dyn) sz cells slots n L (.ref (G.2.1 + 82) :: st)) : Js p l e R s m args below meth c G nL Q (en2 G κ dyn) sz cells slots pc L (.ref (G.2.1 + 66) :: st) := jk_getR (k := 17) (z := 0) C kd66 rfl in_X6 82 rfl (by decide) q1697 rfl d n hn kk
theorem gX6_58 {p : Program} {l : Launch} {e : Env} {R : Room} {s : State} {m : MethodId} {args : Array Value} {below : List Frame} {meth : Method} {c : Code} {Q : State → Prop} {G : je_G} {cc : ByteArray} {nL : Nat} {rt : Option FieldType} {sz cells slots pc : Nat} {L : List (Nat × Value)} {st : List Value} {κ : kp_K} {dyn : Nat → Option je_E} (C : Cx p s m args meth c G "MinistryDesksModel" cc nL rt) (d : decode cc pc = .ok (.getfield 58, 3)) (n : Nat) (hn : pc + 3 = n) (kk : Js p l e R s m args below meth c G nL Q (en2 G κ dyn) sz cells slots n L (.ref (G.2.1 + 83) :: st)) : Js p l e R s m args below meth c G nL Q (en2 G κ dyn) sz cells slots pc L (.ref (G.2.1 + 66) :: st) := jk_getR (k := 18) (z := 0) C kd66 rfl in_X6 83 rfl (by decide) q1698 rfl d n hn kk
theorem gX6_61 {p : Program} {l : Launch} {e : Env} {R : Room} {s : State} {m : MethodId} {args : Array Value} {below : List Frame} {meth : Method} {c : Code} {Q : State → Prop} {G : je_G} {cc : ByteArray} {nL : Nat} {rt : Option FieldType} {sz cells slots pc : Nat} {L : List (Nat × Value)} {st : List Value} {κ : kp_K} {dyn : Nat → Option je_E} (C : Cx p s m args meth c G "MinistryDesksModel" cc nL rt) (d : decode cc pc = .ok (.getfield 61, 3)) (n : Nat) (hn : pc + 3 = n) (kk : Js p l e R s m args below meth c G nL Q (en2 G κ dyn) sz cells slots n L (.ref (G.2.1 + 84) :: st)) : Js p l e R s m args below meth c G nL Q (en2 G κ dyn) sz cells slots pc L (.ref (G.2.1 + 66) :: st) := jk_getR (k := 19) (z := 0) C kd66 rfl in_X6 84 rfl (by decide) q1699 rfl d n hn kk
theorem sX6_283 {p : Program} {l : Launch} {e : Env} {R : Room} {s : State} {m : MethodId} {args : Array Value} {below : List Frame} {meth : Method} {c : Code} {Q : State → Prop} {G : je_G} {cc : ByteArray} {nL : Nat} {rt : Option FieldType} {sz cells slots pc : Nat} {L : List (Nat × Value)} {st : List Value} {κ : kp_K} {dyn : Nat → Option je_E} (C : Cx p s m args meth c G "MinistryDesksModel" cc nL rt) {v : Int32} (d : decode cc pc = .ok (.putfield 283, 3)) (n : Nat) (hn : pc + 3 = n) (kk : Js p l e R s m args below meth c G nL Q (en2 G (s_i κ 66 25 v) dyn) sz cells slots n L st) : Js p l e R s m args below meth c G nL Q (en2 G κ dyn) sz cells slots pc L (.int v :: .ref (G.2.1 + 66) :: st) := jk_putI (k := 25) C kd66 rfl in_X6 tyX6 tyX6_ok nmX6 rfl (by decide) q1705 rfl rfl rfl d n hn kk
set_option maxHeartbeats 4000000 in
theorem wX6_line_16 {p : Program} {l : Launch} {e : Env} {s : State} {m : MethodId} {args : Array Value} {below : List Frame} {meth : Method} {c : Code} {G : je_G} {dyn : Nat → Option je_E} {sz : Nat} {F : Nat} {r9 : kp_K} (C : Cx p s m args meth c G "MinistryDesksModel" cX6_line 3 none) (κ : kp_K) (h : bX6_line_16 F κ = some r9) : Js p l e ({ frames := 709, cells := 0, slots := 0, locals := 14890 } : Room) s m args below meth c G 3 (MQ below (je_Q G none (en2 G r9 dyn) sz) args s 0 0 (je_A G)) (en2 G κ dyn) sz 0 0 16 [(0, .ref (G.2.1 + 66))] [] := by
  unfold bX6_line_16 at h
  refine je_aload_n C dX6_line_16 17 rfl 0 rfl ?_
  refine je_iconst C (1) dX6_line_17 18 rfl ic_1 ?_
  obtain ⟨k18, hg, h⟩ := p_cl_inv h
  refine je_callVv (As := [.int (1 : Int32)]) (rest := []) C (metX6_wrong hg) (en2_at kd66) rfl hdX6_wrong rfl cwX6_228 rfl ⟨Nat.le_of_ble_eq_true rfl, Nat.le_of_ble_eq_true rfl⟩ (Nat.le_of_ble_eq_true rfl) dX6_line_18 21 rfl ⟨Nat.le_refl _, Nat.le_refl _⟩ ?_
  cases h
  exact je_vret C dX6_line_21
set_option maxHeartbeats 4000000 in
theorem wX6_line_453 {p : Program} {l : Launch} {e : Env} {s : State} {m : MethodId} {args : Array Value} {below : List Frame} {meth : Method} {c : Code} {G : je_G} {dyn : Nat → Option je_E} {sz : Nat} {F : Nat} {r9 : kp_K} (C : Cx p s m args meth c G "MinistryDesksModel" cX6_line 3 none) (κ : kp_K) (h : bX6_line_453 F κ = some r9) : Js p l e ({ frames := 709, cells := 0, slots := 0, locals := 14890 } : Room) s m args below meth c G 3 (MQ below (je_Q G none (en2 G r9 dyn) sz) args s 0 0 (je_A G)) (en2 G κ dyn) sz 0 0 453 [(0, .ref (G.2.1 + 66))] [] := by
  unfold bX6_line_453 at h
  refine je_aload_n C dX6_line_453 454 rfl 0 rfl ?_
  refine je_dup C dX6_line_454 455 rfl rfl ?_
  refine gX6_283 C dX6_line_455 458 rfl ?_
  refine je_iconst C (1) dX6_line_458 459 rfl ic_1 ?_
  refine je_iadd C dX6_line_459 460 rfl ?_
  refine sX6_283 C dX6_line_460 463 rfl ?_
  refine jk_lt h (fun k460 h => ?_)
  cases h
  exact je_vret C dX6_line_463
set_option maxHeartbeats 4000000 in
theorem wX6_line_424 {p : Program} {l : Launch} {e : Env} {s : State} {m : MethodId} {args : Array Value} {below : List Frame} {meth : Method} {c : Code} {G : je_G} {dyn : Nat → Option je_E} {sz : Nat} {F : Nat} {r9 : kp_K} (C : Cx p s m args meth c G "MinistryDesksModel" cX6_line 3 none) (κ : kp_K) (h : bX6_line_424 F κ = some r9) : Js p l e ({ frames := 709, cells := 0, slots := 0, locals := 14890 } : Room) s m args below meth c G 3 (MQ below (je_Q G none (en2 G r9 dyn) sz) args s 0 0 (je_A G)) (en2 G κ dyn) sz 0 0 424 [(0, .ref (G.2.1 + 66))] [] := by
  unfold bX6_line_424 at h
  refine je_aload_n C dX6_line_424 425 rfl 0 rfl ?_
  refine gX6_219 C dX6_line_425 428 rfl ?_
  refine je_if_eq C 432 dX6_line_428 431 rfl rfl h (fun h => ?_) (fun h => ?_)
  · refine je_aload_n C dX6_line_432 433 rfl 0 rfl ?_
    refine je_bipush C (59) dX6_line_433 435 rfl bp_59 ?_
    obtain ⟨t435, hg, h⟩ := p_cl_inv h
    refine je_callVi (As := [.int (59 : Int32)]) (rest := []) C (metX6_isSign hg) (en2_at kd66) rfl hdX6_isSign rfl cwX6_280 rfl ⟨Nat.le_of_ble_eq_true rfl, Nat.le_of_ble_eq_true rfl⟩ (Nat.le_of_ble_eq_true rfl) dX6_line_435 438 rfl ⟨Nat.le_refl _, Nat.le_refl _⟩ ?_
    refine je_if_ne C 449 dX6_line_438 441 rfl rfl h (fun h => ?_) (fun h => ?_)
    · refine je_aload_n C dX6_line_449 450 rfl 0 rfl ?_
      obtain ⟨k450, hg, h⟩ := p_cl_inv h
      refine je_callVv (As := []) (rest := []) C (metX6_token hg) (en2_at kd66) rfl hdX6_token rfl cwX6_225 rfl ⟨Nat.le_of_ble_eq_true rfl, Nat.le_of_ble_eq_true rfl⟩ (Nat.le_of_ble_eq_true rfl) dX6_line_450 453 rfl ⟨Nat.le_refl _, Nat.le_refl _⟩ ?_
      exact wX6_line_453 C k450 h
    refine je_aload_n C dX6_line_441 442 rfl 0 rfl ?_
    refine je_iconst C (1) dX6_line_442 443 rfl ic_1 ?_
    obtain ⟨k443, hg, h⟩ := p_cl_inv h
    refine je_callVv (As := [.int (1 : Int32)]) (rest := []) C (metX6_wrong hg) (en2_at kd66) rfl hdX6_wrong rfl cwX6_228 rfl ⟨Nat.le_of_ble_eq_true rfl, Nat.le_of_ble_eq_true rfl⟩ (Nat.le_of_ble_eq_true rfl) dX6_line_443 446 rfl ⟨Nat.le_refl _, Nat.le_refl _⟩ ?_
    refine je_goto C 453 dX6_line_446 rfl ?_
    exact wX6_line_453 C k443 h
  cases h
  exact je_vret C dX6_line_431
set_option maxHeartbeats 4000000 in
theorem wX6_line_64 {p : Program} {l : Launch} {e : Env} {s : State} {m : MethodId} {args : Array Value} {below : List Frame} {meth : Method} {c : Code} {G : je_G} {dyn : Nat → Option je_E} {sz : Nat} {F : Nat} {r9 : kp_K} (C : Cx p s m args meth c G "MinistryDesksModel" cX6_line 3 none) (κ : kp_K) (v1 : Int32) (h : bX6_line_64 F κ v1 = some r9) : Js p l e ({ frames := 709, cells := 0, slots := 0, locals := 14890 } : Room) s m args below meth c G 3 (MQ below (je_Q G none (en2 G r9 dyn) sz) args s 0 0 (je_A G)) (en2 G κ dyn) sz 0 0 64 [(0, .ref (G.2.1 + 66)), (1, .int v1)] [] := by
  unfold bX6_line_64 at h
  refine je_aload_n C dX6_line_64 65 rfl 0 rfl ?_
  refine gX6_219 C dX6_line_65 68 rfl ?_
  refine je_if_eq C 72 dX6_line_68 71 rfl rfl h (fun h => ?_) (fun h => ?_)
  · refine je_aload_n C dX6_line_72 73 rfl 0 rfl ?_
    obtain ⟨k73, hg, h⟩ := p_cl_inv h
    refine je_callVv (As := []) (rest := []) C (metX6_token hg) (en2_at kd66) rfl hdX6_token rfl cwX6_225 rfl ⟨Nat.le_of_ble_eq_true rfl, Nat.le_of_ble_eq_true rfl⟩ (Nat.le_of_ble_eq_true rfl) dX6_line_73 76 rfl ⟨Nat.le_refl _, Nat.le_refl _⟩ ?_
    refine je_iload_n C dX6_line_76 77 rfl 1 rfl ?_
    refine je_ite h (fun hx h => ?_) (fun hn0 h => ?_)
    · refine je_tsw C (0) 124 dX6_line_77 hx (by decide) (by decide) rfl rfl ?_
      refine je_aload_n C dX6_line_124 125 rfl 0 rfl ?_
      refine gX6_16 C dX6_line_125 128 rfl ?_
      refine je_iconst C (4) dX6_line_128 129 rfl ic_4 ?_
      refine je_aload_n C dX6_line_129 130 rfl 0 rfl ?_
      refine je_iconst C (0) dX6_line_130 131 rfl ic_0 ?_
      obtain ⟨t131, hg, h⟩ := p_cl_inv h
      refine je_callVi (As := [.int (0 : Int32)]) (rest := [.int (4 : Int32), .ref (G.2.1 + 69)]) C (metX6_fresher hg) (en2_at kd66) rfl hdX6_fresher rfl cwX6_242 rfl ⟨Nat.le_of_ble_eq_true rfl, Nat.le_of_ble_eq_true rfl⟩ (Nat.le_of_ble_eq_true rfl) dX6_line_131 134 rfl ⟨Nat.le_refl _, Nat.le_refl _⟩ ?_
      refine je_iadd C dX6_line_134 135 rfl ?_
      refine je_aload_n C dX6_line_135 136 rfl 0 rfl ?_
      refine je_aload_n C dX6_line_136 137 rfl 0 rfl ?_
      refine gX6_16 C dX6_line_137 140 rfl ?_
      refine je_iconst C (4) dX6_line_140 141 rfl ic_4 ?_
      refine je_aload_n C dX6_line_141 142 rfl 0 rfl ?_
      refine je_iconst C (0) dX6_line_142 143 rfl ic_0 ?_
      obtain ⟨t143, hg, h⟩ := p_cl_inv h
      refine je_callVi (As := [.int (0 : Int32)]) (rest := [.int (4 : Int32), .ref (G.2.1 + 69), .ref (G.2.1 + 66), .int ((4 : Int32) + t131), .ref (G.2.1 + 69)]) C (metX6_fresher hg) (en2_at kd66) rfl hdX6_fresher rfl cwX6_242 rfl ⟨Nat.le_of_ble_eq_true rfl, Nat.le_of_ble_eq_true rfl⟩ (Nat.le_of_ble_eq_true rfl) dX6_line_143 146 rfl ⟨Nat.le_refl _, Nat.le_refl _⟩ ?_
      obtain ⟨q146, hg, h⟩ := p_cl_inv h
      refine je_callVi (As := [.ref (G.2.1 + 69), .int (4 : Int32), .int t143]) (rest := [.int ((4 : Int32) + t131), .ref (G.2.1 + 69)]) C (metX6_fresh hg) (en2_at kd66) rfl hdX6_fresh rfl cwX6_252 rfl ⟨Nat.le_of_ble_eq_true rfl, Nat.le_of_ble_eq_true rfl⟩ (Nat.le_of_ble_eq_true rfl) dX6_line_146 149 rfl ⟨Nat.le_refl _, Nat.le_refl _⟩ ?_
      refine je_lti h (fun t146 h => ?_)
      refine jk_lt h (fun k146 h => ?_)
      refine jk_iast C kd69 dX6_line_149 150 rfl h (fun h => ?_)
      refine jk_lt h (fun k149 h => ?_)
      refine je_aload_n C dX6_line_150 151 rfl 0 rfl ?_
      refine gX6_19 C dX6_line_151 154 rfl ?_
      refine je_iconst C (4) dX6_line_154 155 rfl ic_4 ?_
      refine je_aload_n C dX6_line_155 156 rfl 0 rfl ?_
      refine je_iconst C (0) dX6_line_156 157 rfl ic_0 ?_
      obtain ⟨t157, hg, h⟩ := p_cl_inv h
      refine je_callVi (As := [.int (0 : Int32)]) (rest := [.int (4 : Int32), .ref (G.2.1 + 70)]) C (metX6_fresher hg) (en2_at kd66) rfl hdX6_fresher rfl cwX6_242 rfl ⟨Nat.le_of_ble_eq_true rfl, Nat.le_of_ble_eq_true rfl⟩ (Nat.le_of_ble_eq_true rfl) dX6_line_157 160 rfl ⟨Nat.le_refl _, Nat.le_refl _⟩ ?_
      refine je_iadd C dX6_line_160 161 rfl ?_
      refine je_aload_n C dX6_line_161 162 rfl 0 rfl ?_
      refine je_iconst C (1) dX6_line_162 163 rfl ic_1 ?_
      refine je_bipush C (6) dX6_line_163 165 rfl bp_6 ?_
      obtain ⟨q165, hg, h⟩ := p_cl_inv h
      refine je_callVi (As := [.int (1 : Int32), .int (6 : Int32)]) (rest := [.int ((4 : Int32) + t157), .ref (G.2.1 + 70)]) C (metX6_numeral hg) (en2_at kd66) rfl hdX6_numeral rfl cwX6_255 rfl ⟨Nat.le_of_ble_eq_true rfl, Nat.le_of_ble_eq_true rfl⟩ (Nat.le_of_ble_eq_true rfl) dX6_line_165 168 rfl ⟨Nat.le_refl _, Nat.le_refl _⟩ ?_
      refine je_lti h (fun t165 h => ?_)
      refine jk_lt h (fun k165 h => ?_)
      refine jk_iast C kd70 dX6_line_168 169 rfl h (fun h => ?_)
      refine jk_lt h (fun k168 h => ?_)
      refine je_aload_n C dX6_line_169 170 rfl 0 rfl ?_
      refine gX6_22 C dX6_line_170 173 rfl ?_
      refine je_iconst C (4) dX6_line_173 174 rfl ic_4 ?_
      refine je_aload_n C dX6_line_174 175 rfl 0 rfl ?_
      refine je_iconst C (0) dX6_line_175 176 rfl ic_0 ?_
      obtain ⟨t176, hg, h⟩ := p_cl_inv h
      refine je_callVi (As := [.int (0 : Int32)]) (rest := [.int (4 : Int32), .ref (G.2.1 + 71)]) C (metX6_fresher hg) (en2_at kd66) rfl hdX6_fresher rfl cwX6_242 rfl ⟨Nat.le_of_ble_eq_true rfl, Nat.le_of_ble_eq_true rfl⟩ (Nat.le_of_ble_eq_true rfl) dX6_line_176 179 rfl ⟨Nat.le_refl _, Nat.le_refl _⟩ ?_
      refine je_iadd C dX6_line_179 180 rfl ?_
      refine je_iconst C (-1) dX6_line_180 181 rfl ic_m1 ?_
      refine jk_iast C kd71 dX6_line_181 182 rfl h (fun h => ?_)
      refine jk_lt h (fun k181 h => ?_)
      refine je_aload_n C dX6_line_182 183 rfl 0 rfl ?_
      refine je_iconst C (0) dX6_line_183 184 rfl ic_0 ?_
      obtain ⟨k184, hg, h⟩ := p_cl_inv h
      refine je_callVv (As := [.int (0 : Int32)]) (rest := []) C (metX6_oneMore hg) (en2_at kd66) rfl hdX6_oneMore rfl cwX6_259 rfl ⟨Nat.le_of_ble_eq_true rfl, Nat.le_of_ble_eq_true rfl⟩ (Nat.le_of_ble_eq_true rfl) dX6_line_184 187 rfl ⟨Nat.le_refl _, Nat.le_refl _⟩ ?_
      refine je_goto C 424 dX6_line_187 rfl ?_
      refine je_sub [0] [(0, .ref (G.2.1 + 66))] rfl ?_
      exact wX6_line_424 C k184 h
    refine je_ite h (fun hx h => ?_) (fun hn1 h => ?_)
    · refine je_tsw C (1) 190 dX6_line_77 hx (by decide) (by decide) rfl rfl ?_
      refine je_aload_n C dX6_line_190 191 rfl 0 rfl ?_
      obtain ⟨k191, hg, h⟩ := p_cl_inv h
      refine je_callVv (As := []) (rest := []) C (metX6_asksLine hg) (en2_at kd66) rfl hdX6_asksLine rfl cwX6_262 rfl ⟨Nat.le_of_ble_eq_true rfl, Nat.le_of_ble_eq_true rfl⟩ (Nat.le_of_ble_eq_true rfl) dX6_line_191 194 rfl ⟨Nat.le_refl _, Nat.le_refl _⟩ ?_
      refine je_goto C 424 dX6_line_194 rfl ?_
      refine je_sub [0] [(0, .ref (G.2.1 + 66))] rfl ?_
      exact wX6_line_424 C k191 h
    refine je_ite h (fun hx h => ?_) (fun hn2 h => ?_)
    · refine je_tsw C (2) 197 dX6_line_77 hx (by decide) (by decide) rfl rfl ?_
      refine je_aload_n C dX6_line_197 198 rfl 0 rfl ?_
      refine gX6_25 C dX6_line_198 201 rfl ?_
      refine je_bipush C (7) dX6_line_201 203 rfl bp_7 ?_
      refine je_aload_n C dX6_line_203 204 rfl 0 rfl ?_
      refine je_iconst C (1) dX6_line_204 205 rfl ic_1 ?_
      obtain ⟨t205, hg, h⟩ := p_cl_inv h
      refine je_callVi (As := [.int (1 : Int32)]) (rest := [.int (7 : Int32), .ref (G.2.1 + 72)]) C (metX6_fresher hg) (en2_at kd66) rfl hdX6_fresher rfl cwX6_242 rfl ⟨Nat.le_of_ble_eq_true rfl, Nat.le_of_ble_eq_true rfl⟩ (Nat.le_of_ble_eq_true rfl) dX6_line_205 208 rfl ⟨Nat.le_refl _, Nat.le_refl _⟩ ?_
      refine je_iadd C dX6_line_208 209 rfl ?_
      refine je_aload_n C dX6_line_209 210 rfl 0 rfl ?_
      refine je_aload_n C dX6_line_210 211 rfl 0 rfl ?_
      refine gX6_25 C dX6_line_211 214 rfl ?_
      refine je_bipush C (7) dX6_line_214 216 rfl bp_7 ?_
      refine je_aload_n C dX6_line_216 217 rfl 0 rfl ?_
      refine je_iconst C (1) dX6_line_217 218 rfl ic_1 ?_
      obtain ⟨t218, hg, h⟩ := p_cl_inv h
      refine je_callVi (As := [.int (1 : Int32)]) (rest := [.int (7 : Int32), .ref (G.2.1 + 72), .ref (G.2.1 + 66), .int ((7 : Int32) + t205), .ref (G.2.1 + 72)]) C (metX6_fresher hg) (en2_at kd66) rfl hdX6_fresher rfl cwX6_242 rfl ⟨Nat.le_of_ble_eq_true rfl, Nat.le_of_ble_eq_true rfl⟩ (Nat.le_of_ble_eq_true rfl) dX6_line_218 221 rfl ⟨Nat.le_refl _, Nat.le_refl _⟩ ?_
      obtain ⟨q221, hg, h⟩ := p_cl_inv h
      refine je_callVi (As := [.ref (G.2.1 + 72), .int (7 : Int32), .int t218]) (rest := [.int ((7 : Int32) + t205), .ref (G.2.1 + 72)]) C (metX6_fresh hg) (en2_at kd66) rfl hdX6_fresh rfl cwX6_252 rfl ⟨Nat.le_of_ble_eq_true rfl, Nat.le_of_ble_eq_true rfl⟩ (Nat.le_of_ble_eq_true rfl) dX6_line_221 224 rfl ⟨Nat.le_refl _, Nat.le_refl _⟩ ?_
      refine je_lti h (fun t221 h => ?_)
      refine jk_lt h (fun k221 h => ?_)
      refine jk_iast C kd72 dX6_line_224 225 rfl h (fun h => ?_)
      refine jk_lt h (fun k224 h => ?_)
      refine je_aload_n C dX6_line_225 226 rfl 0 rfl ?_
      refine gX6_28 C dX6_line_226 229 rfl ?_
      refine je_bipush C (7) dX6_line_229 231 rfl bp_7 ?_
      refine je_aload_n C dX6_line_231 232 rfl 0 rfl ?_
      refine je_iconst C (1) dX6_line_232 233 rfl ic_1 ?_
      obtain ⟨t233, hg, h⟩ := p_cl_inv h
      refine je_callVi (As := [.int (1 : Int32)]) (rest := [.int (7 : Int32), .ref (G.2.1 + 73)]) C (metX6_fresher hg) (en2_at kd66) rfl hdX6_fresher rfl cwX6_242 rfl ⟨Nat.le_of_ble_eq_true rfl, Nat.le_of_ble_eq_true rfl⟩ (Nat.le_of_ble_eq_true rfl) dX6_line_233 236 rfl ⟨Nat.le_refl _, Nat.le_refl _⟩ ?_
      refine je_iadd C dX6_line_236 237 rfl ?_
      refine je_aload_n C dX6_line_237 238 rfl 0 rfl ?_
      refine je_iconst C (0) dX6_line_238 239 rfl ic_0 ?_
      refine je_bipush C (99) dX6_line_239 241 rfl bp_99 ?_
      obtain ⟨q241, hg, h⟩ := p_cl_inv h
      refine je_callVi (As := [.int (0 : Int32), .int (99 : Int32)]) (rest := [.int ((7 : Int32) + t233), .ref (G.2.1 + 73)]) C (metX6_numeral hg) (en2_at kd66) rfl hdX6_numeral rfl cwX6_255 rfl ⟨Nat.le_of_ble_eq_true rfl, Nat.le_of_ble_eq_true rfl⟩ (Nat.le_of_ble_eq_true rfl) dX6_line_241 244 rfl ⟨Nat.le_refl _, Nat.le_refl _⟩ ?_
      refine je_lti h (fun t241 h => ?_)
      refine jk_lt h (fun k241 h => ?_)
      refine jk_iast C kd73 dX6_line_244 245 rfl h (fun h => ?_)
      refine jk_lt h (fun k244 h => ?_)
      refine je_aload_n C dX6_line_245 246 rfl 0 rfl ?_
      refine je_iconst C (1) dX6_line_246 247 rfl ic_1 ?_
      obtain ⟨k247, hg, h⟩ := p_cl_inv h
      refine je_callVv (As := [.int (1 : Int32)]) (rest := []) C (metX6_oneMore hg) (en2_at kd66) rfl hdX6_oneMore rfl cwX6_259 rfl ⟨Nat.le_of_ble_eq_true rfl, Nat.le_of_ble_eq_true rfl⟩ (Nat.le_of_ble_eq_true rfl) dX6_line_247 250 rfl ⟨Nat.le_refl _, Nat.le_refl _⟩ ?_
      refine je_goto C 424 dX6_line_250 rfl ?_
      refine je_sub [0] [(0, .ref (G.2.1 + 66))] rfl ?_
      exact wX6_line_424 C k247 h
    refine je_ite h (fun hx h => ?_) (fun hn3 h => ?_)
    · refine je_tsw C (3) 253 dX6_line_77 hx (by decide) (by decide) rfl rfl ?_
      refine je_aload_n C dX6_line_253 254 rfl 0 rfl ?_
      refine je_bipush C (16) dX6_line_254 256 rfl bp_16 ?_
      refine je_aload_n C dX6_line_256 257 rfl 0 rfl ?_
      refine je_iconst C (2) dX6_line_257 258 rfl ic_2 ?_
      obtain ⟨t258, hg, h⟩ := p_cl_inv h
      refine je_callVi (As := [.int (2 : Int32)]) (rest := [.int (16 : Int32), .ref (G.2.1 + 66)]) C (metX6_fresher hg) (en2_at kd66) rfl hdX6_fresher rfl cwX6_242 rfl ⟨Nat.le_of_ble_eq_true rfl, Nat.le_of_ble_eq_true rfl⟩ (Nat.le_of_ble_eq_true rfl) dX6_line_258 261 rfl ⟨Nat.le_refl _, Nat.le_refl _⟩ ?_
      refine je_iadd C dX6_line_261 262 rfl ?_
      obtain ⟨k262, hg, h⟩ := p_cl_inv h
      refine je_callVv (As := [.int ((16 : Int32) + t258)]) (rest := []) C (metX6_comesLine hg) (en2_at kd66) rfl hdX6_comesLine rfl cwX6_265 rfl ⟨Nat.le_of_ble_eq_true rfl, Nat.le_of_ble_eq_true rfl⟩ (Nat.le_of_ble_eq_true rfl) dX6_line_262 265 rfl ⟨Nat.le_refl _, Nat.le_refl _⟩ ?_
      refine je_goto C 424 dX6_line_265 rfl ?_
      refine je_sub [0] [(0, .ref (G.2.1 + 66))] rfl ?_
      exact wX6_line_424 C k262 h
    refine je_ite h (fun hx h => ?_) (fun hn4 h => ?_)
    · refine je_tsw C (4) 268 dX6_line_77 hx (by decide) (by decide) rfl rfl ?_
      refine je_aload_n C dX6_line_268 269 rfl 0 rfl ?_
      refine je_bipush C (16) dX6_line_269 271 rfl bp_16 ?_
      refine je_aload_n C dX6_line_271 272 rfl 0 rfl ?_
      refine je_iconst C (3) dX6_line_272 273 rfl ic_3 ?_
      obtain ⟨t273, hg, h⟩ := p_cl_inv h
      refine je_callVi (As := [.int (3 : Int32)]) (rest := [.int (16 : Int32), .ref (G.2.1 + 66)]) C (metX6_fresher hg) (en2_at kd66) rfl hdX6_fresher rfl cwX6_242 rfl ⟨Nat.le_of_ble_eq_true rfl, Nat.le_of_ble_eq_true rfl⟩ (Nat.le_of_ble_eq_true rfl) dX6_line_273 276 rfl ⟨Nat.le_refl _, Nat.le_refl _⟩ ?_
      refine je_iadd C dX6_line_276 277 rfl ?_
      obtain ⟨k277, hg, h⟩ := p_cl_inv h
      refine je_callVv (As := [.int ((16 : Int32) + t273)]) (rest := []) C (metX6_questionLine hg) (en2_at kd66) rfl hdX6_questionLine rfl cwX6_268 rfl ⟨Nat.le_of_ble_eq_true rfl, Nat.le_of_ble_eq_true rfl⟩ (Nat.le_of_ble_eq_true rfl) dX6_line_277 280 rfl ⟨Nat.le_refl _, Nat.le_refl _⟩ ?_
      refine je_goto C 424 dX6_line_280 rfl ?_
      refine je_sub [0] [(0, .ref (G.2.1 + 66))] rfl ?_
      exact wX6_line_424 C k277 h
    refine je_ite h (fun hx h => ?_) (fun hn5 h => ?_)
    · refine je_tsw C (5) 283 dX6_line_77 hx (by decide) (by decide) rfl rfl ?_
      refine je_aload_n C dX6_line_283 284 rfl 0 rfl ?_
      refine gX6_55 C dX6_line_284 287 rfl ?_
      refine je_iconst C (4) dX6_line_287 288 rfl ic_4 ?_
      refine je_aload_n C dX6_line_288 289 rfl 0 rfl ?_
      refine je_iconst C (4) dX6_line_289 290 rfl ic_4 ?_
      obtain ⟨t290, hg, h⟩ := p_cl_inv h
      refine je_callVi (As := [.int (4 : Int32)]) (rest := [.int (4 : Int32), .ref (G.2.1 + 82)]) C (metX6_fresher hg) (en2_at kd66) rfl hdX6_fresher rfl cwX6_242 rfl ⟨Nat.le_of_ble_eq_true rfl, Nat.le_of_ble_eq_true rfl⟩ (Nat.le_of_ble_eq_true rfl) dX6_line_290 293 rfl ⟨Nat.le_refl _, Nat.le_refl _⟩ ?_
      refine je_iadd C dX6_line_293 294 rfl ?_
      refine je_aload_n C dX6_line_294 295 rfl 0 rfl ?_
      refine je_iconst C (0) dX6_line_295 296 rfl ic_0 ?_
      refine je_bipush C (60) dX6_line_296 298 rfl bp_60 ?_
      obtain ⟨q298, hg, h⟩ := p_cl_inv h
      refine je_callVi (As := [.int (0 : Int32), .int (60 : Int32)]) (rest := [.int ((4 : Int32) + t290), .ref (G.2.1 + 82)]) C (metX6_numeral hg) (en2_at kd66) rfl hdX6_numeral rfl cwX6_255 rfl ⟨Nat.le_of_ble_eq_true rfl, Nat.le_of_ble_eq_true rfl⟩ (Nat.le_of_ble_eq_true rfl) dX6_line_298 301 rfl ⟨Nat.le_refl _, Nat.le_refl _⟩ ?_
      refine je_lti h (fun t298 h => ?_)
      refine jk_lt h (fun k298 h => ?_)
      refine jk_iast C kd82 dX6_line_301 302 rfl h (fun h => ?_)
      refine jk_lt h (fun k301 h => ?_)
      refine je_aload_n C dX6_line_302 303 rfl 0 rfl ?_
      refine gX6_58 C dX6_line_303 306 rfl ?_
      refine je_iconst C (4) dX6_line_306 307 rfl ic_4 ?_
      refine je_aload_n C dX6_line_307 308 rfl 0 rfl ?_
      refine je_iconst C (4) dX6_line_308 309 rfl ic_4 ?_
      obtain ⟨t309, hg, h⟩ := p_cl_inv h
      refine je_callVi (As := [.int (4 : Int32)]) (rest := [.int (4 : Int32), .ref (G.2.1 + 83)]) C (metX6_fresher hg) (en2_at kd66) rfl hdX6_fresher rfl cwX6_242 rfl ⟨Nat.le_of_ble_eq_true rfl, Nat.le_of_ble_eq_true rfl⟩ (Nat.le_of_ble_eq_true rfl) dX6_line_309 312 rfl ⟨Nat.le_refl _, Nat.le_refl _⟩ ?_
      refine je_iadd C dX6_line_312 313 rfl ?_
      refine je_aload_n C dX6_line_313 314 rfl 0 rfl ?_
      obtain ⟨q314, hg, h⟩ := p_cl_inv h
      refine je_callVi (As := []) (rest := [.int ((4 : Int32) + t309), .ref (G.2.1 + 83)]) C (metX6_desk hg) (en2_at kd66) rfl hdX6_desk rfl cwX6_271 rfl ⟨Nat.le_of_ble_eq_true rfl, Nat.le_of_ble_eq_true rfl⟩ (Nat.le_of_ble_eq_true rfl) dX6_line_314 317 rfl ⟨Nat.le_refl _, Nat.le_refl _⟩ ?_
      refine je_lti h (fun t314 h => ?_)
      refine jk_lt h (fun k314 h => ?_)
      refine jk_iast C kd83 dX6_line_317 318 rfl h (fun h => ?_)
      refine jk_lt h (fun k317 h => ?_)
      refine je_aload_n C dX6_line_318 319 rfl 0 rfl ?_
      refine je_iconst C (4) dX6_line_319 320 rfl ic_4 ?_
      obtain ⟨k320, hg, h⟩ := p_cl_inv h
      refine je_callVv (As := [.int (4 : Int32)]) (rest := []) C (metX6_oneMore hg) (en2_at kd66) rfl hdX6_oneMore rfl cwX6_259 rfl ⟨Nat.le_of_ble_eq_true rfl, Nat.le_of_ble_eq_true rfl⟩ (Nat.le_of_ble_eq_true rfl) dX6_line_320 323 rfl ⟨Nat.le_refl _, Nat.le_refl _⟩ ?_
      refine je_goto C 424 dX6_line_323 rfl ?_
      refine je_sub [0] [(0, .ref (G.2.1 + 66))] rfl ?_
      exact wX6_line_424 C k320 h
    refine je_ite h (fun hx h => ?_) (fun hn6 h => ?_)
    · refine je_tsw C (6) 326 dX6_line_77 hx (by decide) (by decide) rfl rfl ?_
      refine je_aload_n C dX6_line_326 327 rfl 0 rfl ?_
      refine je_dup C dX6_line_327 328 rfl rfl ?_
      refine gX6_249 C dX6_line_328 331 rfl ?_
      refine je_iconst C (1) dX6_line_331 332 rfl ic_1 ?_
      refine je_ior C dX6_line_332 333 rfl ?_
      refine sX6_249 C dX6_line_333 336 rfl ?_
      refine jk_lt h (fun k333 h => ?_)
      refine je_aload_n C dX6_line_336 337 rfl 0 rfl ?_
      refine gX6_13 C dX6_line_337 340 rfl ?_
      refine je_bipush C (14) dX6_line_340 342 rfl bp_14 ?_
      refine je_aload_n C dX6_line_342 343 rfl 0 rfl ?_
      refine je_iconst C (0) dX6_line_343 344 rfl ic_0 ?_
      refine je_sipush C (999) dX6_line_344 347 rfl sp_999 ?_
      obtain ⟨q347, hg, h⟩ := p_cl_inv h
      refine je_callVi (As := [.int (0 : Int32), .int (999 : Int32)]) (rest := [.int (14 : Int32), .ref (G.2.1 + 68)]) C (metX6_numeral hg) (en2_at kd66) rfl hdX6_numeral rfl cwX6_255 rfl ⟨Nat.le_of_ble_eq_true rfl, Nat.le_of_ble_eq_true rfl⟩ (Nat.le_of_ble_eq_true rfl) dX6_line_347 350 rfl ⟨Nat.le_refl _, Nat.le_refl _⟩ ?_
      refine je_lti h (fun t347 h => ?_)
      refine jk_lt h (fun k347 h => ?_)
      refine jk_iast C kd68 dX6_line_350 351 rfl h (fun h => ?_)
      refine jk_lt h (fun k350 h => ?_)
      refine je_goto C 424 dX6_line_351 rfl ?_
      refine je_sub [0] [(0, .ref (G.2.1 + 66))] rfl ?_
      exact wX6_line_424 C k350 h
    refine je_ite h (fun hx h => ?_) (fun hn7 h => ?_)
    · refine je_tsw C (7) 354 dX6_line_77 hx (by decide) (by decide) rfl rfl ?_
      refine je_aload_n C dX6_line_354 355 rfl 0 rfl ?_
      obtain ⟨k355, hg, h⟩ := p_cl_inv h
      refine je_callVv (As := []) (rest := []) C (metX6_lawLine hg) (en2_at kd66) rfl hdX6_lawLine rfl cwX6_274 rfl ⟨Nat.le_of_ble_eq_true rfl, Nat.le_of_ble_eq_true rfl⟩ (Nat.le_of_ble_eq_true rfl) dX6_line_355 358 rfl ⟨Nat.le_refl _, Nat.le_refl _⟩ ?_
      refine je_goto C 424 dX6_line_358 rfl ?_
      refine je_sub [0] [(0, .ref (G.2.1 + 66))] rfl ?_
      exact wX6_line_424 C k355 h
    refine je_tswd C 361 dX6_line_77 (je_out (0) 8 [(0 : Int32), (1 : Int32), (2 : Int32), (3 : Int32), (4 : Int32), (5 : Int32), (6 : Int32), (7 : Int32)] (by decide) (List.forall_mem_cons.mpr ⟨hn0, (List.forall_mem_cons.mpr ⟨hn1, (List.forall_mem_cons.mpr ⟨hn2, (List.forall_mem_cons.mpr ⟨hn3, (List.forall_mem_cons.mpr ⟨hn4, (List.forall_mem_cons.mpr ⟨hn5, (List.forall_mem_cons.mpr ⟨hn6, (List.forall_mem_cons.mpr ⟨hn7, (fun _ q => absurd q List.not_mem_nil)⟩)⟩)⟩)⟩)⟩)⟩)⟩)⟩)) rfl ?_
    refine je_aload_n C dX6_line_361 362 rfl 0 rfl ?_
    refine je_iconst C (5) dX6_line_362 363 rfl ic_5 ?_
    obtain ⟨t363, hg, h⟩ := p_cl_inv h
    refine je_callVi (As := [.int (5 : Int32)]) (rest := []) C (metX6_fresher hg) (en2_at kd66) rfl hdX6_fresher rfl cwX6_242 rfl ⟨Nat.le_of_ble_eq_true rfl, Nat.le_of_ble_eq_true rfl⟩ (Nat.le_of_ble_eq_true rfl) dX6_line_363 366 rfl ⟨Nat.le_refl _, Nat.le_refl _⟩ ?_
    refine je_istore_n C dX6_line_366 367 rfl (Nat.le_of_ble_eq_true rfl) [(2, .int t363), (0, .ref (G.2.1 + 66)), (1, .int v1)] rfl ?_
    refine je_aload_n C dX6_line_367 368 rfl 1 rfl ?_
    refine gX6_61 C dX6_line_368 371 rfl ?_
    refine je_iconst C (4) dX6_line_371 372 rfl ic_4 ?_
    refine je_iload_n C dX6_line_372 373 rfl 0 rfl ?_
    refine je_iadd C dX6_line_373 374 rfl ?_
    refine je_aload_n C dX6_line_374 375 rfl 1 rfl ?_
    refine je_aload_n C dX6_line_375 376 rfl 1 rfl ?_
    refine gX6_61 C dX6_line_376 379 rfl ?_
    refine je_iconst C (4) dX6_line_379 380 rfl ic_4 ?_
    refine je_iload_n C dX6_line_380 381 rfl 0 rfl ?_
    obtain ⟨q381, hg, h⟩ := p_cl_inv h
    refine je_callVi (As := [.ref (G.2.1 + 84), .int (4 : Int32), .int t363]) (rest := [.int ((4 : Int32) + t363), .ref (G.2.1 + 84)]) C (metX6_fresh hg) (en2_at kd66) rfl hdX6_fresh rfl cwX6_252 rfl ⟨Nat.le_of_ble_eq_true rfl, Nat.le_of_ble_eq_true rfl⟩ (Nat.le_of_ble_eq_true rfl) dX6_line_381 384 rfl ⟨Nat.le_refl _, Nat.le_refl _⟩ ?_
    refine je_lti h (fun t381 h => ?_)
    refine jk_lt h (fun k381 h => ?_)
    refine jk_iast C kd84 dX6_line_384 385 rfl h (fun h => ?_)
    refine jk_lt h (fun k384 h => ?_)
    refine je_aload_n C dX6_line_385 386 rfl 1 rfl ?_
    refine gX6_64 C dX6_line_386 389 rfl ?_
    refine je_bipush C (8) dX6_line_389 391 rfl bp_8 ?_
    refine je_iload_n C dX6_line_391 392 rfl 0 rfl ?_
    refine je_iadd C dX6_line_392 393 rfl ?_
    refine je_aload_n C dX6_line_393 394 rfl 1 rfl ?_
    refine je_bipush C (7) dX6_line_394 396 rfl bp_7 ?_
    obtain ⟨t396, hg, h⟩ := p_cl_inv h
    refine je_callVi (As := [.int (7 : Int32)]) (rest := [.int ((8 : Int32) + t363), .ref (G.2.1 + 85)]) C (metX6_fresher hg) (en2_at kd66) rfl hdX6_fresher rfl cwX6_242 rfl ⟨Nat.le_of_ble_eq_true rfl, Nat.le_of_ble_eq_true rfl⟩ (Nat.le_of_ble_eq_true rfl) dX6_line_396 399 rfl ⟨Nat.le_refl _, Nat.le_refl _⟩ ?_
    refine jk_iast C kd85 dX6_line_399 400 rfl h (fun h => ?_)
    refine jk_lt h (fun k399 h => ?_)
    refine je_aload_n C dX6_line_400 401 rfl 1 rfl ?_
    obtain ⟨k401, hg, h⟩ := p_cl_inv h
    refine je_callVv (As := []) (rest := []) C ((met_gX6 F _ _).1 hg) (en2_at kd66) rfl hdX6_expression rfl cwX6_277 rfl ⟨Nat.le_of_ble_eq_true rfl, Nat.le_of_ble_eq_true rfl⟩ (Nat.le_of_ble_eq_true rfl) dX6_line_401 404 rfl ⟨Nat.le_refl _, Nat.le_refl _⟩ ?_
    refine je_aload_n C dX6_line_404 405 rfl 1 rfl ?_
    refine gX6_67 C dX6_line_405 408 rfl ?_
    refine je_bipush C (8) dX6_line_408 410 rfl bp_8 ?_
    refine je_iload_n C dX6_line_410 411 rfl 0 rfl ?_
    refine je_iadd C dX6_line_411 412 rfl ?_
    refine je_aload_n C dX6_line_412 413 rfl 1 rfl ?_
    refine je_bipush C (7) dX6_line_413 415 rfl bp_7 ?_
    obtain ⟨t415, hg, h⟩ := p_cl_inv h
    refine je_callVi (As := [.int (7 : Int32)]) (rest := [.int ((8 : Int32) + t363), .ref (G.2.1 + 86)]) C (metX6_fresher hg) (en2_at kd66) rfl hdX6_fresher rfl cwX6_242 rfl ⟨Nat.le_of_ble_eq_true rfl, Nat.le_of_ble_eq_true rfl⟩ (Nat.le_of_ble_eq_true rfl) dX6_line_415 418 rfl ⟨Nat.le_refl _, Nat.le_refl _⟩ ?_
    refine jk_iast C kd86 dX6_line_418 419 rfl h (fun h => ?_)
    refine jk_lt h (fun k418 h => ?_)
    refine je_aload_n C dX6_line_419 420 rfl 1 rfl ?_
    refine je_iconst C (5) dX6_line_420 421 rfl ic_5 ?_
    obtain ⟨k421, hg, h⟩ := p_cl_inv h
    refine je_callVv (As := [.int (5 : Int32)]) (rest := []) C (metX6_oneMore hg) (en2_at kd66) rfl hdX6_oneMore rfl cwX6_259 rfl ⟨Nat.le_of_ble_eq_true rfl, Nat.le_of_ble_eq_true rfl⟩ (Nat.le_of_ble_eq_true rfl) dX6_line_421 424 rfl ⟨Nat.le_refl _, Nat.le_refl _⟩ ?_
    refine je_sub [1] [(0, .ref (G.2.1 + 66))] rfl ?_
    exact wX6_line_424 C k421 h
  cases h
  exact je_vret C dX6_line_71
set_option maxHeartbeats 4000000 in
theorem metX6_line {l : Launch} {G : je_G} {dyn : Nat → Option je_E} {sz : Nat} {F : Nat} {κ : kp_K}  {r9 : kp_K} (h : pX6_line F κ = some r9) : MetS l G yX6_line cX6_line 3 none 709 14890 0 0 [.ref (G.2.1 + 66)] (en2 G κ dyn) sz none (en2 G r9 dyn) sz := by
  refine je_met "MinistryDesksModel" rfl (by decide +kernel) (Nat.le_of_ble_eq_true rfl) [(0, .ref (G.2.1 + 66))] rfl (fun p e s m args below meth c C => ?_)
  unfold pX6_line at h
  refine je_aload_n C dX6_line_0 1 rfl 0 rfl ?_
  refine gX6_185 C dX6_line_1 4 rfl ?_
  refine je_if_ne C 16 dX6_line_4 7 rfl rfl h (fun h => ?_) (fun h => ?_)
  · exact wX6_line_16 C κ h
  refine je_aload_n C dX6_line_7 8 rfl 0 rfl ?_
  refine gX6_195 C dX6_line_8 11 rfl ?_
  refine je_bipush C (8) dX6_line_11 13 rfl bp_8 ?_
  refine je_icmp_le C 22 dX6_line_13 16 rfl rfl h (fun h => ?_) (fun h => ?_)
  · refine je_aload_n C dX6_line_22 23 rfl 0 rfl ?_
    refine gX6_195 C dX6_line_23 26 rfl ?_
    refine je_lti h (fun t26 h => ?_)
    refine je_istore_n C dX6_line_26 27 rfl (Nat.le_of_ble_eq_true rfl) [(1, .int t26), (0, .ref (G.2.1 + 66))] rfl ?_
    refine je_aload_n C dX6_line_27 28 rfl 1 rfl ?_
    refine je_iload_n C dX6_line_28 29 rfl 0 rfl ?_
    obtain ⟨t29, hg, h⟩ := p_cl_inv h
    refine je_callVi (As := [.int t26]) (rest := []) C (metX6_isFull hg) (en2_at kd66) rfl hdX6_isFull rfl cwX6_246 rfl ⟨Nat.le_of_ble_eq_true rfl, Nat.le_of_ble_eq_true rfl⟩ (Nat.le_of_ble_eq_true rfl) dX6_line_29 32 rfl ⟨Nat.le_refl _, Nat.le_refl _⟩ ?_
    refine je_if_eq C 43 dX6_line_32 35 rfl rfl h (fun h => ?_) (fun h => ?_)
    · refine je_iload_n C dX6_line_43 44 rfl 0 rfl ?_
      refine je_bipush C (6) dX6_line_44 46 rfl bp_6 ?_
      refine je_icmp_ne C 64 dX6_line_46 49 rfl rfl h (fun h => ?_) (fun h => ?_)
      · refine je_sub [1, 0] [(0, .ref (G.2.1 + 66)), (1, .int t26)] rfl ?_
        exact wX6_line_64 C κ t26 h
      refine je_aload_n C dX6_line_49 50 rfl 1 rfl ?_
      refine gX6_249 C dX6_line_50 53 rfl ?_
      refine je_iconst C (1) dX6_line_53 54 rfl ic_1 ?_
      refine je_iand C dX6_line_54 55 rfl ?_
      refine je_iconst C (1) dX6_line_55 56 rfl ic_1 ?_
      refine je_icmp_ne C 64 dX6_line_56 59 rfl rfl h (fun h => ?_) (fun h => ?_)
      · refine je_sub [1, 0] [(0, .ref (G.2.1 + 66)), (1, .int t26)] rfl ?_
        exact wX6_line_64 C κ t26 h
      refine je_aload_n C dX6_line_59 60 rfl 1 rfl ?_
      refine je_iconst C (3) dX6_line_60 61 rfl ic_3 ?_
      obtain ⟨k61, hg, h⟩ := p_cl_inv h
      refine je_callVv (As := [.int (3 : Int32)]) (rest := []) C (metX6_wrong hg) (en2_at kd66) rfl hdX6_wrong rfl cwX6_228 rfl ⟨Nat.le_of_ble_eq_true rfl, Nat.le_of_ble_eq_true rfl⟩ (Nat.le_of_ble_eq_true rfl) dX6_line_61 64 rfl ⟨Nat.le_refl _, Nat.le_refl _⟩ ?_
      refine je_sub [1, 0] [(0, .ref (G.2.1 + 66)), (1, .int t26)] rfl ?_
      exact wX6_line_64 C k61 t26 h
    refine je_aload_n C dX6_line_35 36 rfl 1 rfl ?_
    refine je_iconst C (2) dX6_line_36 37 rfl ic_2 ?_
    obtain ⟨k37, hg, h⟩ := p_cl_inv h
    refine je_callVv (As := [.int (2 : Int32)]) (rest := []) C (metX6_wrong hg) (en2_at kd66) rfl hdX6_wrong rfl cwX6_228 rfl ⟨Nat.le_of_ble_eq_true rfl, Nat.le_of_ble_eq_true rfl⟩ (Nat.le_of_ble_eq_true rfl) dX6_line_37 40 rfl ⟨Nat.le_refl _, Nat.le_refl _⟩ ?_
    refine je_goto C 64 dX6_line_40 rfl ?_
    refine je_sub [1, 0] [(0, .ref (G.2.1 + 66)), (1, .int t26)] rfl ?_
    exact wX6_line_64 C k37 t26 h
  exact wX6_line_16 C κ h
