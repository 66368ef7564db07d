/-! sums' own methods: walks of its methods: printed by gen -/
set_option maxRecDepth 100000
theorem mlX3_19 : Cond.methodLink "MinistryDesks$Scene" 19 Lib.MathLoose.abs_long.x ∈ lw_all ∧ Cond.static Lib.MathLoose.abs_long.x ∈ lw_all ∧ Cond.initialized "java/lang/Math" ∈ lw_all ∧ Cond.code Lib.MathLoose.abs_long.x Lib.MathLoose.abs_long.code 2 (some .long) ∈ lw_all := ⟨q1236, q1237, q173, q1238⟩
theorem gX3_15 {p : Program} {l : Launch} {e : Env} {R : Room} {s : State} {m : MethodId} {args : Array Value} {below : List Frame} {meth : Method} {c : Code} {Q : State → Prop} {G : je_G} {cc : ByteArray} {nL : Nat} {rt : Option FieldType} {sz cells slots pc : Nat} {L : List (Nat × Value)} {st : List Value} {κ : kp_K} {dyn : Nat → Option je_E} (C : Cx p s m args meth c G "MinistryDesks$Scene" cc nL rt) (d : decode cc pc = .ok (.getfield 15, 3)) (n : Nat) (hn : pc + 3 = n) (kk : Js p l e R s m args below meth c G nL Q (en2 G κ dyn) sz cells slots n L (.int (κ.1 9 1) :: st)) : Js p l e R s m args below meth c G nL Q (en2 G κ dyn) sz cells slots pc L (.ref (G.2.1 + 9) :: st) := jk_getI (k := 1) C kd9 rfl in_X3 rfl (by decide) q311 rfl d n hn kk
theorem sX3_15 {p : Program} {l : Launch} {e : Env} {R : Room} {s : State} {m : MethodId} {args : Array Value} {below : List Frame} {meth : Method} {c : Code} {Q : State → Prop} {G : je_G} {cc : ByteArray} {nL : Nat} {rt : Option FieldType} {sz cells slots pc : Nat} {L : List (Nat × Value)} {st : List Value} {κ : kp_K} {dyn : Nat → Option je_E} (C : Cx p s m args meth c G "MinistryDesks$Scene" cc nL rt) {v : Int32} (hz : v = 0 ∨ v = 1) (d : decode cc pc = .ok (.putfield 15, 3)) (n : Nat) (hn : pc + 3 = n) (kk : Js p l e R s m args below meth c G nL Q (en2 G (s_i κ 9 1 v) dyn) sz cells slots n L st) : Js p l e R s m args below meth c G nL Q (en2 G κ dyn) sz cells slots pc L (.int v :: .ref (G.2.1 + 9) :: st) := jk_putZ (k := 1) C kd9 rfl in_X3 tyX3 tyX3_ok nmX3 rfl (by decide) q311 rfl rfl rfl hz d n hn kk
set_option maxHeartbeats 4000000 in
theorem wX3_inBound_24 {p : Program} {l : Launch} {e : Env} {s : State} {m : MethodId} {args : Array Value} {below : List Frame} {meth : Method} {c : Code} {G : je_G} {dyn : Nat → Option je_E} {sz : Nat} {r9 : Int64 × kp_K} (C : Cx p s m args meth c G "MinistryDesks$Scene" cX3_inBound 3 (some .long)) (κ : kp_K) (v1 : Int64) (s0 : Int32) (h : bX3_inBound_24 κ v1 s0 = some r9) : Js p l e ({ frames := 1, cells := 0, slots := 0, locals := 23 } : Room) s m args below meth c G 3 (MQ below (je_Q G (some (.long r9.1)) (en2 G r9.2 dyn) sz) args s 0 0 (je_A G)) (en2 G κ dyn) sz 0 0 24 [(0, .ref (G.2.1 + 9)), (1, .long v1)] [.int s0, .ref (G.2.1 + 9)] := by
  unfold bX3_inBound_24 at h
  obtain ⟨hz, h⟩ := p_cz_inv h
  refine sX3_15 C hz dX3_inBound_24 27 rfl ?_
  refine jk_lt h (fun k24 h => ?_)
  refine je_aload_n C dX3_inBound_27 28 rfl 0 rfl ?_
  refine gX3_15 C dX3_inBound_28 31 rfl ?_
  refine je_if_eq C 38 dX3_inBound_31 34 rfl rfl h (fun h => ?_) (fun h => ?_)
  · refine je_lload_n C dX3_inBound_38 39 rfl 1 rfl ?_
    cases h
    exact je_lret C dX3_inBound_39
  refine je_lconst C (0) dX3_inBound_34 35 rfl rfl ?_
  refine je_goto C 39 dX3_inBound_35 rfl ?_
  cases h
  exact je_lret C dX3_inBound_39
set_option maxHeartbeats 4000000 in
theorem wX3_inBound_19 {p : Program} {l : Launch} {e : Env} {s : State} {m : MethodId} {args : Array Value} {below : List Frame} {meth : Method} {c : Code} {G : je_G} {dyn : Nat → Option je_E} {sz : Nat} {r9 : Int64 × kp_K} (C : Cx p s m args meth c G "MinistryDesks$Scene" cX3_inBound 3 (some .long)) (κ : kp_K) (v1 : Int64) (h : bX3_inBound_19 κ v1 = some r9) : Js p l e ({ frames := 1, cells := 0, slots := 0, locals := 23 } : Room) s m args below meth c G 3 (MQ below (je_Q G (some (.long r9.1)) (en2 G r9.2 dyn) sz) args s 0 0 (je_A G)) (en2 G κ dyn) sz 0 0 19 [(0, .ref (G.2.1 + 9)), (1, .long v1)] [.ref (G.2.1 + 9)] := by
  unfold bX3_inBound_19 at h
  refine je_iconst C (1) dX3_inBound_19 20 rfl ic_1 ?_
  refine je_goto C 24 dX3_inBound_20 rfl ?_
  exact wX3_inBound_24 C κ v1 (1 : Int32) h
set_option maxHeartbeats 4000000 in
theorem metX3_inBound {l : Launch} {G : je_G} {dyn : Nat → Option je_E} {sz : Nat} {κ : kp_K} {v1 : Int64} {r9 : Int64 × kp_K} (h : pX3_inBound κ v1 = some r9) : MetS l G yX3_inBound cX3_inBound 3 (some .long) 1 23 0 0 [.ref (G.2.1 + 9), .long v1] (en2 G κ dyn) sz (some (.long r9.1)) (en2 G r9.2 dyn) sz := by
  refine je_met "MinistryDesks$Scene" rfl (by decide +kernel) (Nat.le_of_ble_eq_true rfl) [(0, .ref (G.2.1 + 9)), (1, .long v1)] rfl (fun p e s m args below meth c C => ?_)
  unfold pX3_inBound at h
  refine je_aload_n C dX3_inBound_0 1 rfl 0 rfl ?_
  refine je_aload_n C dX3_inBound_1 2 rfl 0 rfl ?_
  refine gX3_15 C dX3_inBound_2 5 rfl ?_
  refine je_if_ne C 19 dX3_inBound_5 8 rfl rfl h (fun h => ?_) (fun h => ?_)
  · exact wX3_inBound_19 C κ v1 h
  refine je_lload_n C dX3_inBound_8 9 rfl 1 rfl ?_
  refine je_mabs_long C ⟨Nat.le_of_ble_eq_true rfl, Nat.le_of_ble_eq_true rfl⟩ (Nat.le_of_ble_eq_true rfl) mlX3_19 dX3_inBound_9 12 rfl ⟨Nat.le_refl _, Nat.le_refl _⟩ ?_
  refine je_ldc2 C q1239 dX3_inBound_12 15 rfl ?_
  refine je_lcmp C dX3_inBound_15 16 rfl ?_
  refine je_if_le C 23 dX3_inBound_16 19 rfl rfl h (fun h => ?_) (fun h => ?_)
  · refine je_iconst C (0) dX3_inBound_23 24 rfl ic_0 ?_
    exact wX3_inBound_24 C κ v1 (0 : Int32) h
  exact wX3_inBound_19 C κ v1 h
theorem hdX3_inBound : je_hd yX3_inBound 1 := ⟨by decide +kernel, by decide +kernel, by decide +kernel⟩
theorem cwX17_15 : GoodIn lw_all (wsV "MinistryDesks$Worked" 15 "MinistryDesks$Scene" yX3_inBound (ws_ yX3_inBound cX3_inBound 3 (some .long))) := lw_V q1232 q1233 q1234 q166 q1235
theorem mlX17_25 : Cond.methodLink "MinistryDesks$Worked" 25 Lib.MathLoose.abs_long.x ∈ lw_all ∧ Cond.static Lib.MathLoose.abs_long.x ∈ lw_all ∧ Cond.initialized "java/lang/Math" ∈ lw_all ∧ Cond.code Lib.MathLoose.abs_long.x Lib.MathLoose.abs_long.code 2 (some .long) ∈ lw_all := ⟨q1240, q1237, q173, q1238⟩
theorem gX17_21 {p : Program} {l : Launch} {e : Env} {R : Room} {s : State} {m : MethodId} {args : Array Value} {below : List Frame} {meth : Method} {c : Code} {Q : State → Prop} {G : je_G} {cc : ByteArray} {nL : Nat} {rt : Option FieldType} {sz cells slots pc : Nat} {L : List (Nat × Value)} {st : List Value} {κ : kp_K} {dyn : Nat → Option je_E} (C : Cx p s m args meth c G "MinistryDesks$Worked" cc nL rt) (d : decode cc pc = .ok (.getfield 21, 3)) (n : Nat) (hn : pc + 3 = n) (kk : Js p l e R s m args below meth c G nL Q (en2 G κ dyn) sz cells slots n L (.int (κ.1 9 1) :: st)) : Js p l e R s m args below meth c G nL Q (en2 G κ dyn) sz cells slots pc L (.ref (G.2.1 + 9) :: st) := jk_getIN (k := 1) C kd9 rfl in_X3 rfl (by decide) q312 rfl d n hn kk
theorem sX17_21 {p : Program} {l : Launch} {e : Env} {R : Room} {s : State} {m : MethodId} {args : Array Value} {below : List Frame} {meth : Method} {c : Code} {Q : State → Prop} {G : je_G} {cc : ByteArray} {nL : Nat} {rt : Option FieldType} {sz cells slots pc : Nat} {L : List (Nat × Value)} {st : List Value} {κ : kp_K} {dyn : Nat → Option je_E} (C : Cx p s m args meth c G "MinistryDesks$Worked" cc nL rt) {v : Int32} (hz : v = 0 ∨ v = 1) (d : decode cc pc = .ok (.putfield 21, 3)) (n : Nat) (hn : pc + 3 = n) (kk : Js p l e R s m args below meth c G nL Q (en2 G (s_i κ 9 1 v) dyn) sz cells slots n L st) : Js p l e R s m args below meth c G nL Q (en2 G κ dyn) sz cells slots pc L (.int v :: .ref (G.2.1 + 9) :: st) := jk_putZN (k := 1) C kd9 rfl in_X3 tyX3 tyX3_ok nmX3 rfl (by decide) q312 rfl rfl rfl hz d n hn kk
set_option maxHeartbeats 4000000 in
theorem wX17_of_90 {p : Program} {l : Launch} {e : Env} {s : State} {m : MethodId} {args : Array Value} {below : List Frame} {meth : Method} {c : Code} {G : je_G} {dyn : Nat → Option je_E} {sz : Nat} {sg : Int32} {a : Nat} {Vw : Nat → Value} {r9 : Int64 × kp_K} (C : Cx p s m args meth c G "MinistryDesks$Worked" cX17_of 6 (some .long)) (hw0 : ∀ κ, en2 G κ dyn a = some (.inr (17, Vw))) (hw1 : Vw 2 = .int sg) (κ : kp_K) (v2 : Int64) (v4 : Int64) (s0 : Int32) (h : bX17_of_90 sg κ v2 v4 s0 = some r9) : Js p l e ({ frames := 2, cells := 0, slots := 0, locals := 45 } : Room) s m args below meth c G 6 (MQ below (je_Q G (some (.long r9.1)) (en2 G r9.2 dyn) sz) args s 0 0 (je_A G)) (en2 G κ dyn) sz 0 0 90 [(1, .ref (G.2.1 + 9)), (2, .long v2), (4, .long v4)] [.int s0, .ref (G.2.1 + 9)] := by
  unfold bX17_of_90 at h
  obtain ⟨hz, h⟩ := p_cz_inv h
  refine sX17_21 C hz dX17_of_90 93 rfl ?_
  refine jk_lt h (fun k90 h => ?_)
  refine je_aload_n C dX17_of_93 94 rfl 0 rfl ?_
  refine gX17_21 C dX17_of_94 97 rfl ?_
  refine je_if_eq C 104 dX17_of_97 100 rfl rfl h (fun h => ?_) (fun h => ?_)
  · refine je_lload_n C dX17_of_104 105 rfl 1 rfl ?_
    refine je_lload C dX17_of_105 107 rfl 2 rfl ?_
    refine je_lmul C dX17_of_107 108 rfl ?_
    cases h
    exact je_lret C dX17_of_108
  refine je_lconst C (0) dX17_of_100 101 rfl rfl ?_
  refine je_goto C 108 dX17_of_101 rfl ?_
  cases h
  exact je_lret C dX17_of_108
set_option maxHeartbeats 4000000 in
theorem wX17_of_85 {p : Program} {l : Launch} {e : Env} {s : State} {m : MethodId} {args : Array Value} {below : List Frame} {meth : Method} {c : Code} {G : je_G} {dyn : Nat → Option je_E} {sz : Nat} {sg : Int32} {a : Nat} {Vw : Nat → Value} {r9 : Int64 × kp_K} (C : Cx p s m args meth c G "MinistryDesks$Worked" cX17_of 6 (some .long)) (hw0 : ∀ κ, en2 G κ dyn a = some (.inr (17, Vw))) (hw1 : Vw 2 = .int sg) (κ : kp_K) (v2 : Int64) (v4 : Int64) (h : bX17_of_85 sg κ v2 v4 = some r9) : Js p l e ({ frames := 2, cells := 0, slots := 0, locals := 45 } : Room) s m args below meth c G 6 (MQ below (je_Q G (some (.long r9.1)) (en2 G r9.2 dyn) sz) args s 0 0 (je_A G)) (en2 G κ dyn) sz 0 0 85 [(1, .ref (G.2.1 + 9)), (2, .long v2), (4, .long v4)] [.ref (G.2.1 + 9)] := by
  unfold bX17_of_85 at h
  refine je_iconst C (1) dX17_of_85 86 rfl ic_1 ?_
  refine je_goto C 90 dX17_of_86 rfl ?_
  exact wX17_of_90 C hw0 hw1 κ v2 v4 (1 : Int32) h
set_option maxHeartbeats 4000000 in
theorem wX17_of_89 {p : Program} {l : Launch} {e : Env} {s : State} {m : MethodId} {args : Array Value} {below : List Frame} {meth : Method} {c : Code} {G : je_G} {dyn : Nat → Option je_E} {sz : Nat} {sg : Int32} {a : Nat} {Vw : Nat → Value} {r9 : Int64 × kp_K} (C : Cx p s m args meth c G "MinistryDesks$Worked" cX17_of 6 (some .long)) (hw0 : ∀ κ, en2 G κ dyn a = some (.inr (17, Vw))) (hw1 : Vw 2 = .int sg) (κ : kp_K) (v2 : Int64) (v4 : Int64) (h : bX17_of_89 sg κ v2 v4 = some r9) : Js p l e ({ frames := 2, cells := 0, slots := 0, locals := 45 } : Room) s m args below meth c G 6 (MQ below (je_Q G (some (.long r9.1)) (en2 G r9.2 dyn) sz) args s 0 0 (je_A G)) (en2 G κ dyn) sz 0 0 89 [(1, .ref (G.2.1 + 9)), (2, .long v2), (4, .long v4)] [.ref (G.2.1 + 9)] := by
  unfold bX17_of_89 at h
  refine je_iconst C (0) dX17_of_89 90 rfl ic_0 ?_
  exact wX17_of_90 C hw0 hw1 κ v2 v4 (0 : Int32) h
set_option maxHeartbeats 4000000 in
theorem wX17_of_129 {p : Program} {l : Launch} {e : Env} {s : State} {m : MethodId} {args : Array Value} {below : List Frame} {meth : Method} {c : Code} {G : je_G} {dyn : Nat → Option je_E} {sz : Nat} {sg : Int32} {a : Nat} {Vw : Nat → Value} {r9 : Int64 × kp_K} (C : Cx p s m args meth c G "MinistryDesks$Worked" cX17_of 6 (some .long)) (hw0 : ∀ κ, en2 G κ dyn a = some (.inr (17, Vw))) (hw1 : Vw 2 = .int sg) (κ : kp_K) (v2 : Int64) (v4 : Int64) (s0 : Int32) (h : bX17_of_129 sg κ v2 v4 s0 = some r9) : Js p l e ({ frames := 2, cells := 0, slots := 0, locals := 45 } : Room) s m args below meth c G 6 (MQ below (je_Q G (some (.long r9.1)) (en2 G r9.2 dyn) sz) args s 0 0 (je_A G)) (en2 G κ dyn) sz 0 0 129 [(1, .ref (G.2.1 + 9)), (2, .long v2), (4, .long v4)] [.int s0, .ref (G.2.1 + 9)] := by
  unfold bX17_of_129 at h
  obtain ⟨hz, h⟩ := p_cz_inv h
  refine sX17_21 C hz dX17_of_129 132 rfl ?_
  refine jk_lt h (fun k129 h => ?_)
  refine je_aload_n C dX17_of_132 133 rfl 0 rfl ?_
  refine gX17_21 C dX17_of_133 136 rfl ?_
  refine je_if_eq C 143 dX17_of_136 139 rfl rfl h (fun h => ?_) (fun h => ?_)
  · refine je_lload_n C dX17_of_143 144 rfl 1 rfl ?_
    refine je_lload C dX17_of_144 146 rfl 2 rfl ?_
    obtain ⟨hne, h⟩ := p_cdl_inv h
    refine je_ldiv C dX17_of_146 147 rfl hne ?_
    cases h
    exact je_lret C dX17_of_147
  refine je_lconst C (0) dX17_of_139 140 rfl rfl ?_
  refine je_goto C 147 dX17_of_140 rfl ?_
  cases h
  exact je_lret C dX17_of_147
set_option maxHeartbeats 4000000 in
theorem wX17_of_124 {p : Program} {l : Launch} {e : Env} {s : State} {m : MethodId} {args : Array Value} {below : List Frame} {meth : Method} {c : Code} {G : je_G} {dyn : Nat → Option je_E} {sz : Nat} {sg : Int32} {a : Nat} {Vw : Nat → Value} {r9 : Int64 × kp_K} (C : Cx p s m args meth c G "MinistryDesks$Worked" cX17_of 6 (some .long)) (hw0 : ∀ κ, en2 G κ dyn a = some (.inr (17, Vw))) (hw1 : Vw 2 = .int sg) (κ : kp_K) (v2 : Int64) (v4 : Int64) (h : bX17_of_124 sg κ v2 v4 = some r9) : Js p l e ({ frames := 2, cells := 0, slots := 0, locals := 45 } : Room) s m args below meth c G 6 (MQ below (je_Q G (some (.long r9.1)) (en2 G r9.2 dyn) sz) args s 0 0 (je_A G)) (en2 G κ dyn) sz 0 0 124 [(1, .ref (G.2.1 + 9)), (2, .long v2), (4, .long v4)] [.ref (G.2.1 + 9)] := by
  unfold bX17_of_124 at h
  refine je_iconst C (1) dX17_of_124 125 rfl ic_1 ?_
  refine je_goto C 129 dX17_of_125 rfl ?_
  exact wX17_of_129 C hw0 hw1 κ v2 v4 (1 : Int32) h
set_option maxHeartbeats 4000000 in
theorem metX17_of {l : Launch} {G : je_G} {dyn : Nat → Option je_E} {sz : Nat} {sg : Int32} {a : Nat} {Vw : Nat → Value} {κ : kp_K} {v2 : Int64} {v4 : Int64} {r9 : Int64 × kp_K} (hw0 : ∀ κ, en2 G κ dyn a = some (.inr (17, Vw))) (hw1 : Vw 2 = .int sg) (h : pX17_of sg κ v2 v4 = some r9) : MetS l G yX17_of cX17_of 6 (some .long) 2 45 0 0 [.ref (G.2.1 + a), .ref (G.2.1 + 9), .long v2, .long v4] (en2 G κ dyn) sz (some (.long r9.1)) (en2 G r9.2 dyn) sz := by
  refine je_met "MinistryDesks$Worked" rfl (by decide +kernel) (Nat.le_of_ble_eq_true rfl) [(0, .ref (G.2.1 + a)), (1, .ref (G.2.1 + 9)), (2, .long v2), (4, .long v4)] rfl (fun p e s m args below meth c C => ?_)
  unfold pX17_of at h
  refine je_aload_n C dX17_of_0 1 rfl 0 rfl ?_
  refine je_get (k := 2) C (hw0 _) rfl in_X17 (by decide) q1098 rfl dX17_of_1 4 rfl hw1 ?_
  refine je_ite h (fun hx h => ?_) (fun hn0 h => ?_)
  · refine je_tsw C (42) 54 dX17_of_4 hx (by decide) (by decide) rfl rfl ?_
    refine je_aload_n C dX17_of_54 55 rfl 1 rfl ?_
    refine je_aload_n C dX17_of_55 56 rfl 1 rfl ?_
    refine gX17_21 C dX17_of_56 59 rfl ?_
    refine je_if_ne C 85 dX17_of_59 62 rfl rfl h (fun h => ?_) (fun h => ?_)
    · refine je_sub [1, 2, 3] [(1, .ref (G.2.1 + 9)), (2, .long v2), (4, .long v4)] rfl ?_
      exact wX17_of_85 C hw0 hw1 κ v2 v4 h
    refine je_lload_n C dX17_of_62 63 rfl 2 rfl ?_
    refine je_lconst C (0) dX17_of_63 64 rfl rfl ?_
    refine je_lcmp C dX17_of_64 65 rfl ?_
    refine je_if_eq C 89 dX17_of_65 68 rfl rfl h (fun h => ?_) (fun h => ?_)
    · refine je_sub [1, 2, 3] [(1, .ref (G.2.1 + 9)), (2, .long v2), (4, .long v4)] rfl ?_
      exact wX17_of_89 C hw0 hw1 κ v2 v4 h
    refine je_lload C dX17_of_68 70 rfl 3 rfl ?_
    refine je_mabs_long C ⟨Nat.le_of_ble_eq_true rfl, Nat.le_of_ble_eq_true rfl⟩ (Nat.le_of_ble_eq_true rfl) mlX17_25 dX17_of_70 73 rfl ⟨Nat.le_refl _, Nat.le_refl _⟩ ?_
    refine je_ldc2 C q1241 dX17_of_73 76 rfl ?_
    refine je_lload_n C dX17_of_76 77 rfl 2 rfl ?_
    refine je_mabs_long C ⟨Nat.le_of_ble_eq_true rfl, Nat.le_of_ble_eq_true rfl⟩ (Nat.le_of_ble_eq_true rfl) mlX17_25 dX17_of_77 80 rfl ⟨Nat.le_refl _, Nat.le_refl _⟩ ?_
    obtain ⟨hne, h⟩ := p_cdl_inv h
    refine je_ldiv C dX17_of_80 81 rfl hne ?_
    refine je_lcmp C dX17_of_81 82 rfl ?_
    refine je_if_le C 89 dX17_of_82 85 rfl rfl h (fun h => ?_) (fun h => ?_)
    · refine je_sub [1, 2, 3] [(1, .ref (G.2.1 + 9)), (2, .long v2), (4, .long v4)] rfl ?_
      exact wX17_of_89 C hw0 hw1 κ v2 v4 h
    refine je_sub [1, 2, 3] [(1, .ref (G.2.1 + 9)), (2, .long v2), (4, .long v4)] rfl ?_
    exact wX17_of_85 C hw0 hw1 κ v2 v4 h
  refine je_ite h (fun hx h => ?_) (fun hn1 h => ?_)
  · refine je_tsw C (43) 36 dX17_of_4 hx (by decide) (by decide) rfl rfl ?_
    refine je_aload_n C dX17_of_36 37 rfl 1 rfl ?_
    refine je_lload_n C dX17_of_37 38 rfl 2 rfl ?_
    refine je_lload C dX17_of_38 40 rfl 3 rfl ?_
    refine je_ladd C dX17_of_40 41 rfl ?_
    obtain ⟨q41, hg, h⟩ := p_cl_inv h
    refine je_callVl (As := [.long (v2 + v4)]) (rest := []) C (metX3_inBound hg) (en2_at kd9) rfl hdX3_inBound rfl cwX17_15 rfl ⟨Nat.le_of_ble_eq_true rfl, Nat.le_of_ble_eq_true rfl⟩ (Nat.le_of_ble_eq_true rfl) dX17_of_41 44 rfl ⟨Nat.le_refl _, Nat.le_refl _⟩ ?_
    refine je_ltl h (fun t41 h => ?_)
    refine jk_lt h (fun k41 h => ?_)
    cases h
    exact je_lret C dX17_of_44
  refine je_ite h (fun hx h => ?_) (fun hn2 h => ?_)
  · refine je_tsw C (44) 109 dX17_of_4 hx (by decide) (by decide) rfl rfl ?_
    refine je_aload_n C dX17_of_109 110 rfl 1 rfl ?_
    refine je_aload_n C dX17_of_110 111 rfl 1 rfl ?_
    refine gX17_21 C dX17_of_111 114 rfl ?_
    refine je_if_ne C 124 dX17_of_114 117 rfl rfl h (fun h => ?_) (fun h => ?_)
    · refine je_sub [1, 2, 3] [(1, .ref (G.2.1 + 9)), (2, .long v2), (4, .long v4)] rfl ?_
      exact wX17_of_124 C hw0 hw1 κ v2 v4 h
    refine je_lload C dX17_of_117 119 rfl 3 rfl ?_
    refine je_lconst C (0) dX17_of_119 120 rfl rfl ?_
    refine je_lcmp C dX17_of_120 121 rfl ?_
    refine je_if_ne C 128 dX17_of_121 124 rfl rfl h (fun h => ?_) (fun h => ?_)
    · refine je_iconst C (0) dX17_of_128 129 rfl ic_0 ?_
      refine je_sub [1, 2, 3] [(1, .ref (G.2.1 + 9)), (2, .long v2), (4, .long v4)] rfl ?_
      exact wX17_of_129 C hw0 hw1 κ v2 v4 (0 : Int32) h
    refine je_sub [1, 2, 3] [(1, .ref (G.2.1 + 9)), (2, .long v2), (4, .long v4)] rfl ?_
    exact wX17_of_124 C hw0 hw1 κ v2 v4 h
  refine je_ite h (fun hx h => ?_) (fun hn3 h => ?_)
  · refine je_tsw C (45) 45 dX17_of_4 hx (by decide) (by decide) rfl rfl ?_
    refine je_aload_n C dX17_of_45 46 rfl 1 rfl ?_
    refine je_lload_n C dX17_of_46 47 rfl 2 rfl ?_
    refine je_lload C dX17_of_47 49 rfl 3 rfl ?_
    refine je_lsub C dX17_of_49 50 rfl ?_
    obtain ⟨q50, hg, h⟩ := p_cl_inv h
    refine je_callVl (As := [.long (v2 - v4)]) (rest := []) C (metX3_inBound hg) (en2_at kd9) rfl hdX3_inBound rfl cwX17_15 rfl ⟨Nat.le_of_ble_eq_true rfl, Nat.le_of_ble_eq_true rfl⟩ (Nat.le_of_ble_eq_true rfl) dX17_of_50 53 rfl ⟨Nat.le_refl _, Nat.le_refl _⟩ ?_
    refine je_ltl h (fun t50 h => ?_)
    refine jk_lt h (fun k50 h => ?_)
    cases h
    exact je_lret C dX17_of_53
  refine je_tswd C 109 dX17_of_4 (je_out (42) 4 [(42 : Int32), (43 : Int32), (44 : Int32), (45 : Int32)] (by decide) (List.forall_mem_cons.mpr ⟨hn0, (List.forall_mem_cons.mpr ⟨hn1, (List.forall_mem_cons.mpr ⟨hn2, (List.forall_mem_cons.mpr ⟨hn3, (fun _ q => absurd q List.not_mem_nil)⟩)⟩)⟩)⟩)) rfl ?_
  refine je_aload_n C dX17_of_109 110 rfl 1 rfl ?_
  refine je_aload_n C dX17_of_110 111 rfl 1 rfl ?_
  refine gX17_21 C dX17_of_111 114 rfl ?_
  refine je_if_ne C 124 dX17_of_114 117 rfl rfl h (fun h => ?_) (fun h => ?_)
  · refine je_sub [1, 2, 3] [(1, .ref (G.2.1 + 9)), (2, .long v2), (4, .long v4)] rfl ?_
    exact wX17_of_124 C hw0 hw1 κ v2 v4 h
  refine je_lload C dX17_of_117 119 rfl 3 rfl ?_
  refine je_lconst C (0) dX17_of_119 120 rfl rfl ?_
  refine je_lcmp C dX17_of_120 121 rfl ?_
  refine je_if_ne C 128 dX17_of_121 124 rfl rfl h (fun h => ?_) (fun h => ?_)
  · refine je_iconst C (0) dX17_of_128 129 rfl ic_0 ?_
    refine je_sub [1, 2, 3] [(1, .ref (G.2.1 + 9)), (2, .long v2), (4, .long v4)] rfl ?_
    exact wX17_of_129 C hw0 hw1 κ v2 v4 (0 : Int32) h
  refine je_sub [1, 2, 3] [(1, .ref (G.2.1 + 9)), (2, .long v2), (4, .long v4)] rfl ?_
  exact wX17_of_124 C hw0 hw1 κ v2 v4 h
set_option maxHeartbeats 4000000 in
theorem wX18_of_126 {p : Program} {l : Launch} {e : Env} {s : State} {m : MethodId} {args : Array Value} {below : List Frame} {meth : Method} {c : Code} {G : je_G} {dyn : Nat → Option je_E} {sz : Nat} {sg : Int32} {a : Nat} {Vw : Nat → Value} {κ : kp_K} {r9 : Int64} (C : Cx p s m args meth c G "MinistryDesks$Compared" cX18_of 7 (some .long)) (hw0 : ∀ κ, en2 G κ dyn a = some (.inr (16, Vw))) (hw1 : Vw 2 = .int sg) (s0 : Int32) (h : bX18_of_126 sg s0 = some r9) : Js p l e ({ frames := 0, cells := 0, slots := 0, locals := 0 } : Room) s m args below meth c G 7 (MQ below (je_Q G (some (.long r9)) (en2 G κ dyn) sz) args s 0 0 (je_A G)) (en2 G κ dyn) sz 0 0 126 [] [.int s0] := by
  unfold bX18_of_126 at h
  refine je_istore C dX18_of_126 128 rfl (Nat.le_of_ble_eq_true rfl) [(6, .int s0)] rfl ?_
  refine je_iload C dX18_of_128 130 rfl 0 rfl ?_
  refine je_if_eq C 137 dX18_of_130 133 rfl rfl h (fun h => ?_) (fun h => ?_)
  · refine je_lconst C (0) dX18_of_137 138 rfl rfl ?_
    cases h
    exact je_lret C dX18_of_138
  refine je_lconst C (1) dX18_of_133 134 rfl rfl ?_
  refine je_goto C 138 dX18_of_134 rfl ?_
  cases h
  exact je_lret C dX18_of_138
set_option maxHeartbeats 4000000 in
theorem metX18_of {l : Launch} {G : je_G} {dyn : Nat → Option je_E} {sz : Nat} {sg : Int32} {a : Nat} {Vw : Nat → Value} {κ : kp_K} {v2 : Int64} {v4 : Int64} {r9 : Int64} (hw0 : ∀ κ, en2 G κ dyn a = some (.inr (16, Vw))) (hw1 : Vw 2 = .int sg) (h : pX18_of sg v2 v4 = some r9) : MetS l G yX18_of cX18_of 7 (some .long) 0 0 0 0 [.ref (G.2.1 + a), .ref (G.2.1 + 9), .long v2, .long v4] (en2 G κ dyn) sz (some (.long r9)) (en2 G κ dyn) sz := by
  refine je_met "MinistryDesks$Compared" rfl (by decide +kernel) (Nat.le_of_ble_eq_true rfl) [(0, .ref (G.2.1 + a)), (1, .ref (G.2.1 + 9)), (2, .long v2), (4, .long v4)] rfl (fun p e s m args below meth c C => ?_)
  unfold pX18_of at h
  refine je_aload_n C dX18_of_0 1 rfl 0 rfl ?_
  refine je_get (k := 2) C (hw0 _) rfl in_X18 (by decide) q1114 rfl dX18_of_1 4 rfl hw1 ?_
  refine je_if_ne C 22 dX18_of_4 7 rfl rfl h (fun h => ?_) (fun h => ?_)
  · refine je_aload_n C dX18_of_22 23 rfl 0 rfl ?_
    refine je_get (k := 2) C (hw0 _) rfl in_X18 (by decide) q1114 rfl dX18_of_23 26 rfl hw1 ?_
    refine je_iconst C (1) dX18_of_26 27 rfl ic_1 ?_
    refine je_icmp_ne C 45 dX18_of_27 30 rfl rfl h (fun h => ?_) (fun h => ?_)
    · refine je_aload_n C dX18_of_45 46 rfl 0 rfl ?_
      refine je_get (k := 2) C (hw0 _) rfl in_X18 (by decide) q1114 rfl dX18_of_46 49 rfl hw1 ?_
      refine je_iconst C (2) dX18_of_49 50 rfl ic_2 ?_
      refine je_icmp_ne C 68 dX18_of_50 53 rfl rfl h (fun h => ?_) (fun h => ?_)
      · refine je_aload_n C dX18_of_68 69 rfl 0 rfl ?_
        refine je_get (k := 2) C (hw0 _) rfl in_X18 (by decide) q1114 rfl dX18_of_69 72 rfl hw1 ?_
        refine je_iconst C (3) dX18_of_72 73 rfl ic_3 ?_
        refine je_icmp_ne C 91 dX18_of_73 76 rfl rfl h (fun h => ?_) (fun h => ?_)
        · refine je_aload_n C dX18_of_91 92 rfl 0 rfl ?_
          refine je_get (k := 2) C (hw0 _) rfl in_X18 (by decide) q1114 rfl dX18_of_92 95 rfl hw1 ?_
          refine je_iconst C (4) dX18_of_95 96 rfl ic_4 ?_
          refine je_icmp_ne C 114 dX18_of_96 99 rfl rfl h (fun h => ?_) (fun h => ?_)
          · refine je_lload_n C dX18_of_114 115 rfl 2 rfl ?_
            refine je_lload C dX18_of_115 117 rfl 3 rfl ?_
            refine je_lcmp C dX18_of_117 118 rfl ?_
            refine je_if_le C 125 dX18_of_118 121 rfl rfl h (fun h => ?_) (fun h => ?_)
            · refine je_iconst C (0) dX18_of_125 126 rfl ic_0 ?_
              refine je_sub [] [] rfl ?_
              exact wX18_of_126 C hw0 hw1 (0 : Int32) h
            refine je_iconst C (1) dX18_of_121 122 rfl ic_1 ?_
            refine je_goto C 126 dX18_of_122 rfl ?_
            refine je_sub [] [] rfl ?_
            exact wX18_of_126 C hw0 hw1 (1 : Int32) h
          refine je_lload_n C dX18_of_99 100 rfl 2 rfl ?_
          refine je_lload C dX18_of_100 102 rfl 3 rfl ?_
          refine je_lcmp C dX18_of_102 103 rfl ?_
          refine je_if_lt C 110 dX18_of_103 106 rfl rfl h (fun h => ?_) (fun h => ?_)
          · refine je_iconst C (0) dX18_of_110 111 rfl ic_0 ?_
            refine je_goto C 126 dX18_of_111 rfl ?_
            refine je_sub [] [] rfl ?_
            exact wX18_of_126 C hw0 hw1 (0 : Int32) h
          refine je_iconst C (1) dX18_of_106 107 rfl ic_1 ?_
          refine je_goto C 126 dX18_of_107 rfl ?_
          refine je_sub [] [] rfl ?_
          exact wX18_of_126 C hw0 hw1 (1 : Int32) h
        refine je_lload_n C dX18_of_76 77 rfl 2 rfl ?_
        refine je_lload C dX18_of_77 79 rfl 3 rfl ?_
        refine je_lcmp C dX18_of_79 80 rfl ?_
        refine je_if_eq C 87 dX18_of_80 83 rfl rfl h (fun h => ?_) (fun h => ?_)
        · refine je_iconst C (0) dX18_of_87 88 rfl ic_0 ?_
          refine je_goto C 126 dX18_of_88 rfl ?_
          refine je_sub [] [] rfl ?_
          exact wX18_of_126 C hw0 hw1 (0 : Int32) h
        refine je_iconst C (1) dX18_of_83 84 rfl ic_1 ?_
        refine je_goto C 126 dX18_of_84 rfl ?_
        refine je_sub [] [] rfl ?_
        exact wX18_of_126 C hw0 hw1 (1 : Int32) h
      refine je_lload_n C dX18_of_53 54 rfl 2 rfl ?_
      refine je_lload C dX18_of_54 56 rfl 3 rfl ?_
      refine je_lcmp C dX18_of_56 57 rfl ?_
      refine je_if_ne C 64 dX18_of_57 60 rfl rfl h (fun h => ?_) (fun h => ?_)
      · refine je_iconst C (0) dX18_of_64 65 rfl ic_0 ?_
        refine je_goto C 126 dX18_of_65 rfl ?_
        refine je_sub [] [] rfl ?_
        exact wX18_of_126 C hw0 hw1 (0 : Int32) h
      refine je_iconst C (1) dX18_of_60 61 rfl ic_1 ?_
      refine je_goto C 126 dX18_of_61 rfl ?_
      refine je_sub [] [] rfl ?_
      exact wX18_of_126 C hw0 hw1 (1 : Int32) h
    refine je_lload_n C dX18_of_30 31 rfl 2 rfl ?_
    refine je_lload C dX18_of_31 33 rfl 3 rfl ?_
    refine je_lcmp C dX18_of_33 34 rfl ?_
    refine je_if_gt C 41 dX18_of_34 37 rfl rfl h (fun h => ?_) (fun h => ?_)
    · refine je_iconst C (0) dX18_of_41 42 rfl ic_0 ?_
      refine je_goto C 126 dX18_of_42 rfl ?_
      refine je_sub [] [] rfl ?_
      exact wX18_of_126 C hw0 hw1 (0 : Int32) h
    refine je_iconst C (1) dX18_of_37 38 rfl ic_1 ?_
    refine je_goto C 126 dX18_of_38 rfl ?_
    refine je_sub [] [] rfl ?_
    exact wX18_of_126 C hw0 hw1 (1 : Int32) h
  refine je_lload_n C dX18_of_7 8 rfl 2 rfl ?_
  refine je_lload C dX18_of_8 10 rfl 3 rfl ?_
  refine je_lcmp C dX18_of_10 11 rfl ?_
  refine je_if_ge C 18 dX18_of_11 14 rfl rfl h (fun h => ?_) (fun h => ?_)
  · refine je_iconst C (0) dX18_of_18 19 rfl ic_0 ?_
    refine je_goto C 126 dX18_of_19 rfl ?_
    refine je_sub [] [] rfl ?_
    exact wX18_of_126 C hw0 hw1 (0 : Int32) h
  refine je_iconst C (1) dX18_of_14 15 rfl ic_1 ?_
  refine je_goto C 126 dX18_of_15 rfl ?_
  refine je_sub [] [] rfl ?_
  exact wX18_of_126 C hw0 hw1 (1 : Int32) h
set_option maxHeartbeats 4000000 in
theorem metX20_of {l : Launch} {G : je_G} {dyn : Nat → Option je_E} {sz : Nat} {sg : Int32} {a : Nat} {Vw : Nat → Value} {κ : kp_K} {v2 : Int64} {v4 : Int64} {r9 : Int64} (hw0 : ∀ κ, en2 G κ dyn a = some (.inr (15, Vw))) (hw1 : Vw 2 = .int sg) (h : pX20_of sg v2 v4 = some r9) : MetS l G yX20_of cX20_of 6 (some .long) 0 0 0 0 [.ref (G.2.1 + a), .ref (G.2.1 + 9), .long v2, .long v4] (en2 G κ dyn) sz (some (.long r9)) (en2 G κ dyn) sz := by
  refine je_met "MinistryDesks$Choice" rfl (by decide +kernel) (Nat.le_of_ble_eq_true rfl) [(0, .ref (G.2.1 + a)), (1, .ref (G.2.1 + 9)), (2, .long v2), (4, .long v4)] rfl (fun p e s m args below meth c C => ?_)
  unfold pX20_of at h
  refine je_aload_n C dX20_of_0 1 rfl 0 rfl ?_
  refine je_get (k := 2) C (hw0 _) rfl in_X20 (by decide) q1136 rfl dX20_of_1 4 rfl hw1 ?_
  refine je_if_eq C 28 dX20_of_4 7 rfl rfl h (fun h => ?_) (fun h => ?_)
  · refine je_lload_n C dX20_of_28 29 rfl 2 rfl ?_
    refine je_lconst C (0) dX20_of_29 30 rfl rfl ?_
    refine je_lcmp C dX20_of_30 31 rfl ?_
    refine je_if_ne C 41 dX20_of_31 34 rfl rfl h (fun h => ?_) (fun h => ?_)
    · refine je_lconst C (1) dX20_of_41 42 rfl rfl ?_
      refine je_goto C 46 dX20_of_42 rfl ?_
      cases h
      exact je_lret C dX20_of_46
    refine je_lload C dX20_of_34 36 rfl 3 rfl ?_
    refine je_lconst C (0) dX20_of_36 37 rfl rfl ?_
    refine je_lcmp C dX20_of_37 38 rfl ?_
    refine je_if_eq C 45 dX20_of_38 41 rfl rfl h (fun h => ?_) (fun h => ?_)
    · refine je_lconst C (0) dX20_of_45 46 rfl rfl ?_
      cases h
      exact je_lret C dX20_of_46
    refine je_lconst C (1) dX20_of_41 42 rfl rfl ?_
    refine je_goto C 46 dX20_of_42 rfl ?_
    cases h
    exact je_lret C dX20_of_46
  refine je_lload_n C dX20_of_7 8 rfl 2 rfl ?_
  refine je_lconst C (0) dX20_of_8 9 rfl rfl ?_
  refine je_lcmp C dX20_of_9 10 rfl ?_
  refine je_if_eq C 24 dX20_of_10 13 rfl rfl h (fun h => ?_) (fun h => ?_)
  · refine je_lconst C (0) dX20_of_24 25 rfl rfl ?_
    refine je_goto C 46 dX20_of_25 rfl ?_
    cases h
    exact je_lret C dX20_of_46
  refine je_lload C dX20_of_13 15 rfl 3 rfl ?_
  refine je_lconst C (0) dX20_of_15 16 rfl rfl ?_
  refine je_lcmp C dX20_of_16 17 rfl ?_
  refine je_if_eq C 24 dX20_of_17 20 rfl rfl h (fun h => ?_) (fun h => ?_)
  · refine je_lconst C (0) dX20_of_24 25 rfl rfl ?_
    refine je_goto C 46 dX20_of_25 rfl ?_
    cases h
    exact je_lret C dX20_of_46
  refine je_lconst C (1) dX20_of_20 21 rfl rfl ?_
  refine je_goto C 46 dX20_of_21 rfl ?_
  cases h
  exact je_lret C dX20_of_46
