/-! the reference: walks of its methods: printed by gen -/
set_option maxRecDepth 100000
set_option maxHeartbeats 4000000 in
theorem metX6_strike {l : Launch} {G : je_G} {dyn : Nat → Option je_E} {sz : Nat} {κ : kp_K} {v1 : Int32} {r9 : Int32 × kp_K} (h : pX6_strike κ v1 = some r9) : MetS l G yX6_strike cX6_strike 2 (some .int) 0 0 0 0 [.ref (G.2.1 + 66), .int v1] (en2 G κ dyn) sz (some (.int r9.1)) (en2 G r9.2 dyn) sz := by
  refine je_met "MinistryDesksModel" rfl (by decide +kernel) (Nat.le_of_ble_eq_true rfl) [(0, .ref (G.2.1 + 66)), (1, .int v1)] rfl (fun p e s m args below meth c C => ?_)
  unfold pX6_strike at h
  refine je_aload_n C dX6_strike_0 1 rfl 0 rfl ?_
  refine je_iconst C (0) dX6_strike_1 2 rfl ic_0 ?_
  refine sX6_166 C dX6_strike_2 5 rfl ?_
  refine jk_lt h (fun k2 h => ?_)
  refine je_iload_n C dX6_strike_5 6 rfl 1 rfl ?_
  refine je_if_lt C 26 dX6_strike_6 9 rfl rfl h (fun h => ?_) (fun h => ?_)
  · refine je_iconst C (-1) dX6_strike_26 27 rfl ic_m1 ?_
    cases h
    exact je_iret C dX6_strike_27
  refine je_iload_n C dX6_strike_9 10 rfl 1 rfl ?_
  refine je_aload_n C dX6_strike_10 11 rfl 0 rfl ?_
  refine gX6_333 C dX6_strike_11 14 rfl ?_
  refine je_icmp_ge C 26 dX6_strike_14 17 rfl rfl h (fun h => ?_) (fun h => ?_)
  · refine je_iconst C (-1) dX6_strike_26 27 rfl ic_m1 ?_
    cases h
    exact je_iret C dX6_strike_27
  refine je_aload_n C dX6_strike_17 18 rfl 0 rfl ?_
  refine gX6_333 C dX6_strike_18 21 rfl ?_
  refine je_bipush C (24) dX6_strike_21 23 rfl bp_24 ?_
  refine je_icmp_ne C 28 dX6_strike_23 26 rfl rfl h (fun h => ?_) (fun h => ?_)
  · refine je_aload_n C dX6_strike_28 29 rfl 0 rfl ?_
    refine gX6_157 C dX6_strike_29 32 rfl ?_
    refine je_aload_n C dX6_strike_32 33 rfl 0 rfl ?_
    refine gX6_333 C dX6_strike_33 36 rfl ?_
    refine je_iconst C (-1) dX6_strike_36 37 rfl ic_m1 ?_
    refine jk_iast C kd113 dX6_strike_37 38 rfl h (fun h => ?_)
    refine jk_lt h (fun k37 h => ?_)
    refine je_aload_n C dX6_strike_38 39 rfl 0 rfl ?_
    refine gX6_160 C dX6_strike_39 42 rfl ?_
    refine je_aload_n C dX6_strike_42 43 rfl 0 rfl ?_
    refine gX6_333 C dX6_strike_43 46 rfl ?_
    refine je_iload_n C dX6_strike_46 47 rfl 1 rfl ?_
    refine jk_iast C kd114 dX6_strike_47 48 rfl h (fun h => ?_)
    refine jk_lt h (fun k47 h => ?_)
    refine je_aload_n C dX6_strike_48 49 rfl 0 rfl ?_
    refine je_dup C dX6_strike_49 50 rfl rfl ?_
    refine gX6_333 C dX6_strike_50 53 rfl ?_
    refine je_iconst C (1) dX6_strike_53 54 rfl ic_1 ?_
    refine je_iadd C dX6_strike_54 55 rfl ?_
    refine sX6_333 C dX6_strike_55 58 rfl ?_
    refine jk_lt h (fun k55 h => ?_)
    refine je_aload_n C dX6_strike_58 59 rfl 0 rfl ?_
    refine gX6_333 C dX6_strike_59 62 rfl ?_
    refine je_iconst C (1) dX6_strike_62 63 rfl ic_1 ?_
    refine je_isub C dX6_strike_63 64 rfl ?_
    cases h
    exact je_iret C dX6_strike_64
  refine je_iconst C (-1) dX6_strike_26 27 rfl ic_m1 ?_
  cases h
  exact je_iret C dX6_strike_27
set_option maxHeartbeats 4000000 in
theorem metX6_known {l : Launch} {G : je_G} {dyn : Nat → Option je_E} {sz : Nat} {κ : kp_K} {v1 : Int32} {r9 : Int32 × kp_K} (h : pX6_known κ v1 = some r9) : MetS l G yX6_known cX6_known 2 (some .boolean) 0 0 0 0 [.ref (G.2.1 + 66), .int v1] (en2 G κ dyn) sz (some (.int r9.1)) (en2 G r9.2 dyn) sz := by
  refine je_met "MinistryDesksModel" rfl (by decide +kernel) (Nat.le_of_ble_eq_true rfl) [(0, .ref (G.2.1 + 66)), (1, .int v1)] rfl (fun p e s m args below meth c C => ?_)
  unfold pX6_known at h
  refine je_aload_n C dX6_known_0 1 rfl 0 rfl ?_
  refine je_iconst C (0) dX6_known_1 2 rfl ic_0 ?_
  refine sX6_166 C dX6_known_2 5 rfl ?_
  refine jk_lt h (fun k2 h => ?_)
  refine je_iload_n C dX6_known_5 6 rfl 1 rfl ?_
  refine je_iconst C (-1) dX6_known_6 7 rfl ic_m1 ?_
  refine je_icmp_lt C 18 dX6_known_7 10 rfl rfl h (fun h => ?_) (fun h => ?_)
  · refine je_iconst C (0) dX6_known_18 19 rfl ic_0 ?_
    cases h
    exact je_zret C dX6_known_19 (Or.inl rfl)
  refine je_iload_n C dX6_known_10 11 rfl 1 rfl ?_
  refine je_aload_n C dX6_known_11 12 rfl 0 rfl ?_
  refine gX6_333 C dX6_known_12 15 rfl ?_
  refine je_icmp_le C 20 dX6_known_15 18 rfl rfl h (fun h => ?_) (fun h => ?_)
  · refine je_aload_n C dX6_known_20 21 rfl 0 rfl ?_
    refine je_iload_n C dX6_known_21 22 rfl 1 rfl ?_
    refine sX6_154 C dX6_known_22 25 rfl ?_
    refine jk_lt h (fun k22 h => ?_)
    refine je_iconst C (1) dX6_known_25 26 rfl ic_1 ?_
    cases h
    exact je_zret C dX6_known_26 (Or.inr rfl)
  refine je_iconst C (0) dX6_known_18 19 rfl ic_0 ?_
  cases h
  exact je_zret C dX6_known_19 (Or.inl rfl)
theorem gX6_154 {p : Program} {l : Launch} {e : Env} {R : Room} {s : State} {m : MethodId} {args : Array Value} {below : List Frame} {meth : Method} {c : Code} {Q : State → Prop} {G : je_G} {cc : ByteArray} {nL : Nat} {rt : Option FieldType} {sz cells slots pc : Nat} {L : List (Nat × Value)} {st : List Value} {κ : kp_K} {dyn : Nat → Option je_E} (C : Cx p s m args meth c G "MinistryDesksModel" cc nL rt) (d : decode cc pc = .ok (.getfield 154, 3)) (n : Nat) (hn : pc + 3 = n) (kk : Js p l e R s m args below meth c G nL Q (en2 G κ dyn) sz cells slots n L (.int (κ.1 66 72) :: st)) : Js p l e R s m args below meth c G nL Q (en2 G κ dyn) sz cells slots pc L (.ref (G.2.1 + 66) :: st) := jk_getI (k := 72) C kd66 rfl in_X6 rfl (by decide) q1752 rfl d n hn kk
set_option maxHeartbeats 4000000 in
theorem metX6_knownMany {l : Launch} {G : je_G} {dyn : Nat → Option je_E} {sz : Nat} {κ : kp_K}  {r9 : Int32} (h : pX6_knownMany κ = some r9) : MetS l G yX6_knownMany cX6_knownMany 1 (some .int) 0 0 0 0 [.ref (G.2.1 + 66)] (en2 G κ dyn) sz (some (.int r9)) (en2 G κ dyn) sz := by
  refine je_met "MinistryDesksModel" rfl (by decide +kernel) (Nat.le_of_ble_eq_true rfl) [(0, .ref (G.2.1 + 66))] rfl (fun p e s m args below meth c C => ?_)
  unfold pX6_knownMany at h
  refine je_aload_n C dX6_knownMany_0 1 rfl 0 rfl ?_
  refine gX6_154 C dX6_knownMany_1 4 rfl ?_
  refine je_iconst C (-1) dX6_knownMany_4 5 rfl ic_m1 ?_
  refine je_icmp_ne C 15 dX6_knownMany_5 8 rfl rfl h (fun h => ?_) (fun h => ?_)
  · refine je_aload_n C dX6_knownMany_15 16 rfl 0 rfl ?_
    refine gX6_154 C dX6_knownMany_16 19 rfl ?_
    cases h
    exact je_iret C dX6_knownMany_19
  refine je_aload_n C dX6_knownMany_8 9 rfl 0 rfl ?_
  refine gX6_333 C dX6_knownMany_9 12 rfl ?_
  refine je_goto C 19 dX6_knownMany_12 rfl ?_
  cases h
  exact je_iret C dX6_knownMany_19
theorem hdX6_knownMany : je_hd yX6_knownMany 0 := ⟨by decide +kernel, by decide +kernel, by decide +kernel⟩
theorem cwX6_571 : GoodIn lw_all (wsV "MinistryDesksModel" 571 "MinistryDesksModel" yX6_knownMany (ws_ yX6_knownMany cX6_knownMany 1 (some .int))) := lw_V q2371 q2373 qs157 q169 q2374
theorem gX6_163 {p : Program} {l : Launch} {e : Env} {R : Room} {s : State} {m : MethodId} {args : Array Value} {below : List Frame} {meth : Method} {c : Code} {Q : State → Prop} {G : je_G} {cc : ByteArray} {nL : Nat} {rt : Option FieldType} {sz cells slots pc : Nat} {L : List (Nat × Value)} {st : List Value} {κ : kp_K} {dyn : Nat → Option je_E} (C : Cx p s m args meth c G "MinistryDesksModel" cc nL rt) (d : decode cc pc = .ok (.getfield 163, 3)) (n : Nat) (hn : pc + 3 = n) (kk : Js p l e R s m args below meth c G nL Q (en2 G κ dyn) sz cells slots n L (.ref (G.2.1 + 115) :: st)) : Js p l e R s m args below meth c G nL Q (en2 G κ dyn) sz cells slots pc L (.ref (G.2.1 + 66) :: st) := jk_getR (k := 75) (z := 0) C kd66 rfl in_X6 115 rfl (by decide) q1755 rfl d n hn kk
set_option maxHeartbeats 4000000 in
theorem wX6_goesAsHeard_26 {p : Program} {l : Launch} {e : Env} {s : State} {m : MethodId} {args : Array Value} {below : List Frame} {meth : Method} {c : Code} {G : je_G} {dyn : Nat → Option je_E} {sz : Nat} {F : Nat} {r9 : Int32 × kp_K} (C : Cx p s m args meth c G "MinistryDesksModel" cX6_goesAsHeard 2 (some .boolean)) : ∀ (n : Nat) (κ : kp_K) (v1 : Int32), bX6_goesAsHeard_26 F n κ v1 = some r9 → Js p l e ({ frames := 9, cells := 0, slots := 0, locals := 229 } : Room) s m args below meth c G 2 (MQ below (je_Q G (some (.int r9.1)) (en2 G r9.2 dyn) sz) args s 0 0 (je_A G)) (en2 G κ dyn) sz 0 0 26 [(0, .ref (G.2.1 + 66)), (1, .int v1)] [] := by
  intro n
  induction n with
  | zero =>
    intro κ v1 h
    cases h
  | succ n ih =>
    intro κ v1 h
    rw [bX6_goesAsHeard_26] at h
    refine je_iload_n C dX6_goesAsHeard_26 27 rfl 1 rfl ?_
    refine je_aload_n C dX6_goesAsHeard_27 28 rfl 0 rfl ?_
    obtain ⟨t28, hg, h⟩ := p_cl_inv h
    refine je_callVi (As := []) (rest := [.int v1]) C (metX6_knownMany hg) (en2_at kd66) rfl hdX6_knownMany rfl cwX6_571 rfl ⟨Nat.le_of_ble_eq_true rfl, Nat.le_of_ble_eq_true rfl⟩ (Nat.le_of_ble_eq_true rfl) dX6_goesAsHeard_28 31 rfl ⟨Nat.le_refl _, Nat.le_refl _⟩ ?_
    refine je_icmp_ge C 84 dX6_goesAsHeard_31 34 rfl rfl h (fun h => ?_) (fun h => ?_)
    · refine je_iconst C (1) dX6_goesAsHeard_84 85 rfl ic_1 ?_
      cases h
      exact je_zret C dX6_goesAsHeard_85 (Or.inr rfl)
    refine je_aload_n C dX6_goesAsHeard_34 35 rfl 0 rfl ?_
    refine gX6_163 C dX6_goesAsHeard_35 38 rfl ?_
    refine je_iload_n C dX6_goesAsHeard_38 39 rfl 1 rfl ?_
    refine jk_zald C kd115 dX6_goesAsHeard_39 40 rfl h (fun h => ?_)
    refine je_if_ne C 78 dX6_goesAsHeard_40 43 rfl rfl h (fun h => ?_) (fun h => ?_)
    · refine je_iinc C (1) dX6_goesAsHeard_78 81 rfl 1 rfl ic_1 (Nat.le_of_ble_eq_true rfl) [(1, .int (v1 + (1 : Int32))), (0, .ref (G.2.1 + 66))] rfl ?_
      refine je_goto C 26 dX6_goesAsHeard_81 rfl ?_
      refine je_sub [1, 0] [(0, .ref (G.2.1 + 66)), (1, .int (v1 + (1 : Int32)))] rfl ?_
      exact ih κ (v1 + (1 : Int32)) h
    refine je_aload_n C dX6_goesAsHeard_43 44 rfl 0 rfl ?_
    refine gX6_157 C dX6_goesAsHeard_44 47 rfl ?_
    refine je_iload_n C dX6_goesAsHeard_47 48 rfl 1 rfl ?_
    refine jk_iald C kd113 dX6_goesAsHeard_48 49 rfl h (fun h => ?_)
    refine je_iconst C (-1) dX6_goesAsHeard_49 50 rfl ic_m1 ?_
    refine je_icmp_eq C 78 dX6_goesAsHeard_50 53 rfl rfl h (fun h => ?_) (fun h => ?_)
    · refine je_iinc C (1) dX6_goesAsHeard_78 81 rfl 1 rfl ic_1 (Nat.le_of_ble_eq_true rfl) [(1, .int (v1 + (1 : Int32))), (0, .ref (G.2.1 + 66))] rfl ?_
      refine je_goto C 26 dX6_goesAsHeard_81 rfl ?_
      refine je_sub [1, 0] [(0, .ref (G.2.1 + 66)), (1, .int (v1 + (1 : Int32)))] rfl ?_
      exact ih κ (v1 + (1 : Int32)) h
    refine je_aload_n C dX6_goesAsHeard_53 54 rfl 0 rfl ?_
    refine gX6_112 C dX6_goesAsHeard_54 57 rfl ?_
    refine je_bipush C (16) dX6_goesAsHeard_57 59 rfl bp_16 ?_
    refine je_aload_n C dX6_goesAsHeard_59 60 rfl 0 rfl ?_
    refine gX6_157 C dX6_goesAsHeard_60 63 rfl ?_
    refine je_iload_n C dX6_goesAsHeard_63 64 rfl 1 rfl ?_
    refine jk_iald C kd113 dX6_goesAsHeard_64 65 rfl h (fun h => ?_)
    refine je_iadd C dX6_goesAsHeard_65 66 rfl ?_
    refine je_lti h (fun i66 h => ?_)
    refine jk_iald C kd99 dX6_goesAsHeard_66 67 rfl h (fun h => ?_)
    refine je_aload_n C dX6_goesAsHeard_67 68 rfl 0 rfl ?_
    refine gX6_160 C dX6_goesAsHeard_68 71 rfl ?_
    refine je_iload_n C dX6_goesAsHeard_71 72 rfl 1 rfl ?_
    refine jk_iald C kd114 dX6_goesAsHeard_72 73 rfl h (fun h => ?_)
    refine je_icmp_eq C 78 dX6_goesAsHeard_73 76 rfl rfl h (fun h => ?_) (fun h => ?_)
    · refine je_iinc C (1) dX6_goesAsHeard_78 81 rfl 1 rfl ic_1 (Nat.le_of_ble_eq_true rfl) [(1, .int (v1 + (1 : Int32))), (0, .ref (G.2.1 + 66))] rfl ?_
      refine je_goto C 26 dX6_goesAsHeard_81 rfl ?_
      refine je_sub [1, 0] [(0, .ref (G.2.1 + 66)), (1, .int (v1 + (1 : Int32)))] rfl ?_
      exact ih κ (v1 + (1 : Int32)) h
    refine je_iconst C (0) dX6_goesAsHeard_76 77 rfl ic_0 ?_
    cases h
    exact je_zret C dX6_goesAsHeard_77 (Or.inl rfl)
set_option maxHeartbeats 4000000 in
theorem wX6_goesAsHeard_7 {p : Program} {l : Launch} {e : Env} {s : State} {m : MethodId} {args : Array Value} {below : List Frame} {meth : Method} {c : Code} {G : je_G} {dyn : Nat → Option je_E} {sz : Nat} {F : Nat} {r9 : Int32 × kp_K} (C : Cx p s m args meth c G "MinistryDesksModel" cX6_goesAsHeard 2 (some .boolean)) : ∀ (n : Nat) (κ : kp_K) (v1 : Int32), bX6_goesAsHeard_7 F n κ v1 = some r9 → Js p l e ({ frames := 9, cells := 0, slots := 0, locals := 229 } : Room) s m args below meth c G 2 (MQ below (je_Q G (some (.int r9.1)) (en2 G r9.2 dyn) sz) args s 0 0 (je_A G)) (en2 G κ dyn) sz 0 0 7 [(0, .ref (G.2.1 + 66)), (1, .int v1)] [] := by
  intro n
  induction n with
  | zero =>
    intro κ v1 h
    cases h
  | succ n ih =>
    intro κ v1 h
    rw [bX6_goesAsHeard_7] at h
    refine je_iload_n C dX6_goesAsHeard_7 8 rfl 1 rfl ?_
    refine je_bipush C (61) dX6_goesAsHeard_8 10 rfl bp_61 ?_
    refine je_icmp_ge C 24 dX6_goesAsHeard_10 13 rfl rfl h (fun h => ?_) (fun h => ?_)
    · refine je_iconst C (0) dX6_goesAsHeard_24 25 rfl ic_0 ?_
      refine je_istore_n C dX6_goesAsHeard_25 26 rfl (Nat.le_of_ble_eq_true rfl) [(1, .int (0 : Int32)), (0, .ref (G.2.1 + 66))] rfl ?_
      refine je_sub [1, 0] [(0, .ref (G.2.1 + 66)), (1, .int (0 : Int32))] rfl ?_
      exact wX6_goesAsHeard_26 C F κ (0 : Int32) h
    refine je_aload_n C dX6_goesAsHeard_13 14 rfl 0 rfl ?_
    refine je_iconst C (1) dX6_goesAsHeard_14 15 rfl ic_1 ?_
    obtain ⟨k15, hg, h⟩ := p_cl_inv h
    refine je_callVv (As := [.int (1 : Int32)]) (rest := []) C (metX6_passes hg) (en2_at kd66) rfl hdX6_passes rfl cwX6_455 rfl ⟨Nat.le_of_ble_eq_true rfl, Nat.le_of_ble_eq_true rfl⟩ (Nat.le_of_ble_eq_true rfl) dX6_goesAsHeard_15 18 rfl ⟨Nat.le_refl _, Nat.le_refl _⟩ ?_
    refine je_iinc C (1) dX6_goesAsHeard_18 21 rfl 1 rfl ic_1 (Nat.le_of_ble_eq_true rfl) [(1, .int (v1 + (1 : Int32))), (0, .ref (G.2.1 + 66))] rfl ?_
    refine je_goto C 7 dX6_goesAsHeard_21 rfl ?_
    refine je_sub [1, 0] [(0, .ref (G.2.1 + 66)), (1, .int (v1 + (1 : Int32)))] rfl ?_
    exact ih k15 (v1 + (1 : Int32)) h
set_option maxHeartbeats 4000000 in
theorem metX6_goesAsHeard {l : Launch} {G : je_G} {dyn : Nat → Option je_E} {sz : Nat} {F : Nat} {κ : kp_K}  {r9 : Int32 × kp_K} (h : pX6_goesAsHeard F κ = some r9) : MetS l G yX6_goesAsHeard cX6_goesAsHeard 2 (some .boolean) 9 229 0 0 [.ref (G.2.1 + 66)] (en2 G κ dyn) sz (some (.int r9.1)) (en2 G r9.2 dyn) sz := by
  refine je_met "MinistryDesksModel" rfl (by decide +kernel) (Nat.le_of_ble_eq_true rfl) [(0, .ref (G.2.1 + 66))] rfl (fun p e s m args below meth c C => ?_)
  unfold pX6_goesAsHeard at h
  refine je_aload_n C dX6_goesAsHeard_0 1 rfl 0 rfl ?_
  refine je_iconst C (1) dX6_goesAsHeard_1 2 rfl ic_1 ?_
  obtain ⟨k2, hg, h⟩ := p_cl_inv h
  refine je_callVv (As := [.int (1 : Int32)]) (rest := []) C (metX6_begins hg) (en2_at kd66) rfl hdX6_begins rfl cwX6_343 rfl ⟨Nat.le_of_ble_eq_true rfl, Nat.le_of_ble_eq_true rfl⟩ (Nat.le_of_ble_eq_true rfl) dX6_goesAsHeard_2 5 rfl ⟨Nat.le_refl _, Nat.le_refl _⟩ ?_
  refine je_iconst C (0) dX6_goesAsHeard_5 6 rfl ic_0 ?_
  refine je_istore_n C dX6_goesAsHeard_6 7 rfl (Nat.le_of_ble_eq_true rfl) [(1, .int (0 : Int32)), (0, .ref (G.2.1 + 66))] rfl ?_
  refine je_sub [1, 0] [(0, .ref (G.2.1 + 66)), (1, .int (0 : Int32))] rfl ?_
  exact wX6_goesAsHeard_7 C F k2 (0 : Int32) h
theorem hdX6_goesAsHeard : je_hd yX6_goesAsHeard 0 := ⟨by decide +kernel, by decide +kernel, by decide +kernel⟩
theorem cwX6_574 : GoodIn lw_all (wsV "MinistryDesksModel" 574 "MinistryDesksModel" yX6_goesAsHeard (ws_ yX6_goesAsHeard cX6_goesAsHeard 2 (some .boolean))) := lw_V q2375 q2377 qs158 q169 q2378
set_option maxHeartbeats 4000000 in
theorem wX6_fits_112 {p : Program} {l : Launch} {e : Env} {s : State} {m : MethodId} {args : Array Value} {below : List Frame} {meth : Method} {c : Code} {G : je_G} {dyn : Nat → Option je_E} {sz : Nat} {F : Nat} {r9 : Int32 × kp_K} {k84 : kp_K → Int32 → Int32 → Option (Int32 × kp_K)} (C : Cx p s m args meth c G "MinistryDesksModel" cX6_fits 3 (some .int)) (hk84 : ∀ (kq : kp_K) (q1 : Int32) (q2 : Int32), k84 kq q1 q2 = some r9 → Js p l e ({ frames := 10, cells := 0, slots := 0, locals := 250 } : Room) s m args below meth c G 3 (MQ below (je_Q G (some (.int r9.1)) (en2 G r9.2 dyn) sz) args s 0 0 (je_A G)) (en2 G kq dyn) sz 0 0 84 [(0, .ref (G.2.1 + 66)), (1, .int q1), (2, .int q2)] []) (κ : kp_K) (v1 : Int32) (v2 : Int32) (s0 : Int32) (h : bX6_fits_112 F k84 κ v1 v2 s0 = some r9) : Js p l e ({ frames := 10, cells := 0, slots := 0, locals := 250 } : Room) s m args below meth c G 3 (MQ below (je_Q G (some (.int r9.1)) (en2 G r9.2 dyn) sz) args s 0 0 (je_A G)) (en2 G κ dyn) sz 0 0 112 [(0, .ref (G.2.1 + 66)), (1, .int v1), (2, .int v2)] [.int s0, .ref (G.2.1 + 66)] := by
  unfold bX6_fits_112 at h
  refine sX6_352 C dX6_fits_112 115 rfl ?_
  refine jk_lt h (fun k112 h => ?_)
  refine je_aload_n C dX6_fits_115 116 rfl 0 rfl ?_
  obtain ⟨q116, hg, h⟩ := p_cl_inv h
  refine je_callVi (As := []) (rest := []) C (metX6_goesAsHeard hg) (en2_at kd66) rfl hdX6_goesAsHeard rfl cwX6_574 rfl ⟨Nat.le_of_ble_eq_true rfl, Nat.le_of_ble_eq_true rfl⟩ (Nat.le_of_ble_eq_true rfl) dX6_fits_116 119 rfl ⟨Nat.le_refl _, Nat.le_refl _⟩ ?_
  refine je_lti h (fun t116 h => ?_)
  refine jk_lt h (fun k116 h => ?_)
  refine je_if_eq C 128 dX6_fits_119 122 rfl rfl h (fun h => ?_) (fun h => ?_)
  · refine je_iinc C (1) dX6_fits_128 131 rfl 2 rfl ic_1 (Nat.le_of_ble_eq_true rfl) [(2, .int (v2 + (1 : Int32))), (0, .ref (G.2.1 + 66)), (1, .int v1)] rfl ?_
    refine je_goto C 84 dX6_fits_131 rfl ?_
    refine je_sub [1, 2, 0] [(0, .ref (G.2.1 + 66)), (1, .int v1), (2, .int (v2 + (1 : Int32)))] rfl ?_
    exact hk84 k116 v1 (v2 + (1 : Int32)) h
  refine je_iload_n C dX6_fits_122 123 rfl 1 rfl ?_
  refine je_iconst C (1) dX6_fits_123 124 rfl ic_1 ?_
  refine je_iload_n C dX6_fits_124 125 rfl 2 rfl ?_
  refine je_ishl C dX6_fits_125 126 rfl ?_
  refine je_ior C dX6_fits_126 127 rfl ?_
  refine je_lti h (fun t127 h => ?_)
  refine je_istore_n C dX6_fits_127 128 rfl (Nat.le_of_ble_eq_true rfl) [(1, .int t127), (0, .ref (G.2.1 + 66)), (2, .int v2)] rfl ?_
  refine je_iinc C (1) dX6_fits_128 131 rfl 2 rfl ic_1 (Nat.le_of_ble_eq_true rfl) [(2, .int (v2 + (1 : Int32))), (1, .int t127), (0, .ref (G.2.1 + 66))] rfl ?_
  refine je_goto C 84 dX6_fits_131 rfl ?_
  refine je_sub [2, 1, 0] [(0, .ref (G.2.1 + 66)), (1, .int t127), (2, .int (v2 + (1 : Int32)))] rfl ?_
  exact hk84 k116 t127 (v2 + (1 : Int32)) h
set_option maxHeartbeats 4000000 in
theorem wX6_fits_84 {p : Program} {l : Launch} {e : Env} {s : State} {m : MethodId} {args : Array Value} {below : List Frame} {meth : Method} {c : Code} {G : je_G} {dyn : Nat → Option je_E} {sz : Nat} {F : Nat} {r9 : Int32 × kp_K} (C : Cx p s m args meth c G "MinistryDesksModel" cX6_fits 3 (some .int)) : ∀ (n : Nat) (κ : kp_K) (v1 : Int32) (v2 : Int32), bX6_fits_84 F n κ v1 v2 = some r9 → Js p l e ({ frames := 10, cells := 0, slots := 0, locals := 250 } : Room) s m args below meth c G 3 (MQ below (je_Q G (some (.int r9.1)) (en2 G r9.2 dyn) sz) args s 0 0 (je_A G)) (en2 G κ dyn) sz 0 0 84 [(0, .ref (G.2.1 + 66)), (1, .int v1), (2, .int v2)] [] := by
  intro n
  induction n with
  | zero =>
    intro κ v1 v2 h
    cases h
  | succ n ih =>
    intro κ v1 v2 h
    rw [bX6_fits_84] at h
    refine je_iload_n C dX6_fits_84 85 rfl 2 rfl ?_
    refine je_aload_n C dX6_fits_85 86 rfl 0 rfl ?_
    refine gX6_13 C dX6_fits_86 89 rfl ?_
    refine je_iconst C (5) dX6_fits_89 90 rfl ic_5 ?_
    refine jk_iald C kd68 dX6_fits_90 91 rfl h (fun h => ?_)
    refine je_icmp_gt C 134 dX6_fits_91 94 rfl rfl h (fun h => ?_) (fun h => ?_)
    · refine je_iload_n C dX6_fits_134 135 rfl 1 rfl ?_
      cases h
      exact je_iret C dX6_fits_135
    refine je_aload_n C dX6_fits_94 95 rfl 0 rfl ?_
    refine je_iload_n C dX6_fits_95 96 rfl 2 rfl ?_
    refine je_aload_n C dX6_fits_96 97 rfl 0 rfl ?_
    refine gX6_13 C dX6_fits_97 100 rfl ?_
    refine je_iconst C (5) dX6_fits_100 101 rfl ic_5 ?_
    refine jk_iald C kd68 dX6_fits_101 102 rfl h (fun h => ?_)
    refine je_icmp_ge C 111 dX6_fits_102 105 rfl rfl h (fun h => ?_) (fun h => ?_)
    · refine je_iconst C (0) dX6_fits_111 112 rfl ic_0 ?_
      exact wX6_fits_112 C ih κ v1 v2 (0 : Int32) h
    refine je_iconst C (2) dX6_fits_105 106 rfl ic_2 ?_
    refine je_iload_n C dX6_fits_106 107 rfl 2 rfl ?_
    refine je_iadd C dX6_fits_107 108 rfl ?_
    refine je_goto C 112 dX6_fits_108 rfl ?_
    exact wX6_fits_112 C ih κ v1 v2 ((2 : Int32) + v2) h
set_option maxHeartbeats 4000000 in
theorem wX6_fits_39 {p : Program} {l : Launch} {e : Env} {s : State} {m : MethodId} {args : Array Value} {below : List Frame} {meth : Method} {c : Code} {G : je_G} {dyn : Nat → Option je_E} {sz : Nat} {F : Nat} {r9 : Int32 × kp_K} (C : Cx p s m args meth c G "MinistryDesksModel" cX6_fits 3 (some .int)) : ∀ (n : Nat) (κ : kp_K) (v1 : Int32), bX6_fits_39 F n κ v1 = some r9 → Js p l e ({ frames := 10, cells := 0, slots := 0, locals := 250 } : Room) s m args below meth c G 3 (MQ below (je_Q G (some (.int r9.1)) (en2 G r9.2 dyn) sz) args s 0 0 (je_A G)) (en2 G κ dyn) sz 0 0 39 [(0, .ref (G.2.1 + 66)), (1, .int v1)] [] := by
  intro n
  induction n with
  | zero =>
    intro κ v1 h
    cases h
  | succ n ih =>
    intro κ v1 h
    rw [bX6_fits_39] at h
    refine je_iload_n C dX6_fits_39 40 rfl 1 rfl ?_
    refine je_if_lt C 80 dX6_fits_40 43 rfl rfl h (fun h => ?_) (fun h => ?_)
    · refine je_iconst C (0) dX6_fits_80 81 rfl ic_0 ?_
      refine je_istore_n C dX6_fits_81 82 rfl (Nat.le_of_ble_eq_true rfl) [(1, .int (0 : Int32)), (0, .ref (G.2.1 + 66))] rfl ?_
      refine je_iconst C (0) dX6_fits_82 83 rfl ic_0 ?_
      refine je_istore_n C dX6_fits_83 84 rfl (Nat.le_of_ble_eq_true rfl) [(2, .int (0 : Int32)), (1, .int (0 : Int32)), (0, .ref (G.2.1 + 66))] rfl ?_
      refine je_sub [2, 1, 0] [(0, .ref (G.2.1 + 66)), (1, .int (0 : Int32)), (2, .int (0 : Int32))] rfl ?_
      exact wX6_fits_84 C F κ (0 : Int32) (0 : Int32) h
    refine je_aload_n C dX6_fits_43 44 rfl 0 rfl ?_
    refine gX6_163 C dX6_fits_44 47 rfl ?_
    refine je_iload_n C dX6_fits_47 48 rfl 1 rfl ?_
    refine jk_zald C kd115 dX6_fits_48 49 rfl h (fun h => ?_)
    refine je_if_ne C 74 dX6_fits_49 52 rfl rfl h (fun h => ?_) (fun h => ?_)
    · refine je_iinc C (-1) dX6_fits_74 77 rfl 1 rfl ic_m1 (Nat.le_of_ble_eq_true rfl) [(1, .int (v1 + (-1 : Int32))), (0, .ref (G.2.1 + 66))] rfl ?_
      refine je_goto C 39 dX6_fits_77 rfl ?_
      refine je_sub [1, 0] [(0, .ref (G.2.1 + 66)), (1, .int (v1 + (-1 : Int32)))] rfl ?_
      exact ih κ (v1 + (-1 : Int32)) h
    refine je_aload_n C dX6_fits_52 53 rfl 0 rfl ?_
    refine gX6_157 C dX6_fits_53 56 rfl ?_
    refine je_iload_n C dX6_fits_56 57 rfl 1 rfl ?_
    refine jk_iald C kd113 dX6_fits_57 58 rfl h (fun h => ?_)
    refine je_iconst C (-1) dX6_fits_58 59 rfl ic_m1 ?_
    refine je_icmp_ne C 74 dX6_fits_59 62 rfl rfl h (fun h => ?_) (fun h => ?_)
    · refine je_iinc C (-1) dX6_fits_74 77 rfl 1 rfl ic_m1 (Nat.le_of_ble_eq_true rfl) [(1, .int (v1 + (-1 : Int32))), (0, .ref (G.2.1 + 66))] rfl ?_
      refine je_goto C 39 dX6_fits_77 rfl ?_
      refine je_sub [1, 0] [(0, .ref (G.2.1 + 66)), (1, .int (v1 + (-1 : Int32)))] rfl ?_
      exact ih κ (v1 + (-1 : Int32)) h
    refine je_aload_n C dX6_fits_62 63 rfl 0 rfl ?_
    refine gX6_163 C dX6_fits_63 66 rfl ?_
    refine je_aload_n C dX6_fits_66 67 rfl 0 rfl ?_
    refine gX6_160 C dX6_fits_67 70 rfl ?_
    refine je_iload_n C dX6_fits_70 71 rfl 1 rfl ?_
    refine jk_iald C kd114 dX6_fits_71 72 rfl h (fun h => ?_)
    refine je_iconst C (1) dX6_fits_72 73 rfl ic_1 ?_
    refine jk_zast C kd115 dX6_fits_73 74 rfl (Or.inr rfl) h (fun h => ?_)
    refine jk_lt h (fun k73 h => ?_)
    refine je_iinc C (-1) dX6_fits_74 77 rfl 1 rfl ic_m1 (Nat.le_of_ble_eq_true rfl) [(1, .int (v1 + (-1 : Int32))), (0, .ref (G.2.1 + 66))] rfl ?_
    refine je_goto C 39 dX6_fits_77 rfl ?_
    refine je_sub [1, 0] [(0, .ref (G.2.1 + 66)), (1, .int (v1 + (-1 : Int32)))] rfl ?_
    exact ih k73 (v1 + (-1 : Int32)) h
set_option maxHeartbeats 4000000 in
theorem wX6_fits_11 {p : Program} {l : Launch} {e : Env} {s : State} {m : MethodId} {args : Array Value} {below : List Frame} {meth : Method} {c : Code} {G : je_G} {dyn : Nat → Option je_E} {sz : Nat} {F : Nat} {r9 : Int32 × kp_K} (C : Cx p s m args meth c G "MinistryDesksModel" cX6_fits 3 (some .int)) : ∀ (n : Nat) (κ : kp_K) (v1 : Int32), bX6_fits_11 F n κ v1 = some r9 → Js p l e ({ frames := 10, cells := 0, slots := 0, locals := 250 } : Room) s m args below meth c G 3 (MQ below (je_Q G (some (.int r9.1)) (en2 G r9.2 dyn) sz) args s 0 0 (je_A G)) (en2 G κ dyn) sz 0 0 11 [(0, .ref (G.2.1 + 66)), (1, .int v1)] [] := by
  intro n
  induction n with
  | zero =>
    intro κ v1 h
    cases h
  | succ n ih =>
    intro κ v1 h
    rw [bX6_fits_11] at h
    refine je_iload_n C dX6_fits_11 12 rfl 1 rfl ?_
    refine je_aload_n C dX6_fits_12 13 rfl 0 rfl ?_
    obtain ⟨t13, hg, h⟩ := p_cl_inv h
    refine je_callVi (As := []) (rest := [.int v1]) C (metX6_knownMany hg) (en2_at kd66) rfl hdX6_knownMany rfl cwX6_571 rfl ⟨Nat.le_of_ble_eq_true rfl, Nat.le_of_ble_eq_true rfl⟩ (Nat.le_of_ble_eq_true rfl) dX6_fits_13 16 rfl ⟨Nat.le_refl _, Nat.le_refl _⟩ ?_
    refine je_icmp_ge C 32 dX6_fits_16 19 rfl rfl h (fun h => ?_) (fun h => ?_)
    · refine je_aload_n C dX6_fits_32 33 rfl 0 rfl ?_
      obtain ⟨t33, hg, h⟩ := p_cl_inv h
      refine je_callVi (As := []) (rest := []) C (metX6_knownMany hg) (en2_at kd66) rfl hdX6_knownMany rfl cwX6_571 rfl ⟨Nat.le_of_ble_eq_true rfl, Nat.le_of_ble_eq_true rfl⟩ (Nat.le_of_ble_eq_true rfl) dX6_fits_33 36 rfl ⟨Nat.le_refl _, Nat.le_refl _⟩ ?_
      refine je_iconst C (1) dX6_fits_36 37 rfl ic_1 ?_
      refine je_isub C dX6_fits_37 38 rfl ?_
      refine je_lti h (fun t38 h => ?_)
      refine je_istore_n C dX6_fits_38 39 rfl (Nat.le_of_ble_eq_true rfl) [(1, .int t38), (0, .ref (G.2.1 + 66))] rfl ?_
      refine je_sub [1, 0] [(0, .ref (G.2.1 + 66)), (1, .int t38)] rfl ?_
      exact wX6_fits_39 C F κ t38 h
    refine je_aload_n C dX6_fits_19 20 rfl 0 rfl ?_
    refine gX6_163 C dX6_fits_20 23 rfl ?_
    refine je_iload_n C dX6_fits_23 24 rfl 1 rfl ?_
    refine je_iconst C (0) dX6_fits_24 25 rfl ic_0 ?_
    refine jk_zast C kd115 dX6_fits_25 26 rfl (Or.inl rfl) h (fun h => ?_)
    refine jk_lt h (fun k25 h => ?_)
    refine je_iinc C (1) dX6_fits_26 29 rfl 1 rfl ic_1 (Nat.le_of_ble_eq_true rfl) [(1, .int (v1 + (1 : Int32))), (0, .ref (G.2.1 + 66))] rfl ?_
    refine je_goto C 11 dX6_fits_29 rfl ?_
    refine je_sub [1, 0] [(0, .ref (G.2.1 + 66)), (1, .int (v1 + (1 : Int32)))] rfl ?_
    exact ih k25 (v1 + (1 : Int32)) h
set_option maxHeartbeats 4000000 in
theorem metX6_fits {l : Launch} {G : je_G} {dyn : Nat → Option je_E} {sz : Nat} {F : Nat} {κ : kp_K}  {r9 : Int32 × kp_K} (h : pX6_fits F κ = some r9) : MetS l G yX6_fits cX6_fits 3 (some .int) 10 250 0 0 [.ref (G.2.1 + 66)] (en2 G κ dyn) sz (some (.int r9.1)) (en2 G r9.2 dyn) sz := by
  refine je_met "MinistryDesksModel" rfl (by decide +kernel) (Nat.le_of_ble_eq_true rfl) [(0, .ref (G.2.1 + 66))] rfl (fun p e s m args below meth c C => ?_)
  unfold pX6_fits at h
  refine je_aload_n C dX6_fits_0 1 rfl 0 rfl ?_
  refine je_iconst C (0) dX6_fits_1 2 rfl ic_0 ?_
  refine sX6_166 C dX6_fits_2 5 rfl ?_
  refine jk_lt h (fun k2 h => ?_)
  refine je_aload_n C dX6_fits_5 6 rfl 0 rfl ?_
  obtain ⟨k6, hg, h⟩ := p_cl_inv h
  refine je_callVv (As := []) (rest := []) C (metX6_plain hg) (en2_at kd66) rfl hdX6_plain rfl cwX6_340 rfl ⟨Nat.le_of_ble_eq_true rfl, Nat.le_of_ble_eq_true rfl⟩ (Nat.le_of_ble_eq_true rfl) dX6_fits_6 9 rfl ⟨Nat.le_refl _, Nat.le_refl _⟩ ?_
  refine je_iconst C (0) dX6_fits_9 10 rfl ic_0 ?_
  refine je_istore_n C dX6_fits_10 11 rfl (Nat.le_of_ble_eq_true rfl) [(1, .int (0 : Int32)), (0, .ref (G.2.1 + 66))] rfl ?_
  refine je_sub [1, 0] [(0, .ref (G.2.1 + 66)), (1, .int (0 : Int32))] rfl ?_
  exact wX6_fits_11 C F k6 (0 : Int32) h
set_option maxHeartbeats 4000000 in
theorem wX6_tried_102 {p : Program} {l : Launch} {e : Env} {s : State} {m : MethodId} {args : Array Value} {below : List Frame} {meth : Method} {c : Code} {G : je_G} {dyn : Nat → Option je_E} {sz : Nat} {F : Nat} {r9 : Int32 × kp_K} (C : Cx p s m args meth c G "MinistryDesksModel" cX6_tried 6 (some .int)) : ∀ (n : Nat) (κ : kp_K) (v3 : Int32) (v5 : Int32), bX6_tried_102 F n κ v3 v5 = some r9 → Js p l e ({ frames := 9, cells := 0, slots := 0, locals := 229 } : Room) s m args below meth c G 6 (MQ below (je_Q G (some (.int r9.1)) (en2 G r9.2 dyn) sz) args s 0 0 (je_A G)) (en2 G κ dyn) sz 0 0 102 [(0, .ref (G.2.1 + 66)), (3, .int v3), (5, .int v5)] [] := by
  intro n
  induction n with
  | zero =>
    intro κ v3 v5 h
    cases h
  | succ n ih =>
    intro κ v3 v5 h
    rw [bX6_tried_102] at h
    refine je_iload C dX6_tried_102 104 rfl 2 rfl ?_
    refine je_aload_n C dX6_tried_104 105 rfl 0 rfl ?_
    refine gX6_87 C dX6_tried_105 108 rfl ?_
    refine je_iconst C (0) dX6_tried_108 109 rfl ic_0 ?_
    refine jk_iald C kd91 dX6_tried_109 110 rfl h (fun h => ?_)
    refine je_icmp_ge C 124 dX6_tried_110 113 rfl rfl h (fun h => ?_) (fun h => ?_)
    · refine je_aload_n C dX6_tried_124 125 rfl 0 rfl ?_
      refine gX6_102 C dX6_tried_125 128 rfl ?_
      refine je_iconst C (4) dX6_tried_128 129 rfl ic_4 ?_
      refine je_iload_n C dX6_tried_129 130 rfl 1 rfl ?_
      refine je_iadd C dX6_tried_130 131 rfl ?_
      refine je_lti h (fun i131 h => ?_)
      refine jk_iald C kd96 dX6_tried_131 132 rfl h (fun h => ?_)
      cases h
      exact je_iret C dX6_tried_132
    refine je_aload_n C dX6_tried_113 114 rfl 0 rfl ?_
    refine je_iconst C (1) dX6_tried_114 115 rfl ic_1 ?_
    obtain ⟨k115, hg, h⟩ := p_cl_inv h
    refine je_callVv (As := [.int (1 : Int32)]) (rest := []) C (metX6_passes hg) (en2_at kd66) rfl hdX6_passes rfl cwX6_455 rfl ⟨Nat.le_of_ble_eq_true rfl, Nat.le_of_ble_eq_true rfl⟩ (Nat.le_of_ble_eq_true rfl) dX6_tried_115 118 rfl ⟨Nat.le_refl _, Nat.le_refl _⟩ ?_
    refine je_iinc C (1) dX6_tried_118 121 rfl 2 rfl ic_1 (Nat.le_of_ble_eq_true rfl) [(5, .int (v5 + (1 : Int32))), (0, .ref (G.2.1 + 66)), (3, .int v3)] rfl ?_
    refine je_goto C 102 dX6_tried_121 rfl ?_
    refine je_sub [1, 2, 0] [(0, .ref (G.2.1 + 66)), (3, .int v3), (5, .int (v5 + (1 : Int32)))] rfl ?_
    exact ih k115 v3 (v5 + (1 : Int32)) h
set_option maxHeartbeats 4000000 in
theorem wX6_tried_63 {p : Program} {l : Launch} {e : Env} {s : State} {m : MethodId} {args : Array Value} {below : List Frame} {meth : Method} {c : Code} {G : je_G} {dyn : Nat → Option je_E} {sz : Nat} {F : Nat} {r9 : Int32 × kp_K} (C : Cx p s m args meth c G "MinistryDesksModel" cX6_tried 6 (some .int)) (κ : kp_K) (v1 : Int32) (v2 : Int32) (v3 : Int32) (s0 : Int32) (h : bX6_tried_63 F κ v1 v2 v3 s0 = some r9) : Js p l e ({ frames := 9, cells := 0, slots := 0, locals := 229 } : Room) s m args below meth c G 6 (MQ below (je_Q G (some (.int r9.1)) (en2 G r9.2 dyn) sz) args s 0 0 (je_A G)) (en2 G κ dyn) sz 0 0 63 [(0, .ref (G.2.1 + 66)), (1, .int v1), (2, .int v2), (3, .int v3)] [.int s0] := by
  unfold bX6_tried_63 at h
  refine je_istore C dX6_tried_63 65 rfl (Nat.le_of_ble_eq_true rfl) [(4, .int s0), (0, .ref (G.2.1 + 66)), (1, .int v1), (2, .int v2), (3, .int v3)] rfl ?_
  refine je_iload C dX6_tried_65 67 rfl 0 rfl ?_
  refine je_if_eq C 78 dX6_tried_67 70 rfl rfl h (fun h => ?_) (fun h => ?_)
  · refine je_iconst C (-1) dX6_tried_78 79 rfl ic_m1 ?_
    cases h
    exact je_iret C dX6_tried_79
  refine je_aload_n C dX6_tried_70 71 rfl 1 rfl ?_
  refine je_iload_n C dX6_tried_71 72 rfl 4 rfl ?_
  obtain ⟨t72, hg, h⟩ := p_cl_inv h
  refine je_callVi (As := [.int v3]) (rest := []) C (metX6_isDesk hg) (en2_at kd66) rfl hdX6_isDesk rfl cwX6_452 rfl ⟨Nat.le_of_ble_eq_true rfl, Nat.le_of_ble_eq_true rfl⟩ (Nat.le_of_ble_eq_true rfl) dX6_tried_72 75 rfl ⟨Nat.le_refl _, Nat.le_refl _⟩ ?_
  refine je_if_ne C 80 dX6_tried_75 78 rfl rfl h (fun h => ?_) (fun h => ?_)
  · refine je_aload_n C dX6_tried_80 81 rfl 1 rfl ?_
    obtain ⟨k81, hg, h⟩ := p_cl_inv h
    refine je_callVv (As := []) (rest := []) C (metX6_plain hg) (en2_at kd66) rfl hdX6_plain rfl cwX6_340 rfl ⟨Nat.le_of_ble_eq_true rfl, Nat.le_of_ble_eq_true rfl⟩ (Nat.le_of_ble_eq_true rfl) dX6_tried_81 84 rfl ⟨Nat.le_refl _, Nat.le_refl _⟩ ?_
    refine je_aload_n C dX6_tried_84 85 rfl 1 rfl ?_
    refine je_iload_n C dX6_tried_85 86 rfl 2 rfl ?_
    refine sX6_346 C dX6_tried_86 89 rfl ?_
    refine jk_lt h (fun k86 h => ?_)
    refine je_aload_n C dX6_tried_89 90 rfl 1 rfl ?_
    refine je_iload_n C dX6_tried_90 91 rfl 3 rfl ?_
    refine sX6_349 C dX6_tried_91 94 rfl ?_
    refine jk_lt h (fun k91 h => ?_)
    refine je_aload_n C dX6_tried_94 95 rfl 1 rfl ?_
    refine je_iconst C (1) dX6_tried_95 96 rfl ic_1 ?_
    obtain ⟨k96, hg, h⟩ := p_cl_inv h
    refine je_callVv (As := [.int (1 : Int32)]) (rest := []) C (metX6_begins hg) (en2_at kd66) rfl hdX6_begins rfl cwX6_343 rfl ⟨Nat.le_of_ble_eq_true rfl, Nat.le_of_ble_eq_true rfl⟩ (Nat.le_of_ble_eq_true rfl) dX6_tried_96 99 rfl ⟨Nat.le_refl _, Nat.le_refl _⟩ ?_
    refine je_iconst C (0) dX6_tried_99 100 rfl ic_0 ?_
    refine je_istore C dX6_tried_100 102 rfl (Nat.le_of_ble_eq_true rfl) [(5, .int (0 : Int32)), (4, .int s0), (0, .ref (G.2.1 + 66)), (1, .int v1), (2, .int v2), (3, .int v3)] rfl ?_
    refine je_sub [2, 5, 0] [(0, .ref (G.2.1 + 66)), (3, .int v3), (5, .int (0 : Int32))] rfl ?_
    exact wX6_tried_102 C F k96 v3 (0 : Int32) h
  refine je_iconst C (-1) dX6_tried_78 79 rfl ic_m1 ?_
  cases h
  exact je_iret C dX6_tried_79
set_option maxHeartbeats 4000000 in
theorem wX6_tried_62 {p : Program} {l : Launch} {e : Env} {s : State} {m : MethodId} {args : Array Value} {below : List Frame} {meth : Method} {c : Code} {G : je_G} {dyn : Nat → Option je_E} {sz : Nat} {F : Nat} {r9 : Int32 × kp_K} (C : Cx p s m args meth c G "MinistryDesksModel" cX6_tried 6 (some .int)) (κ : kp_K) (v1 : Int32) (v2 : Int32) (v3 : Int32) (h : bX6_tried_62 F κ v1 v2 v3 = some r9) : Js p l e ({ frames := 9, cells := 0, slots := 0, locals := 229 } : Room) s m args below meth c G 6 (MQ below (je_Q G (some (.int r9.1)) (en2 G r9.2 dyn) sz) args s 0 0 (je_A G)) (en2 G κ dyn) sz 0 0 62 [(0, .ref (G.2.1 + 66)), (1, .int v1), (2, .int v2), (3, .int v3)] [] := by
  unfold bX6_tried_62 at h
  refine je_iconst C (0) dX6_tried_62 63 rfl ic_0 ?_
  exact wX6_tried_63 C κ v1 v2 v3 (0 : Int32) h
set_option maxHeartbeats 4000000 in
theorem wX6_tried_26 {p : Program} {l : Launch} {e : Env} {s : State} {m : MethodId} {args : Array Value} {below : List Frame} {meth : Method} {c : Code} {G : je_G} {dyn : Nat → Option je_E} {sz : Nat} {F : Nat} {r9 : Int32 × kp_K} (C : Cx p s m args meth c G "MinistryDesksModel" cX6_tried 6 (some .int)) (κ : kp_K) (v1 : Int32) (v2 : Int32) (v3 : Int32) (h : bX6_tried_26 F κ v1 v2 v3 = some r9) : Js p l e ({ frames := 9, cells := 0, slots := 0, locals := 229 } : Room) s m args below meth c G 6 (MQ below (je_Q G (some (.int r9.1)) (en2 G r9.2 dyn) sz) args s 0 0 (je_A G)) (en2 G κ dyn) sz 0 0 26 [(0, .ref (G.2.1 + 66)), (1, .int v1), (2, .int v2), (3, .int v3)] [] := by
  unfold bX6_tried_26 at h
  refine je_iload_n C dX6_tried_26 27 rfl 1 rfl ?_
  refine je_iconst C (4) dX6_tried_27 28 rfl ic_4 ?_
  refine je_icmp_ne C 39 dX6_tried_28 31 rfl rfl h (fun h => ?_) (fun h => ?_)
  · refine je_iload_n C dX6_tried_39 40 rfl 1 rfl ?_
    refine je_iconst C (5) dX6_tried_40 41 rfl ic_5 ?_
    refine je_icmp_ne C 62 dX6_tried_41 44 rfl rfl h (fun h => ?_) (fun h => ?_)
    · exact wX6_tried_62 C κ v1 v2 v3 h
    refine je_iload_n C dX6_tried_44 45 rfl 2 rfl ?_
    refine je_if_lt C 62 dX6_tried_45 48 rfl rfl h (fun h => ?_) (fun h => ?_)
    · exact wX6_tried_62 C κ v1 v2 v3 h
    refine je_iload_n C dX6_tried_48 49 rfl 2 rfl ?_
    refine je_aload_n C dX6_tried_49 50 rfl 0 rfl ?_
    refine gX6_13 C dX6_tried_50 53 rfl ?_
    refine je_iconst C (2) dX6_tried_53 54 rfl ic_2 ?_
    refine jk_iald C kd68 dX6_tried_54 55 rfl h (fun h => ?_)
    refine je_icmp_ge C 62 dX6_tried_55 58 rfl rfl h (fun h => ?_) (fun h => ?_)
    · exact wX6_tried_62 C κ v1 v2 v3 h
    refine je_iconst C (1) dX6_tried_58 59 rfl ic_1 ?_
    refine je_goto C 63 dX6_tried_59 rfl ?_
    exact wX6_tried_63 C κ v1 v2 v3 (1 : Int32) h
  refine je_aload_n C dX6_tried_31 32 rfl 0 rfl ?_
  refine je_iload_n C dX6_tried_32 33 rfl 2 rfl ?_
  obtain ⟨t33, hg, h⟩ := p_cl_inv h
  refine je_callVi (As := [.int v2]) (rest := []) C (metX6_isDesk hg) (en2_at kd66) rfl hdX6_isDesk rfl cwX6_452 rfl ⟨Nat.le_of_ble_eq_true rfl, Nat.le_of_ble_eq_true rfl⟩ (Nat.le_of_ble_eq_true rfl) dX6_tried_33 36 rfl ⟨Nat.le_refl _, Nat.le_refl _⟩ ?_
  refine je_goto C 63 dX6_tried_36 rfl ?_
  exact wX6_tried_63 C κ v1 v2 v3 t33 h
set_option maxHeartbeats 4000000 in
theorem metX6_tried {l : Launch} {G : je_G} {dyn : Nat → Option je_E} {sz : Nat} {F : Nat} {κ : kp_K} {v1 : Int32} {v2 : Int32} {v3 : Int32} {r9 : Int32 × kp_K} (h : pX6_tried F κ v1 v2 v3 = some r9) : MetS l G yX6_tried cX6_tried 6 (some .int) 9 229 0 0 [.ref (G.2.1 + 66), .int v1, .int v2, .int v3] (en2 G κ dyn) sz (some (.int r9.1)) (en2 G r9.2 dyn) sz := by
  refine je_met "MinistryDesksModel" rfl (by decide +kernel) (Nat.le_of_ble_eq_true rfl) [(0, .ref (G.2.1 + 66)), (1, .int v1), (2, .int v2), (3, .int v3)] rfl (fun p e s m args below meth c C => ?_)
  unfold pX6_tried at h
  refine je_aload_n C dX6_tried_0 1 rfl 0 rfl ?_
  refine je_iconst C (0) dX6_tried_1 2 rfl ic_0 ?_
  refine sX6_166 C dX6_tried_2 5 rfl ?_
  refine jk_lt h (fun k2 h => ?_)
  refine je_iload_n C dX6_tried_5 6 rfl 1 rfl ?_
  refine je_if_lt C 26 dX6_tried_6 9 rfl rfl h (fun h => ?_) (fun h => ?_)
  · exact wX6_tried_26 C k2 v1 v2 v3 h
  refine je_iload_n C dX6_tried_9 10 rfl 1 rfl ?_
  refine je_iconst C (3) dX6_tried_10 11 rfl ic_3 ?_
  refine je_icmp_gt C 26 dX6_tried_11 14 rfl rfl h (fun h => ?_) (fun h => ?_)
  · exact wX6_tried_26 C k2 v1 v2 v3 h
  refine je_iload_n C dX6_tried_14 15 rfl 2 rfl ?_
  refine je_if_ne C 22 dX6_tried_15 18 rfl rfl h (fun h => ?_) (fun h => ?_)
  · refine je_iconst C (0) dX6_tried_22 23 rfl ic_0 ?_
    refine je_goto C 63 dX6_tried_23 rfl ?_
    exact wX6_tried_63 C k2 v1 v2 v3 (0 : Int32) h
  refine je_iconst C (1) dX6_tried_18 19 rfl ic_1 ?_
  refine je_goto C 63 dX6_tried_19 rfl ?_
  exact wX6_tried_63 C k2 v1 v2 v3 (1 : Int32) h
set_option maxHeartbeats 4000000 in
theorem wX6_copies_215 {p : Program} {l : Launch} {e : Env} {s : State} {m : MethodId} {args : Array Value} {below : List Frame} {meth : Method} {c : Code} {G : je_G} {dyn : Nat → Option je_E} {sz : Nat} {F : Nat} {r9 : kp_K} (C : Cx p s m args meth c G "MinistryDesksModel" cX6_copies 4 none) : ∀ (n : Nat) (κ : kp_K) (v1 : Int32) (v2 : Int32) (v3 : Int32), bX6_copies_215 F n κ v1 v2 v3 = some r9 → Js p l e ({ frames := 0, cells := 0, slots := 0, locals := 0 } : Room) s m args below meth c G 4 (MQ below (je_Q G none (en2 G r9 dyn) sz) args s 0 0 (je_A G)) (en2 G κ dyn) sz 0 0 215 [(0, .ref (G.2.1 + 66)), (1, .int v1), (2, .int v2), (3, .int v3)] [] := by
  intro n
  induction n with
  | zero =>
    intro κ v1 v2 v3 h
    cases h
  | succ n ih =>
    intro κ v1 v2 v3 h
    rw [bX6_copies_215] at h
    refine je_iload_n C dX6_copies_215 216 rfl 3 rfl ?_
    refine je_aload_n C dX6_copies_216 217 rfl 0 rfl ?_
    refine gX6_115 C dX6_copies_217 220 rfl ?_
    refine je_iload_n C dX6_copies_220 221 rfl 2 rfl ?_
    refine jk_iald C kd100 dX6_copies_221 222 rfl h (fun h => ?_)
    refine je_icmp_ge C 327 dX6_copies_222 225 rfl rfl h (fun h => ?_) (fun h => ?_)
    · cases h
      exact je_vret C dX6_copies_327
    refine je_aload_n C dX6_copies_225 226 rfl 0 rfl ?_
    refine gX6_118 C dX6_copies_226 229 rfl ?_
    refine je_sipush C (640) dX6_copies_229 232 rfl sp_640 ?_
    refine je_iload_n C dX6_copies_232 233 rfl 1 rfl ?_
    refine je_imul C dX6_copies_233 234 rfl ?_
    refine je_iload_n C dX6_copies_234 235 rfl 3 rfl ?_
    refine je_iadd C dX6_copies_235 236 rfl ?_
    refine je_aload_n C dX6_copies_236 237 rfl 0 rfl ?_
    refine gX6_118 C dX6_copies_237 240 rfl ?_
    refine je_sipush C (640) dX6_copies_240 243 rfl sp_640 ?_
    refine je_iload_n C dX6_copies_243 244 rfl 2 rfl ?_
    refine je_imul C dX6_copies_244 245 rfl ?_
    refine je_iload_n C dX6_copies_245 246 rfl 3 rfl ?_
    refine je_iadd C dX6_copies_246 247 rfl ?_
    refine je_lti h (fun i247 h => ?_)
    refine jk_iald C kd101 dX6_copies_247 248 rfl h (fun h => ?_)
    refine jk_iast C kd101 dX6_copies_248 249 rfl h (fun h => ?_)
    refine jk_lt h (fun k248 h => ?_)
    refine je_aload_n C dX6_copies_249 250 rfl 0 rfl ?_
    refine gX6_121 C dX6_copies_250 253 rfl ?_
    refine je_sipush C (640) dX6_copies_253 256 rfl sp_640 ?_
    refine je_iload_n C dX6_copies_256 257 rfl 1 rfl ?_
    refine je_imul C dX6_copies_257 258 rfl ?_
    refine je_iload_n C dX6_copies_258 259 rfl 3 rfl ?_
    refine je_iadd C dX6_copies_259 260 rfl ?_
    refine je_aload_n C dX6_copies_260 261 rfl 0 rfl ?_
    refine gX6_121 C dX6_copies_261 264 rfl ?_
    refine je_sipush C (640) dX6_copies_264 267 rfl sp_640 ?_
    refine je_iload_n C dX6_copies_267 268 rfl 2 rfl ?_
    refine je_imul C dX6_copies_268 269 rfl ?_
    refine je_iload_n C dX6_copies_269 270 rfl 3 rfl ?_
    refine je_iadd C dX6_copies_270 271 rfl ?_
    refine je_lti h (fun i271 h => ?_)
    refine jk_iald C kd102 dX6_copies_271 272 rfl h (fun h => ?_)
    refine jk_iast C kd102 dX6_copies_272 273 rfl h (fun h => ?_)
    refine jk_lt h (fun k272 h => ?_)
    refine je_aload_n C dX6_copies_273 274 rfl 0 rfl ?_
    refine gX6_124 C dX6_copies_274 277 rfl ?_
    refine je_sipush C (640) dX6_copies_277 280 rfl sp_640 ?_
    refine je_iload_n C dX6_copies_280 281 rfl 1 rfl ?_
    refine je_imul C dX6_copies_281 282 rfl ?_
    refine je_iload_n C dX6_copies_282 283 rfl 3 rfl ?_
    refine je_iadd C dX6_copies_283 284 rfl ?_
    refine je_aload_n C dX6_copies_284 285 rfl 0 rfl ?_
    refine gX6_124 C dX6_copies_285 288 rfl ?_
    refine je_sipush C (640) dX6_copies_288 291 rfl sp_640 ?_
    refine je_iload_n C dX6_copies_291 292 rfl 2 rfl ?_
    refine je_imul C dX6_copies_292 293 rfl ?_
    refine je_iload_n C dX6_copies_293 294 rfl 3 rfl ?_
    refine je_iadd C dX6_copies_294 295 rfl ?_
    refine je_lti h (fun i295 h => ?_)
    refine jk_iald C kd103 dX6_copies_295 296 rfl h (fun h => ?_)
    refine jk_iast C kd103 dX6_copies_296 297 rfl h (fun h => ?_)
    refine jk_lt h (fun k296 h => ?_)
    refine je_aload_n C dX6_copies_297 298 rfl 0 rfl ?_
    refine gX6_127 C dX6_copies_298 301 rfl ?_
    refine je_sipush C (640) dX6_copies_301 304 rfl sp_640 ?_
    refine je_iload_n C dX6_copies_304 305 rfl 1 rfl ?_
    refine je_imul C dX6_copies_305 306 rfl ?_
    refine je_iload_n C dX6_copies_306 307 rfl 3 rfl ?_
    refine je_iadd C dX6_copies_307 308 rfl ?_
    refine je_aload_n C dX6_copies_308 309 rfl 0 rfl ?_
    refine gX6_127 C dX6_copies_309 312 rfl ?_
    refine je_sipush C (640) dX6_copies_312 315 rfl sp_640 ?_
    refine je_iload_n C dX6_copies_315 316 rfl 2 rfl ?_
    refine je_imul C dX6_copies_316 317 rfl ?_
    refine je_iload_n C dX6_copies_317 318 rfl 3 rfl ?_
    refine je_iadd C dX6_copies_318 319 rfl ?_
    refine je_lti h (fun i319 h => ?_)
    refine jk_iald C kd104 dX6_copies_319 320 rfl h (fun h => ?_)
    refine jk_iast C kd104 dX6_copies_320 321 rfl h (fun h => ?_)
    refine jk_lt h (fun k320 h => ?_)
    refine je_iinc C (1) dX6_copies_321 324 rfl 3 rfl ic_1 (Nat.le_of_ble_eq_true rfl) [(3, .int (v3 + (1 : Int32))), (0, .ref (G.2.1 + 66)), (1, .int v1), (2, .int v2)] rfl ?_
    refine je_goto C 215 dX6_copies_324 rfl ?_
    refine je_sub [1, 2, 3, 0] [(0, .ref (G.2.1 + 66)), (1, .int v1), (2, .int v2), (3, .int (v3 + (1 : Int32)))] rfl ?_
    exact ih k320 v1 v2 (v3 + (1 : Int32)) h
set_option maxHeartbeats 4000000 in
theorem wX6_copies_179 {p : Program} {l : Launch} {e : Env} {s : State} {m : MethodId} {args : Array Value} {below : List Frame} {meth : Method} {c : Code} {G : je_G} {dyn : Nat → Option je_E} {sz : Nat} {F : Nat} {r9 : kp_K} (C : Cx p s m args meth c G "MinistryDesksModel" cX6_copies 4 none) : ∀ (n : Nat) (κ : kp_K) (v1 : Int32) (v2 : Int32) (v3 : Int32), bX6_copies_179 F n κ v1 v2 v3 = some r9 → Js p l e ({ frames := 0, cells := 0, slots := 0, locals := 0 } : Room) s m args below meth c G 4 (MQ below (je_Q G none (en2 G r9 dyn) sz) args s 0 0 (je_A G)) (en2 G κ dyn) sz 0 0 179 [(0, .ref (G.2.1 + 66)), (1, .int v1), (2, .int v2), (3, .int v3)] [] := by
  intro n
  induction n with
  | zero =>
    intro κ v1 v2 v3 h
    cases h
  | succ n ih =>
    intro κ v1 v2 v3 h
    rw [bX6_copies_179] at h
    refine je_iload_n C dX6_copies_179 180 rfl 3 rfl ?_
    refine je_bipush C (16) dX6_copies_180 182 rfl bp_16 ?_
    refine je_icmp_ge C 213 dX6_copies_182 185 rfl rfl h (fun h => ?_) (fun h => ?_)
    · refine je_iconst C (0) dX6_copies_213 214 rfl ic_0 ?_
      refine je_istore_n C dX6_copies_214 215 rfl (Nat.le_of_ble_eq_true rfl) [(3, .int (0 : Int32)), (0, .ref (G.2.1 + 66)), (1, .int v1), (2, .int v2)] rfl ?_
      refine je_sub [1, 2, 3, 0] [(0, .ref (G.2.1 + 66)), (1, .int v1), (2, .int v2), (3, .int (0 : Int32))] rfl ?_
      exact wX6_copies_215 C F κ v1 v2 (0 : Int32) h
    refine je_aload_n C dX6_copies_185 186 rfl 0 rfl ?_
    refine gX6_112 C dX6_copies_186 189 rfl ?_
    refine je_bipush C (16) dX6_copies_189 191 rfl bp_16 ?_
    refine je_iload_n C dX6_copies_191 192 rfl 1 rfl ?_
    refine je_imul C dX6_copies_192 193 rfl ?_
    refine je_iload_n C dX6_copies_193 194 rfl 3 rfl ?_
    refine je_iadd C dX6_copies_194 195 rfl ?_
    refine je_aload_n C dX6_copies_195 196 rfl 0 rfl ?_
    refine gX6_112 C dX6_copies_196 199 rfl ?_
    refine je_bipush C (16) dX6_copies_199 201 rfl bp_16 ?_
    refine je_iload_n C dX6_copies_201 202 rfl 2 rfl ?_
    refine je_imul C dX6_copies_202 203 rfl ?_
    refine je_iload_n C dX6_copies_203 204 rfl 3 rfl ?_
    refine je_iadd C dX6_copies_204 205 rfl ?_
    refine je_lti h (fun i205 h => ?_)
    refine jk_iald C kd99 dX6_copies_205 206 rfl h (fun h => ?_)
    refine jk_iast C kd99 dX6_copies_206 207 rfl h (fun h => ?_)
    refine jk_lt h (fun k206 h => ?_)
    refine je_iinc C (1) dX6_copies_207 210 rfl 3 rfl ic_1 (Nat.le_of_ble_eq_true rfl) [(3, .int (v3 + (1 : Int32))), (0, .ref (G.2.1 + 66)), (1, .int v1), (2, .int v2)] rfl ?_
    refine je_goto C 179 dX6_copies_210 rfl ?_
    refine je_sub [1, 2, 3, 0] [(0, .ref (G.2.1 + 66)), (1, .int v1), (2, .int v2), (3, .int (v3 + (1 : Int32)))] rfl ?_
    exact ih k206 v1 v2 (v3 + (1 : Int32)) h
set_option maxHeartbeats 4000000 in
theorem wX6_copies_99 {p : Program} {l : Launch} {e : Env} {s : State} {m : MethodId} {args : Array Value} {below : List Frame} {meth : Method} {c : Code} {G : je_G} {dyn : Nat → Option je_E} {sz : Nat} {F : Nat} {r9 : kp_K} (C : Cx p s m args meth c G "MinistryDesksModel" cX6_copies 4 none) : ∀ (n : Nat) (κ : kp_K) (v1 : Int32) (v2 : Int32) (v3 : Int32), bX6_copies_99 F n κ v1 v2 v3 = some r9 → Js p l e ({ frames := 0, cells := 0, slots := 0, locals := 0 } : Room) s m args below meth c G 4 (MQ below (je_Q G none (en2 G r9 dyn) sz) args s 0 0 (je_A G)) (en2 G κ dyn) sz 0 0 99 [(0, .ref (G.2.1 + 66)), (1, .int v1), (2, .int v2), (3, .int v3)] [] := by
  intro n
  induction n with
  | zero =>
    intro κ v1 v2 v3 h
    cases h
  | succ n ih =>
    intro κ v1 v2 v3 h
    rw [bX6_copies_99] at h
    refine je_iload_n C dX6_copies_99 100 rfl 3 rfl ?_
    refine je_bipush C (28) dX6_copies_100 102 rfl bp_28 ?_
    refine je_icmp_ge C 177 dX6_copies_102 105 rfl rfl h (fun h => ?_) (fun h => ?_)
    · refine je_iconst C (0) dX6_copies_177 178 rfl ic_0 ?_
      refine je_istore_n C dX6_copies_178 179 rfl (Nat.le_of_ble_eq_true rfl) [(3, .int (0 : Int32)), (0, .ref (G.2.1 + 66)), (1, .int v1), (2, .int v2)] rfl ?_
      refine je_sub [1, 2, 3, 0] [(0, .ref (G.2.1 + 66)), (1, .int v1), (2, .int v2), (3, .int (0 : Int32))] rfl ?_
      exact wX6_copies_179 C F κ v1 v2 (0 : Int32) h
    refine je_aload_n C dX6_copies_105 106 rfl 0 rfl ?_
    refine gX6_93 C dX6_copies_106 109 rfl ?_
    refine je_bipush C (28) dX6_copies_109 111 rfl bp_28 ?_
    refine je_iload_n C dX6_copies_111 112 rfl 1 rfl ?_
    refine je_imul C dX6_copies_112 113 rfl ?_
    refine je_iload_n C dX6_copies_113 114 rfl 3 rfl ?_
    refine je_iadd C dX6_copies_114 115 rfl ?_
    refine je_aload_n C dX6_copies_115 116 rfl 0 rfl ?_
    refine gX6_93 C dX6_copies_116 119 rfl ?_
    refine je_bipush C (28) dX6_copies_119 121 rfl bp_28 ?_
    refine je_iload_n C dX6_copies_121 122 rfl 2 rfl ?_
    refine je_imul C dX6_copies_122 123 rfl ?_
    refine je_iload_n C dX6_copies_123 124 rfl 3 rfl ?_
    refine je_iadd C dX6_copies_124 125 rfl ?_
    refine je_lti h (fun i125 h => ?_)
    refine jk_iald C kd93 dX6_copies_125 126 rfl h (fun h => ?_)
    refine jk_iast C kd93 dX6_copies_126 127 rfl h (fun h => ?_)
    refine jk_lt h (fun k126 h => ?_)
    refine je_aload_n C dX6_copies_127 128 rfl 0 rfl ?_
    refine gX6_96 C dX6_copies_128 131 rfl ?_
    refine je_bipush C (28) dX6_copies_131 133 rfl bp_28 ?_
    refine je_iload_n C dX6_copies_133 134 rfl 1 rfl ?_
    refine je_imul C dX6_copies_134 135 rfl ?_
    refine je_iload_n C dX6_copies_135 136 rfl 3 rfl ?_
    refine je_iadd C dX6_copies_136 137 rfl ?_
    refine je_aload_n C dX6_copies_137 138 rfl 0 rfl ?_
    refine gX6_96 C dX6_copies_138 141 rfl ?_
    refine je_bipush C (28) dX6_copies_141 143 rfl bp_28 ?_
    refine je_iload_n C dX6_copies_143 144 rfl 2 rfl ?_
    refine je_imul C dX6_copies_144 145 rfl ?_
    refine je_iload_n C dX6_copies_145 146 rfl 3 rfl ?_
    refine je_iadd C dX6_copies_146 147 rfl ?_
    refine je_lti h (fun i147 h => ?_)
    refine jk_iald C kd94 dX6_copies_147 148 rfl h (fun h => ?_)
    refine jk_iast C kd94 dX6_copies_148 149 rfl h (fun h => ?_)
    refine jk_lt h (fun k148 h => ?_)
    refine je_aload_n C dX6_copies_149 150 rfl 0 rfl ?_
    refine gX6_99 C dX6_copies_150 153 rfl ?_
    refine je_bipush C (28) dX6_copies_153 155 rfl bp_28 ?_
    refine je_iload_n C dX6_copies_155 156 rfl 1 rfl ?_
    refine je_imul C dX6_copies_156 157 rfl ?_
    refine je_iload_n C dX6_copies_157 158 rfl 3 rfl ?_
    refine je_iadd C dX6_copies_158 159 rfl ?_
    refine je_aload_n C dX6_copies_159 160 rfl 0 rfl ?_
    refine gX6_99 C dX6_copies_160 163 rfl ?_
    refine je_bipush C (28) dX6_copies_163 165 rfl bp_28 ?_
    refine je_iload_n C dX6_copies_165 166 rfl 2 rfl ?_
    refine je_imul C dX6_copies_166 167 rfl ?_
    refine je_iload_n C dX6_copies_167 168 rfl 3 rfl ?_
    refine je_iadd C dX6_copies_168 169 rfl ?_
    refine je_lti h (fun i169 h => ?_)
    refine jk_iald C kd95 dX6_copies_169 170 rfl h (fun h => ?_)
    refine jk_iast C kd95 dX6_copies_170 171 rfl h (fun h => ?_)
    refine jk_lt h (fun k170 h => ?_)
    refine je_iinc C (1) dX6_copies_171 174 rfl 3 rfl ic_1 (Nat.le_of_ble_eq_true rfl) [(3, .int (v3 + (1 : Int32))), (0, .ref (G.2.1 + 66)), (1, .int v1), (2, .int v2)] rfl ?_
    refine je_goto C 99 dX6_copies_174 rfl ?_
    refine je_sub [1, 2, 3, 0] [(0, .ref (G.2.1 + 66)), (1, .int v1), (2, .int v2), (3, .int (v3 + (1 : Int32)))] rfl ?_
    exact ih k170 v1 v2 (v3 + (1 : Int32)) h
set_option maxHeartbeats 4000000 in
theorem wX6_copies_26 {p : Program} {l : Launch} {e : Env} {s : State} {m : MethodId} {args : Array Value} {below : List Frame} {meth : Method} {c : Code} {G : je_G} {dyn : Nat → Option je_E} {sz : Nat} {F : Nat} {r9 : kp_K} (C : Cx p s m args meth c G "MinistryDesksModel" cX6_copies 4 none) : ∀ (n : Nat) (κ : kp_K) (v1 : Int32) (v2 : Int32) (v3 : Int32), bX6_copies_26 F n κ v1 v2 v3 = some r9 → Js p l e ({ frames := 0, cells := 0, slots := 0, locals := 0 } : Room) s m args below meth c G 4 (MQ below (je_Q G none (en2 G r9 dyn) sz) args s 0 0 (je_A G)) (en2 G κ dyn) sz 0 0 26 [(0, .ref (G.2.1 + 66)), (1, .int v1), (2, .int v2), (3, .int v3)] [] := by
  intro n
  induction n with
  | zero =>
    intro κ v1 v2 v3 h
    cases h
  | succ n ih =>
    intro κ v1 v2 v3 h
    rw [bX6_copies_26] at h
    refine je_iload_n C dX6_copies_26 27 rfl 3 rfl ?_
    refine je_iconst C (4) dX6_copies_27 28 rfl ic_4 ?_
    refine je_icmp_ge C 97 dX6_copies_28 31 rfl rfl h (fun h => ?_) (fun h => ?_)
    · refine je_iconst C (0) dX6_copies_97 98 rfl ic_0 ?_
      refine je_istore_n C dX6_copies_98 99 rfl (Nat.le_of_ble_eq_true rfl) [(3, .int (0 : Int32)), (0, .ref (G.2.1 + 66)), (1, .int v1), (2, .int v2)] rfl ?_
      refine je_sub [1, 2, 3, 0] [(0, .ref (G.2.1 + 66)), (1, .int v1), (2, .int v2), (3, .int (0 : Int32))] rfl ?_
      exact wX6_copies_99 C F κ v1 v2 (0 : Int32) h
    refine je_aload_n C dX6_copies_31 32 rfl 0 rfl ?_
    refine gX6_90 C dX6_copies_32 35 rfl ?_
    refine je_iconst C (4) dX6_copies_35 36 rfl ic_4 ?_
    refine je_iload_n C dX6_copies_36 37 rfl 1 rfl ?_
    refine je_imul C dX6_copies_37 38 rfl ?_
    refine je_iload_n C dX6_copies_38 39 rfl 3 rfl ?_
    refine je_iadd C dX6_copies_39 40 rfl ?_
    refine je_aload_n C dX6_copies_40 41 rfl 0 rfl ?_
    refine gX6_90 C dX6_copies_41 44 rfl ?_
    refine je_iconst C (4) dX6_copies_44 45 rfl ic_4 ?_
    refine je_iload_n C dX6_copies_45 46 rfl 2 rfl ?_
    refine je_imul C dX6_copies_46 47 rfl ?_
    refine je_iload_n C dX6_copies_47 48 rfl 3 rfl ?_
    refine je_iadd C dX6_copies_48 49 rfl ?_
    refine je_lti h (fun i49 h => ?_)
    refine jk_iald C kd92 dX6_copies_49 50 rfl h (fun h => ?_)
    refine jk_iast C kd92 dX6_copies_50 51 rfl h (fun h => ?_)
    refine jk_lt h (fun k50 h => ?_)
    refine je_aload_n C dX6_copies_51 52 rfl 0 rfl ?_
    refine gX6_102 C dX6_copies_52 55 rfl ?_
    refine je_iconst C (4) dX6_copies_55 56 rfl ic_4 ?_
    refine je_iload_n C dX6_copies_56 57 rfl 1 rfl ?_
    refine je_imul C dX6_copies_57 58 rfl ?_
    refine je_iload_n C dX6_copies_58 59 rfl 3 rfl ?_
    refine je_iadd C dX6_copies_59 60 rfl ?_
    refine je_aload_n C dX6_copies_60 61 rfl 0 rfl ?_
    refine gX6_102 C dX6_copies_61 64 rfl ?_
    refine je_iconst C (4) dX6_copies_64 65 rfl ic_4 ?_
    refine je_iload_n C dX6_copies_65 66 rfl 2 rfl ?_
    refine je_imul C dX6_copies_66 67 rfl ?_
    refine je_iload_n C dX6_copies_67 68 rfl 3 rfl ?_
    refine je_iadd C dX6_copies_68 69 rfl ?_
    refine je_lti h (fun i69 h => ?_)
    refine jk_iald C kd96 dX6_copies_69 70 rfl h (fun h => ?_)
    refine jk_iast C kd96 dX6_copies_70 71 rfl h (fun h => ?_)
    refine jk_lt h (fun k70 h => ?_)
    refine je_aload_n C dX6_copies_71 72 rfl 0 rfl ?_
    refine gX6_105 C dX6_copies_72 75 rfl ?_
    refine je_iconst C (4) dX6_copies_75 76 rfl ic_4 ?_
    refine je_iload_n C dX6_copies_76 77 rfl 1 rfl ?_
    refine je_imul C dX6_copies_77 78 rfl ?_
    refine je_iload_n C dX6_copies_78 79 rfl 3 rfl ?_
    refine je_iadd C dX6_copies_79 80 rfl ?_
    refine je_aload_n C dX6_copies_80 81 rfl 0 rfl ?_
    refine gX6_105 C dX6_copies_81 84 rfl ?_
    refine je_iconst C (4) dX6_copies_84 85 rfl ic_4 ?_
    refine je_iload_n C dX6_copies_85 86 rfl 2 rfl ?_
    refine je_imul C dX6_copies_86 87 rfl ?_
    refine je_iload_n C dX6_copies_87 88 rfl 3 rfl ?_
    refine je_iadd C dX6_copies_88 89 rfl ?_
    refine je_lti h (fun i89 h => ?_)
    refine jk_iald C kd97 dX6_copies_89 90 rfl h (fun h => ?_)
    refine jk_iast C kd97 dX6_copies_90 91 rfl h (fun h => ?_)
    refine jk_lt h (fun k90 h => ?_)
    refine je_iinc C (1) dX6_copies_91 94 rfl 3 rfl ic_1 (Nat.le_of_ble_eq_true rfl) [(3, .int (v3 + (1 : Int32))), (0, .ref (G.2.1 + 66)), (1, .int v1), (2, .int v2)] rfl ?_
    refine je_goto C 26 dX6_copies_94 rfl ?_
    refine je_sub [1, 2, 3, 0] [(0, .ref (G.2.1 + 66)), (1, .int v1), (2, .int v2), (3, .int (v3 + (1 : Int32)))] rfl ?_
    exact ih k90 v1 v2 (v3 + (1 : Int32)) h
set_option maxHeartbeats 4000000 in
theorem metX6_copies {l : Launch} {G : je_G} {dyn : Nat → Option je_E} {sz : Nat} {F : Nat} {κ : kp_K} {v1 : Int32} {v2 : Int32} {r9 : kp_K} (h : pX6_copies F κ v1 v2 = some r9) : MetS l G yX6_copies cX6_copies 4 none 0 0 0 0 [.ref (G.2.1 + 66), .int v1, .int v2] (en2 G κ dyn) sz none (en2 G r9 dyn) sz := by
  refine je_met "MinistryDesksModel" rfl (by decide +kernel) (Nat.le_of_ble_eq_true rfl) [(0, .ref (G.2.1 + 66)), (1, .int v1), (2, .int v2)] rfl (fun p e s m args below meth c C => ?_)
  unfold pX6_copies at h
  refine je_aload_n C dX6_copies_0 1 rfl 0 rfl ?_
  refine gX6_87 C dX6_copies_1 4 rfl ?_
  refine je_iload_n C dX6_copies_4 5 rfl 1 rfl ?_
  refine je_aload_n C dX6_copies_5 6 rfl 0 rfl ?_
  refine gX6_87 C dX6_copies_6 9 rfl ?_
  refine je_iload_n C dX6_copies_9 10 rfl 2 rfl ?_
  refine jk_iald C kd91 dX6_copies_10 11 rfl h (fun h => ?_)
  refine jk_iast C kd91 dX6_copies_11 12 rfl h (fun h => ?_)
  refine jk_lt h (fun k11 h => ?_)
  refine je_aload_n C dX6_copies_12 13 rfl 0 rfl ?_
  refine gX6_115 C dX6_copies_13 16 rfl ?_
  refine je_iload_n C dX6_copies_16 17 rfl 1 rfl ?_
  refine je_aload_n C dX6_copies_17 18 rfl 0 rfl ?_
  refine gX6_115 C dX6_copies_18 21 rfl ?_
  refine je_iload_n C dX6_copies_21 22 rfl 2 rfl ?_
  refine jk_iald C kd100 dX6_copies_22 23 rfl h (fun h => ?_)
  refine jk_iast C kd100 dX6_copies_23 24 rfl h (fun h => ?_)
  refine jk_lt h (fun k23 h => ?_)
  refine je_iconst C (0) dX6_copies_24 25 rfl ic_0 ?_
  refine je_istore_n C dX6_copies_25 26 rfl (Nat.le_of_ble_eq_true rfl) [(3, .int (0 : Int32)), (0, .ref (G.2.1 + 66)), (1, .int v1), (2, .int v2)] rfl ?_
  refine je_sub [1, 2, 3, 0] [(0, .ref (G.2.1 + 66)), (1, .int v1), (2, .int v2), (3, .int (0 : Int32))] rfl ?_
  exact wX6_copies_26 C F k23 v1 v2 (0 : Int32) h
theorem hdX6_copies : je_hd yX6_copies 2 := ⟨by decide +kernel, by decide +kernel, by decide +kernel⟩
theorem cwX6_578 : GoodIn lw_all (wsV "MinistryDesksModel" 578 "MinistryDesksModel" yX6_copies (ws_ yX6_copies cX6_copies 4 none)) := lw_V q2387 q2389 qs159 q169 q2390
set_option maxHeartbeats 4000000 in
theorem metX6_keep {l : Launch} {G : je_G} {dyn : Nat → Option je_E} {sz : Nat} {F : Nat} {κ : kp_K}  {r9 : Int32 × kp_K} (h : pX6_keep F κ = some r9) : MetS l G yX6_keep cX6_keep 1 (some .int) 1 23 0 0 [.ref (G.2.1 + 66)] (en2 G κ dyn) sz (some (.int r9.1)) (en2 G r9.2 dyn) sz := by
  refine je_met "MinistryDesksModel" rfl (by decide +kernel) (Nat.le_of_ble_eq_true rfl) [(0, .ref (G.2.1 + 66))] rfl (fun p e s m args below meth c C => ?_)
  unfold pX6_keep at h
  refine je_aload_n C dX6_keep_0 1 rfl 0 rfl ?_
  refine je_iconst C (0) dX6_keep_1 2 rfl ic_0 ?_
  refine sX6_166 C dX6_keep_2 5 rfl ?_
  refine jk_lt h (fun k2 h => ?_)
  refine je_aload_n C dX6_keep_5 6 rfl 0 rfl ?_
  refine je_iconst C (2) dX6_keep_6 7 rfl ic_2 ?_
  refine je_iconst C (0) dX6_keep_7 8 rfl ic_0 ?_
  obtain ⟨k8, hg, h⟩ := p_cl_inv h
  refine je_callVv (As := [.int (2 : Int32), .int (0 : Int32)]) (rest := []) C (metX6_copies hg) (en2_at kd66) rfl hdX6_copies rfl cwX6_578 rfl ⟨Nat.le_of_ble_eq_true rfl, Nat.le_of_ble_eq_true rfl⟩ (Nat.le_of_ble_eq_true rfl) dX6_keep_8 11 rfl ⟨Nat.le_refl _, Nat.le_refl _⟩ ?_
  refine je_aload_n C dX6_keep_11 12 rfl 0 rfl ?_
  refine je_iconst C (1) dX6_keep_12 13 rfl ic_1 ?_
  refine sX6_336 C (Or.inr rfl) dX6_keep_13 16 rfl ?_
  refine jk_lt h (fun k13 h => ?_)
  refine je_aload_n C dX6_keep_16 17 rfl 0 rfl ?_
  refine gX6_87 C dX6_keep_17 20 rfl ?_
  refine je_iconst C (0) dX6_keep_20 21 rfl ic_0 ?_
  refine jk_iald C kd91 dX6_keep_21 22 rfl h (fun h => ?_)
  cases h
  exact je_iret C dX6_keep_22
theorem gX6_336 {p : Program} {l : Launch} {e : Env} {R : Room} {s : State} {m : MethodId} {args : Array Value} {below : List Frame} {meth : Method} {c : Code} {Q : State → Prop} {G : je_G} {cc : ByteArray} {nL : Nat} {rt : Option FieldType} {sz cells slots pc : Nat} {L : List (Nat × Value)} {st : List Value} {κ : kp_K} {dyn : Nat → Option je_E} (C : Cx p s m args meth c G "MinistryDesksModel" cc nL rt) (d : decode cc pc = .ok (.getfield 336, 3)) (n : Nat) (hn : pc + 3 = n) (kk : Js p l e R s m args below meth c G nL Q (en2 G κ dyn) sz cells slots n L (.int (κ.1 66 57) :: st)) : Js p l e R s m args below meth c G nL Q (en2 G κ dyn) sz cells slots pc L (.ref (G.2.1 + 66) :: st) := jk_getI (k := 57) C kd66 rfl in_X6 rfl (by decide) q1737 rfl d n hn kk
set_option maxHeartbeats 4000000 in
theorem metX6_back {l : Launch} {G : je_G} {dyn : Nat → Option je_E} {sz : Nat} {F : Nat} {κ : kp_K}  {r9 : Int32 × kp_K} (h : pX6_back F κ = some r9) : MetS l G yX6_back cX6_back 1 (some .int) 1 23 0 0 [.ref (G.2.1 + 66)] (en2 G κ dyn) sz (some (.int r9.1)) (en2 G r9.2 dyn) sz := by
  refine je_met "MinistryDesksModel" rfl (by decide +kernel) (Nat.le_of_ble_eq_true rfl) [(0, .ref (G.2.1 + 66))] rfl (fun p e s m args below meth c C => ?_)
  unfold pX6_back at h
  refine je_aload_n C dX6_back_0 1 rfl 0 rfl ?_
  refine je_iconst C (0) dX6_back_1 2 rfl ic_0 ?_
  refine sX6_166 C dX6_back_2 5 rfl ?_
  refine jk_lt h (fun k2 h => ?_)
  refine je_aload_n C dX6_back_5 6 rfl 0 rfl ?_
  refine gX6_336 C dX6_back_6 9 rfl ?_
  refine je_if_ne C 14 dX6_back_9 12 rfl rfl h (fun h => ?_) (fun h => ?_)
  · refine je_aload_n C dX6_back_14 15 rfl 0 rfl ?_
    refine je_iconst C (0) dX6_back_15 16 rfl ic_0 ?_
    refine je_iconst C (2) dX6_back_16 17 rfl ic_2 ?_
    obtain ⟨k17, hg, h⟩ := p_cl_inv h
    refine je_callVv (As := [.int (0 : Int32), .int (2 : Int32)]) (rest := []) C (metX6_copies hg) (en2_at kd66) rfl hdX6_copies rfl cwX6_578 rfl ⟨Nat.le_of_ble_eq_true rfl, Nat.le_of_ble_eq_true rfl⟩ (Nat.le_of_ble_eq_true rfl) dX6_back_17 20 rfl ⟨Nat.le_refl _, Nat.le_refl _⟩ ?_
    refine je_aload_n C dX6_back_20 21 rfl 0 rfl ?_
    refine gX6_87 C dX6_back_21 24 rfl ?_
    refine je_iconst C (0) dX6_back_24 25 rfl ic_0 ?_
    refine jk_iald C kd91 dX6_back_25 26 rfl h (fun h => ?_)
    cases h
    exact je_iret C dX6_back_26
  refine je_iconst C (-1) dX6_back_12 13 rfl ic_m1 ?_
  cases h
  exact je_iret C dX6_back_13
set_option maxHeartbeats 4000000 in
theorem wX6_count_126 {p : Program} {l : Launch} {e : Env} {s : State} {m : MethodId} {args : Array Value} {below : List Frame} {meth : Method} {c : Code} {G : je_G} {dyn : Nat → Option je_E} {sz : Nat} {F : Nat} {r9 : Int32 × kp_K} (C : Cx p s m args meth c G "MinistryDesksModel" cX6_count 4 (some .int)) : ∀ (n : Nat) (κ : kp_K) (v2 : Int32) (v3 : Int32), bX6_count_126 F n κ v2 v3 = some r9 → Js p l e ({ frames := 1, cells := 0, slots := 0, locals := 20 } : Room) s m args below meth c G 4 (MQ below (je_Q G (some (.int r9.1)) (en2 G r9.2 dyn) sz) args s 0 0 (je_A G)) (en2 G κ dyn) sz 0 0 126 [(0, .ref (G.2.1 + 66)), (2, .int v2), (3, .int v3)] [] := by
  intro n
  induction n with
  | zero =>
    intro κ v2 v3 h
    cases h
  | succ n ih =>
    intro κ v2 v3 h
    rw [bX6_count_126] at h
    refine je_iload_n C dX6_count_126 127 rfl 2 rfl ?_
    refine je_aload_n C dX6_count_127 128 rfl 0 rfl ?_
    refine gX6_13 C dX6_count_128 131 rfl ?_
    refine je_iconst C (0) dX6_count_131 132 rfl ic_0 ?_
    refine jk_iald C kd68 dX6_count_132 133 rfl h (fun h => ?_)
    refine je_icmp_ge C 151 dX6_count_133 136 rfl rfl h (fun h => ?_) (fun h => ?_)
    · refine je_iload_n C dX6_count_151 152 rfl 1 rfl ?_
      cases h
      exact je_iret C dX6_count_152
    refine je_iload_n C dX6_count_136 137 rfl 1 rfl ?_
    refine je_aload_n C dX6_count_137 138 rfl 0 rfl ?_
    refine gX6_102 C dX6_count_138 141 rfl ?_
    refine je_iload_n C dX6_count_141 142 rfl 2 rfl ?_
    refine jk_iald C kd96 dX6_count_142 143 rfl h (fun h => ?_)
    refine je_iadd C dX6_count_143 144 rfl ?_
    refine je_lti h (fun t144 h => ?_)
    refine je_istore_n C dX6_count_144 145 rfl (Nat.le_of_ble_eq_true rfl) [(2, .int t144), (0, .ref (G.2.1 + 66)), (3, .int v3)] rfl ?_
    refine je_iinc C (1) dX6_count_145 148 rfl 2 rfl ic_1 (Nat.le_of_ble_eq_true rfl) [(3, .int (v3 + (1 : Int32))), (2, .int t144), (0, .ref (G.2.1 + 66))] rfl ?_
    refine je_goto C 126 dX6_count_148 rfl ?_
    refine je_sub [2, 1, 0] [(0, .ref (G.2.1 + 66)), (2, .int t144), (3, .int (v3 + (1 : Int32)))] rfl ?_
    exact ih κ t144 (v3 + (1 : Int32)) h
set_option maxHeartbeats 4000000 in
theorem metX6_count {l : Launch} {G : je_G} {dyn : Nat → Option je_E} {sz : Nat} {F : Nat} {κ : kp_K} {v1 : Int32} {r9 : Int32 × kp_K} (h : pX6_count F κ v1 = some r9) : MetS l G yX6_count cX6_count 4 (some .int) 1 20 0 0 [.ref (G.2.1 + 66), .int v1] (en2 G κ dyn) sz (some (.int r9.1)) (en2 G r9.2 dyn) sz := by
  refine je_met "MinistryDesksModel" rfl (by decide +kernel) (Nat.le_of_ble_eq_true rfl) [(0, .ref (G.2.1 + 66)), (1, .int v1)] rfl (fun p e s m args below meth c C => ?_)
  unfold pX6_count at h
  refine je_aload_n C dX6_count_0 1 rfl 0 rfl ?_
  refine je_iconst C (0) dX6_count_1 2 rfl ic_0 ?_
  refine sX6_166 C dX6_count_2 5 rfl ?_
  refine jk_lt h (fun k2 h => ?_)
  refine je_iconst C (0) dX6_count_5 6 rfl ic_0 ?_
  refine je_istore_n C dX6_count_6 7 rfl (Nat.le_of_ble_eq_true rfl) [(2, .int (0 : Int32)), (0, .ref (G.2.1 + 66)), (1, .int v1)] rfl ?_
  refine je_iload_n C dX6_count_7 8 rfl 2 rfl ?_
  refine je_ite h (fun hx h => ?_) (fun hn0 h => ?_)
  · refine je_tsw C (0) 64 dX6_count_8 hx (by decide) (by decide) rfl rfl ?_
    refine je_aload_n C dX6_count_64 65 rfl 1 rfl ?_
    refine gX6_13 C dX6_count_65 68 rfl ?_
    refine je_iconst C (0) dX6_count_68 69 rfl ic_0 ?_
    refine jk_iald C kd68 dX6_count_69 70 rfl h (fun h => ?_)
    cases h
    exact je_iret C dX6_count_70
  refine je_ite h (fun hx h => ?_) (fun hn1 h => ?_)
  · refine je_tsw C (1) 71 dX6_count_8 hx (by decide) (by decide) rfl rfl ?_
    refine je_aload_n C dX6_count_71 72 rfl 1 rfl ?_
    refine gX6_13 C dX6_count_72 75 rfl ?_
    refine je_iconst C (1) dX6_count_75 76 rfl ic_1 ?_
    refine jk_iald C kd68 dX6_count_76 77 rfl h (fun h => ?_)
    cases h
    exact je_iret C dX6_count_77
  refine je_ite h (fun hx h => ?_) (fun hn2 h => ?_)
  · refine je_tsw C (2) 78 dX6_count_8 hx (by decide) (by decide) rfl rfl ?_
    refine je_aload_n C dX6_count_78 79 rfl 1 rfl ?_
    refine gX6_13 C dX6_count_79 82 rfl ?_
    refine je_iconst C (2) dX6_count_82 83 rfl ic_2 ?_
    refine jk_iald C kd68 dX6_count_83 84 rfl h (fun h => ?_)
    cases h
    exact je_iret C dX6_count_84
  refine je_ite h (fun hx h => ?_) (fun hn3 h => ?_)
  · refine je_tsw C (3) 85 dX6_count_8 hx (by decide) (by decide) rfl rfl ?_
    refine je_aload_n C dX6_count_85 86 rfl 1 rfl ?_
    refine gX6_13 C dX6_count_86 89 rfl ?_
    refine je_iconst C (3) dX6_count_89 90 rfl ic_3 ?_
    refine jk_iald C kd68 dX6_count_90 91 rfl h (fun h => ?_)
    cases h
    exact je_iret C dX6_count_91
  refine je_ite h (fun hx h => ?_) (fun hn4 h => ?_)
  · refine je_tsw C (4) 92 dX6_count_8 hx (by decide) (by decide) rfl rfl ?_
    refine je_aload_n C dX6_count_92 93 rfl 1 rfl ?_
    refine gX6_13 C dX6_count_93 96 rfl ?_
    refine je_iconst C (5) dX6_count_96 97 rfl ic_5 ?_
    refine jk_iald C kd68 dX6_count_97 98 rfl h (fun h => ?_)
    cases h
    exact je_iret C dX6_count_98
  refine je_ite h (fun hx h => ?_) (fun hn5 h => ?_)
  · refine je_tsw C (5) 99 dX6_count_8 hx (by decide) (by decide) rfl rfl ?_
    refine je_aload_n C dX6_count_99 100 rfl 1 rfl ?_
    refine gX6_13 C dX6_count_100 103 rfl ?_
    refine je_bipush C (7) dX6_count_103 105 rfl bp_7 ?_
    refine jk_iald C kd68 dX6_count_105 106 rfl h (fun h => ?_)
    cases h
    exact je_iret C dX6_count_106
  refine je_ite h (fun hx h => ?_) (fun hn6 h => ?_)
  · refine je_tsw C (6) 107 dX6_count_8 hx (by decide) (by decide) rfl rfl ?_
    refine je_aload_n C dX6_count_107 108 rfl 1 rfl ?_
    refine gX6_87 C dX6_count_108 111 rfl ?_
    refine je_iconst C (0) dX6_count_111 112 rfl ic_0 ?_
    refine jk_iald C kd91 dX6_count_112 113 rfl h (fun h => ?_)
    cases h
    exact je_iret C dX6_count_113
  refine je_ite h (fun hx h => ?_) (fun hn7 h => ?_)
  · refine je_tsw C (7) 114 dX6_count_8 hx (by decide) (by decide) rfl rfl ?_
    refine je_aload_n C dX6_count_114 115 rfl 1 rfl ?_
    refine gX6_333 C dX6_count_115 118 rfl ?_
    cases h
    exact je_iret C dX6_count_118
  refine je_ite h (fun hx h => ?_) (fun hn8 h => ?_)
  · refine je_tsw C (8) 119 dX6_count_8 hx (by decide) (by decide) rfl rfl ?_
    refine je_aload_n C dX6_count_119 120 rfl 1 rfl ?_
    obtain ⟨t120, hg, h⟩ := p_cl_inv h
    refine je_callVi (As := []) (rest := []) C (metX6_knownMany hg) (en2_at kd66) rfl hdX6_knownMany rfl cwX6_571 rfl ⟨Nat.le_of_ble_eq_true rfl, Nat.le_of_ble_eq_true rfl⟩ (Nat.le_of_ble_eq_true rfl) dX6_count_120 123 rfl ⟨Nat.le_refl _, Nat.le_refl _⟩ ?_
    cases h
    exact je_iret C dX6_count_123
  refine je_ite h (fun hx h => ?_) (fun hn9 h => ?_)
  · refine je_tsw C (9) 124 dX6_count_8 hx (by decide) (by decide) rfl rfl ?_
    refine je_iconst C (0) dX6_count_124 125 rfl ic_0 ?_
    refine je_istore_n C dX6_count_125 126 rfl (Nat.le_of_ble_eq_true rfl) [(3, .int (0 : Int32)), (2, .int (0 : Int32)), (0, .ref (G.2.1 + 66)), (1, .int v1)] rfl ?_
    refine je_sub [2, 1, 0] [(0, .ref (G.2.1 + 66)), (2, .int (0 : Int32)), (3, .int (0 : Int32))] rfl ?_
    exact wX6_count_126 C F k2 (0 : Int32) (0 : Int32) h
  refine je_tswd C 153 dX6_count_8 (je_out (0) 10 [(0 : Int32), (1 : Int32), (2 : Int32), (3 : Int32), (4 : Int32), (5 : Int32), (6 : Int32), (7 : Int32), (8 : Int32), (9 : Int32)] (by decide) (List.forall_mem_cons.mpr ⟨hn0, (List.forall_mem_cons.mpr ⟨hn1, (List.forall_mem_cons.mpr ⟨hn2, (List.forall_mem_cons.mpr ⟨hn3, (List.forall_mem_cons.mpr ⟨hn4, (List.forall_mem_cons.mpr ⟨hn5, (List.forall_mem_cons.mpr ⟨hn6, (List.forall_mem_cons.mpr ⟨hn7, (List.forall_mem_cons.mpr ⟨hn8, (List.forall_mem_cons.mpr ⟨hn9, (fun _ q => absurd q List.not_mem_nil)⟩)⟩)⟩)⟩)⟩)⟩)⟩)⟩)⟩)⟩)) rfl ?_
  refine je_iconst C (-1) dX6_count_153 154 rfl ic_m1 ?_
  cases h
  exact je_iret C dX6_count_154
