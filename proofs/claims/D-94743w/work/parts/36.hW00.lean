/-! heap mode: walks: printed by gen -/
set_option maxRecDepth 100000
set_option maxHeartbeats 4000000 in
theorem hmX7_see {l : Launch} {G : je_G} {τ : hT} {a0 : Nat} {v1 : Int32} {r9 : Int32} (h : hX7_see G τ a0 v1 = some r9) : MetS l G yX7_see cX7_see 2 (some .int) 0 0 0 0 [.ref (G.2.1 + a0), .int v1] τ.1 (G.2.1 + τ.2) (some (.int r9)) τ.1 (G.2.1 + τ.2) := by
  refine je_met "MinistryDesks$Reader" rfl (by decide +kernel) (Nat.le_of_ble_eq_true rfl) [(0, .ref (G.2.1 + a0)), (1, .int v1)] rfl (fun p e s m args below meth c C => ?_)
  unfold hX7_see at h
  refine je_iload_n C dX7_see_0 1 rfl 1 rfl ?_
  refine je_aload_n C dX7_see_1 2 rfl 0 rfl ?_
  replace h := p_ob_inv h
  obtain ⟨V2, he, h⟩ := h
  replace h := p_vi_inv h
  obtain ⟨x2, hv, h⟩ := h
  refine je_get (k := 0) C he rfl in_X7 (by decide) q551 rfl dX7_see_2 5 rfl hv ?_
  refine je_icmp_ge C 24 dX7_see_5 8 rfl rfl h ?_ ?_
  · clear h
    intro h
    refine je_iconst C (-1) dX7_see_24 25 rfl ic_m1 ?_
    cases h
    exact je_iret C dX7_see_25
  clear h
  intro h
  refine je_aload_n C dX7_see_8 9 rfl 0 rfl ?_
  replace h := p_ob_inv h
  obtain ⟨V9, he, h⟩ := h
  replace h := p_vr_inv h
  obtain ⟨x9, hv, h⟩ := h
  refine je_get (k := 7) C he rfl in_X7 (by decide) q558 rfl dX7_see_9 12 rfl hv ?_
  obtain ⟨j12, hj9, h8⟩ := p_at_inv h
  clear h
  subst hj9
  have h := h8
  clear h8
  replace h := p_ob_inv h
  obtain ⟨V12, he, h⟩ := h
  replace h := p_vr_inv h
  obtain ⟨x12, hv, h⟩ := h
  refine je_getN (k := 0) C he rfl in_X1 (by decide) q440 rfl dX7_see_12 15 rfl hv ?_
  refine je_iload_n C dX7_see_15 16 rfl 1 rfl ?_
  obtain ⟨j16, hj9, h8⟩ := p_at_inv h
  clear h
  subst hj9
  have h := h8
  clear h8
  replace h := p_aB_inv h
  obtain ⟨n16, f16, he, h⟩ := h
  replace h := p_ck_inv h
  obtain ⟨hin, h⟩ := h
  refine je_bald C he hin dX7_see_16 17 rfl ?_
  refine je_sipush C (255) dX7_see_17 20 rfl sp_255 ?_
  refine je_iand C dX7_see_20 21 rfl ?_
  refine je_goto C 25 dX7_see_21 rfl ?_
  cases h
  exact je_iret C dX7_see_25
theorem hdX7_see : je_hd yX7_see 1 := ⟨by decide +kernel, by decide +kernel, by decide +kernel⟩
theorem cwX7_30 : GoodIn lw_all (wsV "MinistryDesks$Reader" 30 "MinistryDesks$Reader" yX7_see (ws_ yX7_see cX7_see 2 (some .int))) := lw_V q584 q586 qs2 q170 q587
theorem cwX7_34 : (Cond.methodLinkNest "MinistryDesks$Reader" 34 yX1_isIn "MinistryDesks" ∈ lw_tbl ∧ Cond.initialized yX1_isIn.cls ∈ lw_all) ∧ Cond.code yX1_isIn cX1_isIn 3 (some .boolean) ∈ lw_all ∧ Cond.static yX1_isIn ∈ lw_all := ⟨⟨q592, q161⟩, q542, q541⟩
set_option maxHeartbeats 4000000 in
theorem hmX7_isSmall {l : Launch} {G : je_G} {τ : hT} {a0 : Nat} {v1 : Int32} {r9 : Int32} (h : hX7_isSmall G τ a0 v1 = some r9) : MetS l G yX7_isSmall cX7_isSmall 2 (some .boolean) 1 22 0 0 [.ref (G.2.1 + a0), .int v1] τ.1 (G.2.1 + τ.2) (some (.int r9)) τ.1 (G.2.1 + τ.2) := by
  refine je_met "MinistryDesks$Reader" rfl (by decide +kernel) (Nat.le_of_ble_eq_true rfl) [(0, .ref (G.2.1 + a0)), (1, .int v1)] rfl (fun p e s m args below meth c C => ?_)
  unfold hX7_isSmall at h
  refine je_aload_n C dX7_isSmall_0 1 rfl 0 rfl ?_
  refine je_iload_n C dX7_isSmall_1 2 rfl 1 rfl ?_
  replace h := p_ob_inv h
  obtain ⟨V2, he, h⟩ := h
  replace h := p_cl_inv h
  obtain ⟨x2, hg, h⟩ := h
  refine je_callV (As := [.int v1]) (rest := []) (o := (some (.int x2))) C (hmX7_see hg) he rfl hdX7_see rfl cwX7_30 rfl ⟨Nat.le_of_ble_eq_true rfl, Nat.le_of_ble_eq_true rfl⟩ ⟨Nat.le_of_ble_eq_true rfl, Nat.le_of_ble_eq_true rfl⟩ (Nat.le_of_ble_eq_true rfl) dX7_isSmall_2 5 rfl ?_
  refine je_bipush C (97) dX7_isSmall_5 7 rfl bp_97 ?_
  refine je_bipush C (122) dX7_isSmall_7 9 rfl bp_122 ?_
  replace h := p_cl_inv h
  obtain ⟨t9, hg, h⟩ := h
  refine je_callSNi (As := [.int x2, .int (97 : Int32), .int (122 : Int32)]) (rest := []) C (metX1_isIn hg) hdX1_isIn cwX7_34 rfl ⟨Nat.le_of_ble_eq_true rfl, Nat.le_of_ble_eq_true rfl⟩ (Nat.le_of_ble_eq_true rfl) dX7_isSmall_9 12 rfl ⟨Nat.le_of_ble_eq_true rfl, Nat.le_of_ble_eq_true rfl⟩ ?_
  replace h := p_cz_inv h
  obtain ⟨hz, h⟩ := h
  cases h
  exact je_zret C dX7_isSmall_12 hz
theorem cwX7_71 : GoodIn lw_all (wsV "MinistryDesks$Reader" 71 "java/lang/String" yJ3_length (ws_ yJ3_length cJ3_length 1 (some .int))) := lw_V q602 q603 q604 q171 q605
theorem cwX7_77 : GoodIn lw_all (wsV "MinistryDesks$Reader" 77 "java/lang/String" yJ3_indexOf (ws_ yJ3_indexOf cJ3_indexOf 3 (some .int))) := lw_V q612 q613 q614 q171 q615
theorem cwX7_81 : GoodIn lw_all (wsV "MinistryDesks$Reader" 81 "java/lang/String" yJ3_charAt (ws_ yJ3_charAt cJ3_charAt 2 (some .char))) := lw_V q685 q686 q687 q171 q688
set_option maxHeartbeats 4000000 in
theorem hwX7_key_105 {p : Program} {l : Launch} {e : Env} {s : State} {m : MethodId} {args : Array Value} {below : List Frame} {meth : Method} {c : Code} {G : je_G} {F : Nat} {τ : hT} {r9 : Int32} {k4 : hT → Nat → Int32 → Int32 → Int32 → Option (Int32)} (C : Cx p s m args meth c G "MinistryDesks$Reader" cX7_key 7 (some .int)) (hk4 : ∀ (q0 : Nat) (q1 : Int32) (q2 : Int32) (q3 : Int32), k4 τ q0 q1 q2 q3 = some r9 → Js p l e ({ frames := 4, cells := 0, slots := 0, locals := 85 } : Room) s m args below meth c G 7 (MQ below (je_Q G (some (.int r9)) τ.1 (G.2.1 + τ.2)) args s 0 0 (je_A G)) τ.1 (G.2.1 + τ.2) 0 0 4 [(0, .ref (G.2.1 + q0)), (1, .int q1), (2, .int q2), (3, .int q3)] []) (a0 : Nat) (v1 : Int32) (v3 : Int32) (v4 : Int32) (v5 : Int32) (h : hbX7_key_105 G F k4 τ a0 v1 v3 v4 v5 = some r9) : Js p l e ({ frames := 4, cells := 0, slots := 0, locals := 85 } : Room) s m args below meth c G 7 (MQ below (je_Q G (some (.int r9)) τ.1 (G.2.1 + τ.2)) args s 0 0 (je_A G)) τ.1 (G.2.1 + τ.2) 0 0 105 [(0, .ref (G.2.1 + a0)), (1, .int v1), (3, .int v3), (4, .int v4), (5, .int v5)] [] := by
  unfold hbX7_key_105 at h
  refine je_iload C dX7_key_105 107 rfl 4 rfl ?_
  refine je_if_eq C 112 dX7_key_107 110 rfl rfl h ?_ ?_
  · clear h
    intro h
    refine je_iload C dX7_key_112 114 rfl 3 rfl ?_
    refine je_iconst C (1) dX7_key_114 115 rfl ic_1 ?_
    refine je_iadd C dX7_key_115 116 rfl ?_
    refine je_lti h ?_
    clear h
    intro t116 h
    refine je_istore_n C dX7_key_116 117 rfl (Nat.le_of_ble_eq_true rfl) [(2, .int t116), (0, .ref (G.2.1 + a0)), (1, .int v1), (3, .int v3), (4, .int v4), (5, .int v5)] rfl ?_
    refine je_iinc C (1) dX7_key_117 120 rfl 3 rfl ic_1 (Nat.le_of_ble_eq_true rfl) [(3, .int (v3 + (1 : Int32))), (2, .int t116), (0, .ref (G.2.1 + a0)), (1, .int v1), (4, .int v4), (5, .int v5)] rfl ?_
    refine je_goto C 4 dX7_key_120 rfl ?_
    refine je_sub [2, 3, 1, 0] [(0, .ref (G.2.1 + a0)), (1, .int v1), (2, .int t116), (3, .int (v3 + (1 : Int32)))] rfl ?_
    exact hk4 a0 v1 t116 (v3 + (1 : Int32)) h
  clear h
  intro h
  refine je_iload_n C dX7_key_110 111 rfl 2 rfl ?_
  cases h
  exact je_iret C dX7_key_111
set_option maxHeartbeats 4000000 in
theorem hwX7_key_58 {p : Program} {l : Launch} {e : Env} {s : State} {m : MethodId} {args : Array Value} {below : List Frame} {meth : Method} {c : Code} {G : je_G} {F : Nat} {τ : hT} {r9 : Int32} {k4 : hT → Nat → Int32 → Int32 → Int32 → Option (Int32)} (C : Cx p s m args meth c G "MinistryDesks$Reader" cX7_key 7 (some .int)) (hk4 : ∀ (q0 : Nat) (q1 : Int32) (q2 : Int32) (q3 : Int32), k4 τ q0 q1 q2 q3 = some r9 → Js p l e ({ frames := 4, cells := 0, slots := 0, locals := 85 } : Room) s m args below meth c G 7 (MQ below (je_Q G (some (.int r9)) τ.1 (G.2.1 + τ.2)) args s 0 0 (je_A G)) τ.1 (G.2.1 + τ.2) 0 0 4 [(0, .ref (G.2.1 + q0)), (1, .int q1), (2, .int q2), (3, .int q3)] []) : ∀ (n : Nat) (a0 : Nat) (v1 : Int32) (v2 : Int32) (v3 : Int32) (v4 : Int32) (v5 : Int32) (v6 : Int32), hbX7_key_58 G F k4 n τ a0 v1 v2 v3 v4 v5 v6 = some r9 → Js p l e ({ frames := 4, cells := 0, slots := 0, locals := 85 } : Room) s m args below meth c G 7 (MQ below (je_Q G (some (.int r9)) τ.1 (G.2.1 + τ.2)) args s 0 0 (je_A G)) τ.1 (G.2.1 + τ.2) 0 0 58 [(0, .ref (G.2.1 + a0)), (1, .int v1), (2, .int v2), (3, .int v3), (4, .int v4), (5, .int v5), (6, .int v6)] [] := by
  intro n
  induction n with
  | zero =>
    intro a0 v1 v2 v3 v4 v5 v6 h
    cases h
  | succ n ih =>
    intro a0 v1 v2 v3 v4 v5 v6 h
    rw [hbX7_key_58] at h
    refine je_iload C dX7_key_58 60 rfl 6 rfl ?_
    refine je_iload C dX7_key_60 62 rfl 4 rfl ?_
    refine je_iload_n C dX7_key_62 63 rfl 2 rfl ?_
    refine je_isub C dX7_key_63 64 rfl ?_
    refine je_icmp_ge C 105 dX7_key_64 67 rfl rfl h ?_ ?_
    · clear h
      intro h
      refine je_sub [0, 1, 3, 4, 5] [(0, .ref (G.2.1 + a0)), (1, .int v1), (3, .int v3), (4, .int v4), (5, .int v5)] rfl ?_
      exact hwX7_key_105 C hk4 a0 v1 v3 v4 v5 h
    clear h
    intro h
    refine je_iload C dX7_key_67 69 rfl 5 rfl ?_
    refine je_if_eq C 105 dX7_key_69 72 rfl rfl h ?_ ?_
    · clear h
      intro h
      refine je_sub [0, 1, 3, 4, 5] [(0, .ref (G.2.1 + a0)), (1, .int v1), (3, .int v3), (4, .int v4), (5, .int v5)] rfl ?_
      exact hwX7_key_105 C hk4 a0 v1 v3 v4 v5 h
    clear h
    intro h
    refine je_ldcS (i := 0) C (je_r0 C.2.2.2.2.2.2.2.2) dX7_key_72 74 rfl ?_
    refine je_iload_n C dX7_key_74 75 rfl 2 rfl ?_
    refine je_iload C dX7_key_75 77 rfl 6 rfl ?_
    refine je_iadd C dX7_key_77 78 rfl ?_
    replace h := p_cl_inv h
    obtain ⟨t78, hg, h⟩ := h
    refine je_callSti (i := 0) (As := [.int (v2 + v6)]) (rest := []) C (by decide) (metJ3_charAt hg) hdJ3_charAt rfl cwX7_81 rfl ⟨Nat.le_of_ble_eq_true rfl, Nat.le_of_ble_eq_true rfl⟩ (Nat.le_of_ble_eq_true rfl) dX7_key_78 81 rfl ⟨Nat.le_of_ble_eq_true rfl, Nat.le_of_ble_eq_true rfl⟩ ?_
    refine je_aload_n C dX7_key_81 82 rfl 0 rfl ?_
    refine je_iload_n C dX7_key_82 83 rfl 1 rfl ?_
    refine je_iload C dX7_key_83 85 rfl 6 rfl ?_
    refine je_iadd C dX7_key_85 86 rfl ?_
    replace h := p_ob_inv h
    obtain ⟨V86, he, h⟩ := h
    replace h := p_cl_inv h
    obtain ⟨x86, hg, h⟩ := h
    refine je_callV (As := [.int (v1 + v6)]) (rest := [.int t78]) (o := (some (.int x86))) C (hmX7_see hg) he rfl hdX7_see rfl cwX7_30 rfl ⟨Nat.le_of_ble_eq_true rfl, Nat.le_of_ble_eq_true rfl⟩ ⟨Nat.le_of_ble_eq_true rfl, Nat.le_of_ble_eq_true rfl⟩ (Nat.le_of_ble_eq_true rfl) dX7_key_86 89 rfl ?_
    refine je_icmp_ne C 96 dX7_key_89 92 rfl rfl h ?_ ?_
    · clear h
      intro h
      refine je_iconst C (0) dX7_key_96 97 rfl ic_0 ?_
      refine je_istore C dX7_key_97 99 rfl (Nat.le_of_ble_eq_true rfl) [(5, .int (0 : Int32)), (0, .ref (G.2.1 + a0)), (1, .int v1), (2, .int v2), (3, .int v3), (4, .int v4), (6, .int v6)] rfl ?_
      refine je_iinc C (1) dX7_key_99 102 rfl 6 rfl ic_1 (Nat.le_of_ble_eq_true rfl) [(6, .int (v6 + (1 : Int32))), (5, .int (0 : Int32)), (0, .ref (G.2.1 + a0)), (1, .int v1), (2, .int v2), (3, .int v3), (4, .int v4)] rfl ?_
      refine je_goto C 58 dX7_key_102 rfl ?_
      refine je_sub [2, 3, 4, 5, 6, 1, 0] [(0, .ref (G.2.1 + a0)), (1, .int v1), (2, .int v2), (3, .int v3), (4, .int v4), (5, .int (0 : Int32)), (6, .int (v6 + (1 : Int32)))] rfl ?_
      exact ih a0 v1 v2 v3 v4 (0 : Int32) (v6 + (1 : Int32)) h
    clear h
    intro h
    refine je_iconst C (1) dX7_key_92 93 rfl ic_1 ?_
    refine je_goto C 97 dX7_key_93 rfl ?_
    refine je_istore C dX7_key_97 99 rfl (Nat.le_of_ble_eq_true rfl) [(5, .int (1 : Int32)), (0, .ref (G.2.1 + a0)), (1, .int v1), (2, .int v2), (3, .int v3), (4, .int v4), (6, .int v6)] rfl ?_
    refine je_iinc C (1) dX7_key_99 102 rfl 6 rfl ic_1 (Nat.le_of_ble_eq_true rfl) [(6, .int (v6 + (1 : Int32))), (5, .int (1 : Int32)), (0, .ref (G.2.1 + a0)), (1, .int v1), (2, .int v2), (3, .int v3), (4, .int v4)] rfl ?_
    refine je_goto C 58 dX7_key_102 rfl ?_
    refine je_sub [2, 3, 4, 5, 6, 1, 0] [(0, .ref (G.2.1 + a0)), (1, .int v1), (2, .int v2), (3, .int v3), (4, .int v4), (5, .int (1 : Int32)), (6, .int (v6 + (1 : Int32)))] rfl ?_
    exact ih a0 v1 v2 v3 v4 (1 : Int32) (v6 + (1 : Int32)) h
set_option maxHeartbeats 4000000 in
theorem hwX7_key_35 {p : Program} {l : Launch} {e : Env} {s : State} {m : MethodId} {args : Array Value} {below : List Frame} {meth : Method} {c : Code} {G : je_G} {F : Nat} {τ : hT} {r9 : Int32} {k4 : hT → Nat → Int32 → Int32 → Int32 → Option (Int32)} (C : Cx p s m args meth c G "MinistryDesks$Reader" cX7_key 7 (some .int)) (hk4 : ∀ (q0 : Nat) (q1 : Int32) (q2 : Int32) (q3 : Int32), k4 τ q0 q1 q2 q3 = some r9 → Js p l e ({ frames := 4, cells := 0, slots := 0, locals := 85 } : Room) s m args below meth c G 7 (MQ below (je_Q G (some (.int r9)) τ.1 (G.2.1 + τ.2)) args s 0 0 (je_A G)) τ.1 (G.2.1 + τ.2) 0 0 4 [(0, .ref (G.2.1 + q0)), (1, .int q1), (2, .int q2), (3, .int q3)] []) (a0 : Nat) (v1 : Int32) (v2 : Int32) (v3 : Int32) (v4 : Int32) (h : hbX7_key_35 G F k4 τ a0 v1 v2 v3 v4 = some r9) : Js p l e ({ frames := 4, cells := 0, slots := 0, locals := 85 } : Room) s m args below meth c G 7 (MQ below (je_Q G (some (.int r9)) τ.1 (G.2.1 + τ.2)) args s 0 0 (je_A G)) τ.1 (G.2.1 + τ.2) 0 0 35 [(0, .ref (G.2.1 + a0)), (1, .int v1), (2, .int v2), (3, .int v3), (4, .int v4)] [] := by
  unfold hbX7_key_35 at h
  refine je_iload C dX7_key_35 37 rfl 4 rfl ?_
  refine je_iload_n C dX7_key_37 38 rfl 2 rfl ?_
  refine je_isub C dX7_key_38 39 rfl ?_
  refine je_aload_n C dX7_key_39 40 rfl 0 rfl ?_
  replace h := p_ob_inv h
  obtain ⟨V40, he, h⟩ := h
  replace h := p_vi_inv h
  obtain ⟨x40, hv, h⟩ := h
  refine je_get (k := 2) C he rfl in_X7 (by decide) q553 rfl dX7_key_40 43 rfl hv ?_
  refine je_iload_n C dX7_key_43 44 rfl 1 rfl ?_
  refine je_isub C dX7_key_44 45 rfl ?_
  refine je_icmp_ne C 52 dX7_key_45 48 rfl rfl h ?_ ?_
  · clear h
    intro h
    refine je_iconst C (0) dX7_key_52 53 rfl ic_0 ?_
    refine je_istore C dX7_key_53 55 rfl (Nat.le_of_ble_eq_true rfl) [(5, .int (0 : Int32)), (0, .ref (G.2.1 + a0)), (1, .int v1), (2, .int v2), (3, .int v3), (4, .int v4)] rfl ?_
    refine je_iconst C (0) dX7_key_55 56 rfl ic_0 ?_
    refine je_istore C dX7_key_56 58 rfl (Nat.le_of_ble_eq_true rfl) [(6, .int (0 : Int32)), (5, .int (0 : Int32)), (0, .ref (G.2.1 + a0)), (1, .int v1), (2, .int v2), (3, .int v3), (4, .int v4)] rfl ?_
    refine je_sub [2, 3, 4, 5, 6, 1, 0] [(0, .ref (G.2.1 + a0)), (1, .int v1), (2, .int v2), (3, .int v3), (4, .int v4), (5, .int (0 : Int32)), (6, .int (0 : Int32))] rfl ?_
    exact hwX7_key_58 C hk4 F a0 v1 v2 v3 v4 (0 : Int32) (0 : Int32) h
  clear h
  intro h
  refine je_iconst C (1) dX7_key_48 49 rfl ic_1 ?_
  refine je_goto C 53 dX7_key_49 rfl ?_
  refine je_istore C dX7_key_53 55 rfl (Nat.le_of_ble_eq_true rfl) [(5, .int (1 : Int32)), (0, .ref (G.2.1 + a0)), (1, .int v1), (2, .int v2), (3, .int v3), (4, .int v4)] rfl ?_
  refine je_iconst C (0) dX7_key_55 56 rfl ic_0 ?_
  refine je_istore C dX7_key_56 58 rfl (Nat.le_of_ble_eq_true rfl) [(6, .int (0 : Int32)), (5, .int (1 : Int32)), (0, .ref (G.2.1 + a0)), (1, .int v1), (2, .int v2), (3, .int v3), (4, .int v4)] rfl ?_
  refine je_sub [2, 3, 4, 5, 6, 1, 0] [(0, .ref (G.2.1 + a0)), (1, .int v1), (2, .int v2), (3, .int v3), (4, .int v4), (5, .int (1 : Int32)), (6, .int (0 : Int32))] rfl ?_
  exact hwX7_key_58 C hk4 F a0 v1 v2 v3 v4 (1 : Int32) (0 : Int32) h
set_option maxHeartbeats 4000000 in
theorem hwX7_key_4 {p : Program} {l : Launch} {e : Env} {s : State} {m : MethodId} {args : Array Value} {below : List Frame} {meth : Method} {c : Code} {G : je_G} {F : Nat} {τ : hT} {r9 : Int32} (C : Cx p s m args meth c G "MinistryDesks$Reader" cX7_key 7 (some .int)) : ∀ (n : Nat) (a0 : Nat) (v1 : Int32) (v2 : Int32) (v3 : Int32), hbX7_key_4 G F n τ a0 v1 v2 v3 = some r9 → Js p l e ({ frames := 4, cells := 0, slots := 0, locals := 85 } : Room) s m args below meth c G 7 (MQ below (je_Q G (some (.int r9)) τ.1 (G.2.1 + τ.2)) args s 0 0 (je_A G)) τ.1 (G.2.1 + τ.2) 0 0 4 [(0, .ref (G.2.1 + a0)), (1, .int v1), (2, .int v2), (3, .int v3)] [] := by
  intro n
  induction n with
  | zero =>
    intro a0 v1 v2 v3 h
    cases h
  | succ n ih =>
    intro a0 v1 v2 v3 h
    rw [hbX7_key_4] at h
    refine je_iload_n C dX7_key_4 5 rfl 2 rfl ?_
    refine je_ldcS (i := 0) C (je_r0 C.2.2.2.2.2.2.2.2) dX7_key_5 7 rfl ?_
    replace h := p_cl_inv h
    obtain ⟨t7, hg, h⟩ := h
    refine je_callSti (i := 0) (As := []) (rest := [.int v2]) C (by decide) (metJ3_length hg) hdJ3_length rfl cwX7_71 rfl ⟨Nat.le_of_ble_eq_true rfl, Nat.le_of_ble_eq_true rfl⟩ (Nat.le_of_ble_eq_true rfl) dX7_key_7 10 rfl ⟨Nat.le_of_ble_eq_true rfl, Nat.le_of_ble_eq_true rfl⟩ ?_
    refine je_icmp_ge C 123 dX7_key_10 13 rfl rfl h ?_ ?_
    · clear h
      intro h
      refine je_iconst C (-1) dX7_key_123 124 rfl ic_m1 ?_
      cases h
      exact je_iret C dX7_key_124
    clear h
    intro h
    refine je_ldcS (i := 0) C (je_r0 C.2.2.2.2.2.2.2.2) dX7_key_13 15 rfl ?_
    refine je_bipush C (32) dX7_key_15 17 rfl bp_32 ?_
    refine je_iload_n C dX7_key_17 18 rfl 2 rfl ?_
    replace h := p_cl_inv h
    obtain ⟨t18, hg, h⟩ := h
    refine je_callSti (i := 0) (As := [.int (32 : Int32), .int v2]) (rest := []) C (by decide) (metJ3_indexOf hg) hdJ3_indexOf rfl cwX7_77 rfl ⟨Nat.le_of_ble_eq_true rfl, Nat.le_of_ble_eq_true rfl⟩ (Nat.le_of_ble_eq_true rfl) dX7_key_18 21 rfl ⟨Nat.le_of_ble_eq_true rfl, Nat.le_of_ble_eq_true rfl⟩ ?_
    refine je_istore C dX7_key_21 23 rfl (Nat.le_of_ble_eq_true rfl) [(4, .int t18), (0, .ref (G.2.1 + a0)), (1, .int v1), (2, .int v2), (3, .int v3)] rfl ?_
    refine je_iload C dX7_key_23 25 rfl 0 rfl ?_
    refine je_if_ge C 35 dX7_key_25 28 rfl rfl h ?_ ?_
    · clear h
      intro h
      refine je_sub [1, 2, 3, 4, 0] [(0, .ref (G.2.1 + a0)), (1, .int v1), (2, .int v2), (3, .int v3), (4, .int t18)] rfl ?_
      exact hwX7_key_35 C ih a0 v1 v2 v3 t18 h
    clear h
    intro h
    refine je_ldcS (i := 0) C (je_r0 C.2.2.2.2.2.2.2.2) dX7_key_28 30 rfl ?_
    replace h := p_cl_inv h
    obtain ⟨t30, hg, h⟩ := h
    refine je_callSti (i := 0) (As := []) (rest := []) C (by decide) (metJ3_length hg) hdJ3_length rfl cwX7_71 rfl ⟨Nat.le_of_ble_eq_true rfl, Nat.le_of_ble_eq_true rfl⟩ (Nat.le_of_ble_eq_true rfl) dX7_key_30 33 rfl ⟨Nat.le_of_ble_eq_true rfl, Nat.le_of_ble_eq_true rfl⟩ ?_
    refine je_istore C dX7_key_33 35 rfl (Nat.le_of_ble_eq_true rfl) [(4, .int t30), (0, .ref (G.2.1 + a0)), (1, .int v1), (2, .int v2), (3, .int v3)] rfl ?_
    refine je_sub [1, 2, 3, 4, 0] [(0, .ref (G.2.1 + a0)), (1, .int v1), (2, .int v2), (3, .int v3), (4, .int t30)] rfl ?_
    exact hwX7_key_35 C ih a0 v1 v2 v3 t30 h
set_option maxHeartbeats 4000000 in
theorem hmX7_key {l : Launch} {G : je_G} {F : Nat} {τ : hT} {a0 : Nat} {v1 : Int32} {r9 : Int32} (h : hX7_key G F τ a0 v1 = some r9) : MetS l G yX7_key cX7_key 7 (some .int) 4 85 0 0 [.ref (G.2.1 + a0), .int v1] τ.1 (G.2.1 + τ.2) (some (.int r9)) τ.1 (G.2.1 + τ.2) := by
  refine je_met "MinistryDesks$Reader" rfl (by decide +kernel) (Nat.le_of_ble_eq_true rfl) [(0, .ref (G.2.1 + a0)), (1, .int v1)] rfl (fun p e s m args below meth c C => ?_)
  unfold hX7_key at h
  refine je_iconst C (0) dX7_key_0 1 rfl ic_0 ?_
  refine je_istore_n C dX7_key_1 2 rfl (Nat.le_of_ble_eq_true rfl) [(2, .int (0 : Int32)), (0, .ref (G.2.1 + a0)), (1, .int v1)] rfl ?_
  refine je_iconst C (0) dX7_key_2 3 rfl ic_0 ?_
  refine je_istore_n C dX7_key_3 4 rfl (Nat.le_of_ble_eq_true rfl) [(3, .int (0 : Int32)), (2, .int (0 : Int32)), (0, .ref (G.2.1 + a0)), (1, .int v1)] rfl ?_
  refine je_sub [2, 3, 1, 0] [(0, .ref (G.2.1 + a0)), (1, .int v1), (2, .int (0 : Int32)), (3, .int (0 : Int32))] rfl ?_
  exact hwX7_key_4 C F a0 v1 (0 : Int32) (0 : Int32) h
theorem bp_96 : (Int8.ofInt (96)).toInt32 = (96 : Int32) := by decide +kernel
theorem hdX7_isSmall : je_hd yX7_isSmall 1 := ⟨by decide +kernel, by decide +kernel, by decide +kernel⟩
theorem hdX7_key : je_hd yX7_key 1 := ⟨by decide +kernel, by decide +kernel, by decide +kernel⟩
theorem cwX7_47 : GoodIn lw_all (wsV "MinistryDesks$Reader" 47 "MinistryDesks$Reader" yX7_isSmall (ws_ yX7_isSmall cX7_isSmall 2 (some .boolean))) := lw_V q588 q590 qs3 q170 q591
theorem cwX7_63 : GoodIn lw_all (wsV "MinistryDesks$Reader" 63 "MinistryDesks$Reader" yX7_key (ws_ yX7_key cX7_key 7 (some .int))) := lw_V q597 q599 qs5 q170 q600
set_option maxHeartbeats 4000000 in
theorem hwX7_takeWord_128 {p : Program} {l : Launch} {e : Env} {s : State} {m : MethodId} {args : Array Value} {below : List Frame} {meth : Method} {c : Code} {G : je_G} {F : Nat} {r9 : hT} {k90 : hT → Nat → Int32 → Option (hT)} (C : Cx p s m args meth c G "MinistryDesks$Reader" cX7_takeWord 2 none) (hk90 : ∀ (kq : hT) (q0 : Nat) (q1 : Int32), k90 kq q0 q1 = some r9 → Js p l e ({ frames := 5, cells := 0, slots := 0, locals := 111 } : Room) s m args below meth c G 2 (MQ below (je_Q G none r9.1 (G.2.1 + r9.2)) args s 0 0 (je_A G)) kq.1 (G.2.1 + kq.2) 0 0 90 [(0, .ref (G.2.1 + q0)), (1, .int q1)] []) (τ : hT) (a0 : Nat) (v1 : Int32) (s0 : Int32) (s1 : Int32) (s2 : Nat) (h : hbX7_takeWord_128 G F k90 τ a0 v1 s0 s1 s2 = some r9) : Js p l e ({ frames := 5, cells := 0, slots := 0, locals := 111 } : Room) s m args below meth c G 2 (MQ below (je_Q G none r9.1 (G.2.1 + r9.2)) args s 0 0 (je_A G)) τ.1 (G.2.1 + τ.2) 0 0 128 [(0, .ref (G.2.1 + a0)), (1, .int v1)] [.int s0, .int s1, .ref (G.2.1 + s2)] := by
  unfold hbX7_takeWord_128 at h
  refine je_ior C dX7_takeWord_128 129 rfl ?_
  replace h := p_ob_inv h
  obtain ⟨V129, he, h⟩ := h
  refine je_put (k := 4) (v := .int (s1 ||| s0)) C he rfl in_X7 tyX7 tyX7_ok nmX7 (by decide) q555 rfl rfl rfl rfl dX7_takeWord_129 132 rfl ?_
  refine jh_lt h ?_
  clear h
  intro t129 h
  refine je_iinc C (1) dX7_takeWord_132 135 rfl 1 rfl ic_1 (Nat.le_of_ble_eq_true rfl) [(1, .int (v1 + (1 : Int32))), (0, .ref (G.2.1 + a0))] rfl ?_
  refine je_goto C 90 dX7_takeWord_135 rfl ?_
  refine je_sub [1, 0] [(0, .ref (G.2.1 + a0)), (1, .int (v1 + (1 : Int32)))] rfl ?_
  exact hk90 t129 a0 (v1 + (1 : Int32)) h
set_option maxHeartbeats 4000000 in
theorem hwX7_takeWord_90 {p : Program} {l : Launch} {e : Env} {s : State} {m : MethodId} {args : Array Value} {below : List Frame} {meth : Method} {c : Code} {G : je_G} {F : Nat} {r9 : hT} (C : Cx p s m args meth c G "MinistryDesks$Reader" cX7_takeWord 2 none) : ∀ (n : Nat) (τ : hT) (a0 : Nat) (v1 : Int32), hbX7_takeWord_90 G F n τ a0 v1 = some r9 → Js p l e ({ frames := 5, cells := 0, slots := 0, locals := 111 } : Room) s m args below meth c G 2 (MQ below (je_Q G none r9.1 (G.2.1 + r9.2)) args s 0 0 (je_A G)) τ.1 (G.2.1 + τ.2) 0 0 90 [(0, .ref (G.2.1 + a0)), (1, .int v1)] [] := by
  intro n
  induction n with
  | zero =>
    intro τ a0 v1 h
    cases h
  | succ n ih =>
    intro τ a0 v1 h
    rw [hbX7_takeWord_90] at h
    refine je_iload_n C dX7_takeWord_90 91 rfl 1 rfl ?_
    refine je_aload_n C dX7_takeWord_91 92 rfl 0 rfl ?_
    replace h := p_ob_inv h
    obtain ⟨V92, he, h⟩ := h
    replace h := p_vi_inv h
    obtain ⟨x92, hv, h⟩ := h
    refine je_get (k := 5) C he rfl in_X7 (by decide) q556 rfl dX7_takeWord_92 95 rfl hv ?_
    refine je_bipush C (6) dX7_takeWord_95 97 rfl bp_6 ?_
    refine je_iadd C dX7_takeWord_97 98 rfl ?_
    refine je_icmp_ge C 138 dX7_takeWord_98 101 rfl rfl h ?_ ?_
    · clear h
      intro h
      cases h
      exact je_vret C dX7_takeWord_138
    clear h
    intro h
    refine je_aload_n C dX7_takeWord_101 102 rfl 0 rfl ?_
    refine je_aload_n C dX7_takeWord_102 103 rfl 0 rfl ?_
    replace h := p_ob_inv h
    obtain ⟨V103, he, h⟩ := h
    replace h := p_vi_inv h
    obtain ⟨x103, hv, h⟩ := h
    refine je_get (k := 4) C he rfl in_X7 (by decide) q555 rfl dX7_takeWord_103 106 rfl hv ?_
    refine je_iconst C (5) dX7_takeWord_106 107 rfl ic_5 ?_
    refine je_ishl C dX7_takeWord_107 108 rfl ?_
    refine je_iload_n C dX7_takeWord_108 109 rfl 1 rfl ?_
    refine je_aload_n C dX7_takeWord_109 110 rfl 0 rfl ?_
    replace h := p_ob_inv h
    obtain ⟨V110, he, h⟩ := h
    replace h := p_vi_inv h
    obtain ⟨x110, hv, h⟩ := h
    refine je_get (k := 2) C he rfl in_X7 (by decide) q553 rfl dX7_takeWord_110 113 rfl hv ?_
    refine je_icmp_ge C 127 dX7_takeWord_113 116 rfl rfl h ?_ ?_
    · clear h
      intro h
      refine je_iconst C (0) dX7_takeWord_127 128 rfl ic_0 ?_
      exact hwX7_takeWord_128 C ih τ a0 v1 (0 : Int32) (x103 <<< ((5 : Int32) &&& 31)) a0 h
    clear h
    intro h
    refine je_aload_n C dX7_takeWord_116 117 rfl 0 rfl ?_
    refine je_iload_n C dX7_takeWord_117 118 rfl 1 rfl ?_
    replace h := p_ob_inv h
    obtain ⟨V118, he, h⟩ := h
    replace h := p_cl_inv h
    obtain ⟨x118, hg, h⟩ := h
    refine je_callV (As := [.int v1]) (rest := [.int (x103 <<< ((5 : Int32) &&& 31)), .ref (G.2.1 + a0)]) (o := (some (.int x118))) C (hmX7_see hg) he rfl hdX7_see rfl cwX7_30 rfl ⟨Nat.le_of_ble_eq_true rfl, Nat.le_of_ble_eq_true rfl⟩ ⟨Nat.le_of_ble_eq_true rfl, Nat.le_of_ble_eq_true rfl⟩ (Nat.le_of_ble_eq_true rfl) dX7_takeWord_118 121 rfl ?_
    refine je_bipush C (96) dX7_takeWord_121 123 rfl bp_96 ?_
    refine je_isub C dX7_takeWord_123 124 rfl ?_
    refine je_goto C 128 dX7_takeWord_124 rfl ?_
    exact hwX7_takeWord_128 C ih τ a0 v1 (x118 - (96 : Int32)) (x103 <<< ((5 : Int32) &&& 31)) a0 h
set_option maxHeartbeats 4000000 in
theorem hwX7_takeWord_68 {p : Program} {l : Launch} {e : Env} {s : State} {m : MethodId} {args : Array Value} {below : List Frame} {meth : Method} {c : Code} {G : je_G} {F : Nat} {r9 : hT} (C : Cx p s m args meth c G "MinistryDesks$Reader" cX7_takeWord 2 none) (τ : hT) (a0 : Nat) (s0 : Int32) (s1 : Nat) (h : hbX7_takeWord_68 G F τ a0 s0 s1 = some r9) : Js p l e ({ frames := 5, cells := 0, slots := 0, locals := 111 } : Room) s m args below meth c G 2 (MQ below (je_Q G none r9.1 (G.2.1 + r9.2)) args s 0 0 (je_A G)) τ.1 (G.2.1 + τ.2) 0 0 68 [(0, .ref (G.2.1 + a0))] [.int s0, .ref (G.2.1 + s1)] := by
  unfold hbX7_takeWord_68 at h
  replace h := p_ob_inv h
  obtain ⟨V68, he, h⟩ := h
  refine je_put (k := 3) (v := .int s0) C he rfl in_X7 tyX7 tyX7_ok nmX7 (by decide) q554 rfl rfl rfl rfl dX7_takeWord_68 71 rfl ?_
  refine jh_lt h ?_
  clear h
  intro t68 h
  refine je_aload_n C dX7_takeWord_71 72 rfl 0 rfl ?_
  replace h := p_ob_inv h
  obtain ⟨V72, he, h⟩ := h
  replace h := p_vi_inv h
  obtain ⟨x72, hv, h⟩ := h
  refine je_get (k := 3) C he rfl in_X7 (by decide) q554 rfl dX7_takeWord_72 75 rfl hv ?_
  refine je_iconst C (2) dX7_takeWord_75 76 rfl ic_2 ?_
  refine je_icmp_eq C 80 dX7_takeWord_76 79 rfl rfl h ?_ ?_
  · clear h
    intro h
    refine je_aload_n C dX7_takeWord_80 81 rfl 0 rfl ?_
    refine je_iconst C (0) dX7_takeWord_81 82 rfl ic_0 ?_
    replace h := p_ob_inv h
    obtain ⟨V82, he, h⟩ := h
    refine je_put (k := 4) (v := .int (0 : Int32)) C he rfl in_X7 tyX7 tyX7_ok nmX7 (by decide) q555 rfl rfl rfl rfl dX7_takeWord_82 85 rfl ?_
    refine jh_lt h ?_
    clear h
    intro t82 h
    refine je_aload_n C dX7_takeWord_85 86 rfl 0 rfl ?_
    replace h := p_ob_inv h
    obtain ⟨V86, he, h⟩ := h
    replace h := p_vi_inv h
    obtain ⟨x86, hv, h⟩ := h
    refine je_get (k := 5) C he rfl in_X7 (by decide) q556 rfl dX7_takeWord_86 89 rfl hv ?_
    refine je_istore_n C dX7_takeWord_89 90 rfl (Nat.le_of_ble_eq_true rfl) [(1, .int x86), (0, .ref (G.2.1 + a0))] rfl ?_
    refine je_sub [1, 0] [(0, .ref (G.2.1 + a0)), (1, .int x86)] rfl ?_
    exact hwX7_takeWord_90 C F t82 a0 x86 h
  clear h
  intro h
  cases h
  exact je_vret C dX7_takeWord_79
set_option maxHeartbeats 4000000 in
theorem hwX7_takeWord_0 {p : Program} {l : Launch} {e : Env} {s : State} {m : MethodId} {args : Array Value} {below : List Frame} {meth : Method} {c : Code} {G : je_G} {F : Nat} {r9 : hT} (C : Cx p s m args meth c G "MinistryDesks$Reader" cX7_takeWord 2 none) : ∀ (n : Nat) (τ : hT) (a0 : Nat), hbX7_takeWord_0 G F n τ a0 = some r9 → Js p l e ({ frames := 5, cells := 0, slots := 0, locals := 111 } : Room) s m args below meth c G 2 (MQ below (je_Q G none r9.1 (G.2.1 + r9.2)) args s 0 0 (je_A G)) τ.1 (G.2.1 + τ.2) 0 0 0 [(0, .ref (G.2.1 + a0))] [] := by
  intro n
  induction n with
  | zero =>
    intro τ a0 h
    cases h
  | succ n ih =>
    intro τ a0 h
    rw [hbX7_takeWord_0] at h
    refine je_aload_n C dX7_takeWord_0 1 rfl 0 rfl ?_
    refine je_aload_n C dX7_takeWord_1 2 rfl 0 rfl ?_
    replace h := p_ob_inv h
    obtain ⟨V2, he, h⟩ := h
    replace h := p_vi_inv h
    obtain ⟨x2, hv, h⟩ := h
    refine je_get (k := 2) C he rfl in_X7 (by decide) q553 rfl dX7_takeWord_2 5 rfl hv ?_
    replace h := p_ob_inv h
    obtain ⟨V5, he, h⟩ := h
    replace h := p_cl_inv h
    obtain ⟨x5, hg, h⟩ := h
    refine je_callV (As := [.int x2]) (rest := []) (o := (some (.int x5))) C (hmX7_isSmall hg) he rfl hdX7_isSmall rfl cwX7_47 rfl ⟨Nat.le_of_ble_eq_true rfl, Nat.le_of_ble_eq_true rfl⟩ ⟨Nat.le_of_ble_eq_true rfl, Nat.le_of_ble_eq_true rfl⟩ (Nat.le_of_ble_eq_true rfl) dX7_takeWord_5 8 rfl ?_
    refine je_if_eq C 24 dX7_takeWord_8 11 rfl rfl h ?_ ?_
    · clear h
      intro h
      refine je_aload_n C dX7_takeWord_24 25 rfl 0 rfl ?_
      refine je_aload_n C dX7_takeWord_25 26 rfl 0 rfl ?_
      refine je_aload_n C dX7_takeWord_26 27 rfl 0 rfl ?_
      replace h := p_ob_inv h
      obtain ⟨V27, he, h⟩ := h
      replace h := p_vi_inv h
      obtain ⟨x27, hv, h⟩ := h
      refine je_get (k := 5) C he rfl in_X7 (by decide) q556 rfl dX7_takeWord_27 30 rfl hv ?_
      replace h := p_ob_inv h
      obtain ⟨V30, he, h⟩ := h
      replace h := p_cl_inv h
      obtain ⟨x30, hg, h⟩ := h
      refine je_callV (As := [.int x27]) (rest := [.ref (G.2.1 + a0)]) (o := (some (.int x30))) C (hmX7_key hg) he rfl hdX7_key rfl cwX7_63 rfl ⟨Nat.le_of_ble_eq_true rfl, Nat.le_of_ble_eq_true rfl⟩ ⟨Nat.le_of_ble_eq_true rfl, Nat.le_of_ble_eq_true rfl⟩ (Nat.le_of_ble_eq_true rfl) dX7_takeWord_30 33 rfl ?_
      replace h := p_ob_inv h
      obtain ⟨V33, he, h⟩ := h
      refine je_put (k := 4) (v := .int x30) C he rfl in_X7 tyX7 tyX7_ok nmX7 (by decide) q555 rfl rfl rfl rfl dX7_takeWord_33 36 rfl ?_
      refine jh_lt h ?_
      clear h
      intro t33 h
      refine je_aload_n C dX7_takeWord_36 37 rfl 0 rfl ?_
      refine je_aload_n C dX7_takeWord_37 38 rfl 0 rfl ?_
      replace h := p_ob_inv h
      obtain ⟨V38, he, h⟩ := h
      replace h := p_vi_inv h
      obtain ⟨x38, hv, h⟩ := h
      refine je_get (k := 4) C he rfl in_X7 (by decide) q555 rfl dX7_takeWord_38 41 rfl hv ?_
      refine je_if_lt C 48 dX7_takeWord_41 44 rfl rfl h ?_ ?_
      · clear h
        intro h
        refine je_aload_n C dX7_takeWord_48 49 rfl 0 rfl ?_
        replace h := p_ob_inv h
        obtain ⟨V49, he, h⟩ := h
        replace h := p_vi_inv h
        obtain ⟨x49, hv, h⟩ := h
        refine je_get (k := 2) C he rfl in_X7 (by decide) q553 rfl dX7_takeWord_49 52 rfl hv ?_
        refine je_aload_n C dX7_takeWord_52 53 rfl 0 rfl ?_
        replace h := p_ob_inv h
        obtain ⟨V53, he, h⟩ := h
        replace h := p_vi_inv h
        obtain ⟨x53, hv, h⟩ := h
        refine je_get (k := 5) C he rfl in_X7 (by decide) q556 rfl dX7_takeWord_53 56 rfl hv ?_
        refine je_isub C dX7_takeWord_56 57 rfl ?_
        refine je_bipush C (6) dX7_takeWord_57 59 rfl bp_6 ?_
        refine je_icmp_le C 67 dX7_takeWord_59 62 rfl rfl h ?_ ?_
        · clear h
          intro h
          refine je_iconst C (2) dX7_takeWord_67 68 rfl ic_2 ?_
          exact hwX7_takeWord_68 C t33 a0 (2 : Int32) a0 h
        clear h
        intro h
        refine je_bipush C (6) dX7_takeWord_62 64 rfl bp_6 ?_
        refine je_goto C 68 dX7_takeWord_64 rfl ?_
        exact hwX7_takeWord_68 C t33 a0 (6 : Int32) a0 h
      clear h
      intro h
      refine je_iconst C (1) dX7_takeWord_44 45 rfl ic_1 ?_
      refine je_goto C 68 dX7_takeWord_45 rfl ?_
      exact hwX7_takeWord_68 C t33 a0 (1 : Int32) a0 h
    clear h
    intro h
    refine je_aload_n C dX7_takeWord_11 12 rfl 0 rfl ?_
    refine je_dup C dX7_takeWord_12 13 rfl rfl ?_
    replace h := p_ob_inv h
    obtain ⟨V13, he, h⟩ := h
    replace h := p_vi_inv h
    obtain ⟨x13, hv, h⟩ := h
    refine je_get (k := 2) C he rfl in_X7 (by decide) q553 rfl dX7_takeWord_13 16 rfl hv ?_
    refine je_iconst C (1) dX7_takeWord_16 17 rfl ic_1 ?_
    refine je_iadd C dX7_takeWord_17 18 rfl ?_
    replace h := p_ob_inv h
    obtain ⟨V18, he, h⟩ := h
    refine je_put (k := 2) (v := .int (x13 + (1 : Int32))) C he rfl in_X7 tyX7 tyX7_ok nmX7 (by decide) q553 rfl rfl rfl rfl dX7_takeWord_18 21 rfl ?_
    refine jh_lt h ?_
    clear h
    intro t18 h
    refine je_goto C 0 dX7_takeWord_21 rfl ?_
    exact ih t18 a0 h
set_option maxHeartbeats 4000000 in
theorem hmX7_takeWord {l : Launch} {G : je_G} {F : Nat} {τ : hT} {a0 : Nat} {r9 : hT} (h : hX7_takeWord G F τ a0 = some r9) : MetS l G yX7_takeWord cX7_takeWord 2 none 5 111 0 0 [.ref (G.2.1 + a0)] τ.1 (G.2.1 + τ.2) none r9.1 (G.2.1 + r9.2) := by
  refine je_met "MinistryDesks$Reader" rfl (by decide +kernel) (Nat.le_of_ble_eq_true rfl) [(0, .ref (G.2.1 + a0))] rfl (fun p e s m args below meth c C => ?_)
  unfold hX7_takeWord at h
  exact hwX7_takeWord_0 C F τ a0 h
set_option maxHeartbeats 4000000 in
theorem hmX7_isDigit {l : Launch} {G : je_G} {τ : hT} {a0 : Nat} {v1 : Int32} {r9 : Int32} (h : hX7_isDigit G τ a0 v1 = some r9) : MetS l G yX7_isDigit cX7_isDigit 2 (some .boolean) 1 22 0 0 [.ref (G.2.1 + a0), .int v1] τ.1 (G.2.1 + τ.2) (some (.int r9)) τ.1 (G.2.1 + τ.2) := by
  refine je_met "MinistryDesks$Reader" rfl (by decide +kernel) (Nat.le_of_ble_eq_true rfl) [(0, .ref (G.2.1 + a0)), (1, .int v1)] rfl (fun p e s m args below meth c C => ?_)
  unfold hX7_isDigit at h
  refine je_aload_n C dX7_isDigit_0 1 rfl 0 rfl ?_
  refine je_iload_n C dX7_isDigit_1 2 rfl 1 rfl ?_
  replace h := p_ob_inv h
  obtain ⟨V2, he, h⟩ := h
  replace h := p_cl_inv h
  obtain ⟨x2, hg, h⟩ := h
  refine je_callV (As := [.int v1]) (rest := []) (o := (some (.int x2))) C (hmX7_see hg) he rfl hdX7_see rfl cwX7_30 rfl ⟨Nat.le_of_ble_eq_true rfl, Nat.le_of_ble_eq_true rfl⟩ ⟨Nat.le_of_ble_eq_true rfl, Nat.le_of_ble_eq_true rfl⟩ (Nat.le_of_ble_eq_true rfl) dX7_isDigit_2 5 rfl ?_
  refine je_bipush C (48) dX7_isDigit_5 7 rfl bp_48 ?_
  refine je_bipush C (57) dX7_isDigit_7 9 rfl bp_57 ?_
  replace h := p_cl_inv h
  obtain ⟨t9, hg, h⟩ := h
  refine je_callSNi (As := [.int x2, .int (48 : Int32), .int (57 : Int32)]) (rest := []) C (metX1_isIn hg) hdX1_isIn cwX7_34 rfl ⟨Nat.le_of_ble_eq_true rfl, Nat.le_of_ble_eq_true rfl⟩ (Nat.le_of_ble_eq_true rfl) dX7_isDigit_9 12 rfl ⟨Nat.le_of_ble_eq_true rfl, Nat.le_of_ble_eq_true rfl⟩ ?_
  replace h := p_cz_inv h
  obtain ⟨hz, h⟩ := h
  cases h
  exact je_zret C dX7_isDigit_12 hz
theorem sp_10000 : (Int16.ofInt (10000)).toInt32 = (10000 : Int32) := by decide +kernel
theorem hdX7_isDigit : je_hd yX7_isDigit 1 := ⟨by decide +kernel, by decide +kernel, by decide +kernel⟩
theorem cwX7_54 : GoodIn lw_all (wsV "MinistryDesks$Reader" 54 "MinistryDesks$Reader" yX7_isDigit (ws_ yX7_isDigit cX7_isDigit 2 (some .boolean))) := lw_V q705 q707 qs6 q170 q708
theorem mlX7_85 : Cond.methodLink "MinistryDesks$Reader" 85 Lib.Math.min.name ∈ lw_all ∧ Cond.static Lib.Math.min.name ∈ lw_all ∧ Cond.initialized "java/lang/Math" ∈ lw_all ∧ Cond.code Lib.Math.min.name Lib.Math.min.code 2 (some .int) ∈ lw_all := ⟨q713, q631, q173, q632⟩
set_option maxHeartbeats 4000000 in
theorem hwX7_takeNumber_10 {p : Program} {l : Launch} {e : Env} {s : State} {m : MethodId} {args : Array Value} {below : List Frame} {meth : Method} {c : Code} {G : je_G} {F : Nat} {r9 : hT} (C : Cx p s m args meth c G "MinistryDesks$Reader" cX7_takeNumber 1 none) : ∀ (n : Nat) (τ : hT) (a0 : Nat), hbX7_takeNumber_10 G F n τ a0 = some r9 → Js p l e ({ frames := 2, cells := 0, slots := 0, locals := 43 } : Room) s m args below meth c G 1 (MQ below (je_Q G none r9.1 (G.2.1 + r9.2)) args s 0 0 (je_A G)) τ.1 (G.2.1 + τ.2) 0 0 10 [(0, .ref (G.2.1 + a0))] [] := by
  intro n
  induction n with
  | zero =>
    intro τ a0 h
    cases h
  | succ n ih =>
    intro τ a0 h
    rw [hbX7_takeNumber_10] at h
    refine je_aload_n C dX7_takeNumber_10 11 rfl 0 rfl ?_
    refine je_aload_n C dX7_takeNumber_11 12 rfl 0 rfl ?_
    replace h := p_ob_inv h
    obtain ⟨V12, he, h⟩ := h
    replace h := p_vi_inv h
    obtain ⟨x12, hv, h⟩ := h
    refine je_get (k := 2) C he rfl in_X7 (by decide) q553 rfl dX7_takeNumber_12 15 rfl hv ?_
    replace h := p_ob_inv h
    obtain ⟨V15, he, h⟩ := h
    replace h := p_cl_inv h
    obtain ⟨x15, hg, h⟩ := h
    refine je_callV (As := [.int x12]) (rest := []) (o := (some (.int x15))) C (hmX7_isDigit hg) he rfl hdX7_isDigit rfl cwX7_54 rfl ⟨Nat.le_of_ble_eq_true rfl, Nat.le_of_ble_eq_true rfl⟩ ⟨Nat.le_of_ble_eq_true rfl, Nat.le_of_ble_eq_true rfl⟩ (Nat.le_of_ble_eq_true rfl) dX7_takeNumber_15 18 rfl ?_
    refine je_if_eq C 63 dX7_takeNumber_18 21 rfl rfl h ?_ ?_
    · clear h
      intro h
      cases h
      exact je_vret C dX7_takeNumber_63
    clear h
    intro h
    refine je_aload_n C dX7_takeNumber_21 22 rfl 0 rfl ?_
    refine je_bipush C (10) dX7_takeNumber_22 24 rfl bp_10 ?_
    refine je_aload_n C dX7_takeNumber_24 25 rfl 0 rfl ?_
    replace h := p_ob_inv h
    obtain ⟨V25, he, h⟩ := h
    replace h := p_vi_inv h
    obtain ⟨x25, hv, h⟩ := h
    refine je_get (k := 4) C he rfl in_X7 (by decide) q555 rfl dX7_takeNumber_25 28 rfl hv ?_
    refine je_imul C dX7_takeNumber_28 29 rfl ?_
    refine je_aload_n C dX7_takeNumber_29 30 rfl 0 rfl ?_
    refine je_aload_n C dX7_takeNumber_30 31 rfl 0 rfl ?_
    replace h := p_ob_inv h
    obtain ⟨V31, he, h⟩ := h
    replace h := p_vi_inv h
    obtain ⟨x31, hv, h⟩ := h
    refine je_get (k := 2) C he rfl in_X7 (by decide) q553 rfl dX7_takeNumber_31 34 rfl hv ?_
    replace h := p_ob_inv h
    obtain ⟨V34, he, h⟩ := h
    replace h := p_cl_inv h
    obtain ⟨x34, hg, h⟩ := h
    refine je_callV (As := [.int x31]) (rest := [.int ((10 : Int32) * x25), .ref (G.2.1 + a0)]) (o := (some (.int x34))) C (hmX7_see hg) he rfl hdX7_see rfl cwX7_30 rfl ⟨Nat.le_of_ble_eq_true rfl, Nat.le_of_ble_eq_true rfl⟩ ⟨Nat.le_of_ble_eq_true rfl, Nat.le_of_ble_eq_true rfl⟩ (Nat.le_of_ble_eq_true rfl) dX7_takeNumber_34 37 rfl ?_
    refine je_iadd C dX7_takeNumber_37 38 rfl ?_
    refine je_bipush C (48) dX7_takeNumber_38 40 rfl bp_48 ?_
    refine je_isub C dX7_takeNumber_40 41 rfl ?_
    refine je_sipush C (10000) dX7_takeNumber_41 44 rfl sp_10000 ?_
    refine je_mmin C ⟨Nat.le_of_ble_eq_true rfl, Nat.le_of_ble_eq_true rfl⟩ (Nat.le_of_ble_eq_true rfl) mlX7_85 dX7_takeNumber_44 47 rfl ⟨Nat.le_of_ble_eq_true rfl, Nat.le_of_ble_eq_true rfl⟩ ?_
    replace h := p_ob_inv h
    obtain ⟨V47, he, h⟩ := h
    refine je_put (k := 4) (v := .int (if (10000 : Int32) < ((((10 : Int32) * x25) + x34) - (48 : Int32)) then (10000 : Int32) else ((((10 : Int32) * x25) + x34) - (48 : Int32)))) C he rfl in_X7 tyX7 tyX7_ok nmX7 (by decide) q555 rfl rfl rfl rfl dX7_takeNumber_47 50 rfl ?_
    refine jh_lt h ?_
    clear h
    intro t47 h
    refine je_aload_n C dX7_takeNumber_50 51 rfl 0 rfl ?_
    refine je_dup C dX7_takeNumber_51 52 rfl rfl ?_
    replace h := p_ob_inv h
    obtain ⟨V52, he, h⟩ := h
    replace h := p_vi_inv h
    obtain ⟨x52, hv, h⟩ := h
    refine je_get (k := 2) C he rfl in_X7 (by decide) q553 rfl dX7_takeNumber_52 55 rfl hv ?_
    refine je_iconst C (1) dX7_takeNumber_55 56 rfl ic_1 ?_
    refine je_iadd C dX7_takeNumber_56 57 rfl ?_
    replace h := p_ob_inv h
    obtain ⟨V57, he, h⟩ := h
    refine je_put (k := 2) (v := .int (x52 + (1 : Int32))) C he rfl in_X7 tyX7 tyX7_ok nmX7 (by decide) q553 rfl rfl rfl rfl dX7_takeNumber_57 60 rfl ?_
    refine jh_lt h ?_
    clear h
    intro t57 h
    refine je_goto C 10 dX7_takeNumber_60 rfl ?_
    exact ih t57 a0 h
set_option maxHeartbeats 4000000 in
theorem hmX7_takeNumber {l : Launch} {G : je_G} {F : Nat} {τ : hT} {a0 : Nat} {r9 : hT} (h : hX7_takeNumber G F τ a0 = some r9) : MetS l G yX7_takeNumber cX7_takeNumber 1 none 2 43 0 0 [.ref (G.2.1 + a0)] τ.1 (G.2.1 + τ.2) none r9.1 (G.2.1 + r9.2) := by
  refine je_met "MinistryDesks$Reader" rfl (by decide +kernel) (Nat.le_of_ble_eq_true rfl) [(0, .ref (G.2.1 + a0))] rfl (fun p e s m args below meth c C => ?_)
  unfold hX7_takeNumber at h
  refine je_aload_n C dX7_takeNumber_0 1 rfl 0 rfl ?_
  refine je_iconst C (3) dX7_takeNumber_1 2 rfl ic_3 ?_
  replace h := p_ob_inv h
  obtain ⟨V2, he, h⟩ := h
  refine je_put (k := 3) (v := .int (3 : Int32)) C he rfl in_X7 tyX7 tyX7_ok nmX7 (by decide) q554 rfl rfl rfl rfl dX7_takeNumber_2 5 rfl ?_
  refine jh_lt h ?_
  clear h
  intro t2 h
  refine je_aload_n C dX7_takeNumber_5 6 rfl 0 rfl ?_
  refine je_iconst C (0) dX7_takeNumber_6 7 rfl ic_0 ?_
  replace h := p_ob_inv h
  obtain ⟨V7, he, h⟩ := h
  refine je_put (k := 4) (v := .int (0 : Int32)) C he rfl in_X7 tyX7 tyX7_ok nmX7 (by decide) q555 rfl rfl rfl rfl dX7_takeNumber_7 10 rfl ?_
  refine jh_lt h ?_
  clear h
  intro t7 h
  exact hwX7_takeNumber_10 C F t7 a0 h
theorem hdJ3_indexOf_2 : je_hd yJ3_indexOf_2 1 := ⟨by decide +kernel, by decide +kernel, by decide +kernel⟩
theorem cwX7_92 : GoodIn lw_all (wsV "MinistryDesks$Reader" 92 "java/lang/String" yJ3_indexOf_2 (ws_ yJ3_indexOf_2 cJ3_indexOf_2 2 (some .int))) := lw_V q719 q720 q721 q171 q722
set_option maxHeartbeats 4000000 in
theorem hwX7_takeSign_170 {p : Program} {l : Launch} {e : Env} {s : State} {m : MethodId} {args : Array Value} {below : List Frame} {meth : Method} {c : Code} {G : je_G} {F : Nat} {r9 : hT} (C : Cx p s m args meth c G "MinistryDesks$Reader" cX7_takeSign 4 none) (τ : hT) (a0 : Nat) (s0 : Int32) (s1 : Nat) (h : hbX7_takeSign_170 G F τ a0 s0 s1 = some r9) : Js p l e ({ frames := 4, cells := 0, slots := 0, locals := 91 } : Room) s m args below meth c G 4 (MQ below (je_Q G none r9.1 (G.2.1 + r9.2)) args s 0 0 (je_A G)) τ.1 (G.2.1 + τ.2) 0 0 170 [(0, .ref (G.2.1 + a0))] [.int s0, .ref (G.2.1 + s1)] := by
  unfold hbX7_takeSign_170 at h
  replace h := p_ob_inv h
  obtain ⟨V170, he, h⟩ := h
  refine je_put (k := 4) (v := .int s0) C he rfl in_X7 tyX7 tyX7_ok nmX7 (by decide) q555 rfl rfl rfl rfl dX7_takeSign_170 173 rfl ?_
  refine jh_lt h ?_
  clear h
  intro t170 h
  refine je_aload_n C dX7_takeSign_173 174 rfl 0 rfl ?_
  refine je_iconst C (5) dX7_takeSign_174 175 rfl ic_5 ?_
  replace h := p_ob_inv h
  obtain ⟨V175, he, h⟩ := h
  refine je_put (k := 3) (v := .int (5 : Int32)) C he rfl in_X7 tyX7 tyX7_ok nmX7 (by decide) q554 rfl rfl rfl rfl dX7_takeSign_175 178 rfl ?_
  refine jh_lt h ?_
  clear h
  intro t175 h
  refine je_goto C 203 dX7_takeSign_178 rfl ?_
  cases h
  exact je_vret C dX7_takeSign_203
set_option maxHeartbeats 4000000 in
theorem hwX7_takeSign_118 {p : Program} {l : Launch} {e : Env} {s : State} {m : MethodId} {args : Array Value} {below : List Frame} {meth : Method} {c : Code} {G : je_G} {F : Nat} {r9 : hT} (C : Cx p s m args meth c G "MinistryDesks$Reader" cX7_takeSign 4 none) (τ : hT) (a0 : Nat) (v2 : Int32) (v3 : Int32) (h : hbX7_takeSign_118 G F τ a0 v2 v3 = some r9) : Js p l e ({ frames := 4, cells := 0, slots := 0, locals := 91 } : Room) s m args below meth c G 4 (MQ below (je_Q G none r9.1 (G.2.1 + r9.2)) args s 0 0 (je_A G)) τ.1 (G.2.1 + τ.2) 0 0 118 [(0, .ref (G.2.1 + a0)), (2, .int v2), (3, .int v3)] [] := by
  unfold hbX7_takeSign_118 at h
  refine je_aload_n C dX7_takeSign_118 119 rfl 0 rfl ?_
  refine je_aload_n C dX7_takeSign_119 120 rfl 0 rfl ?_
  replace h := p_ob_inv h
  obtain ⟨V120, he, h⟩ := h
  replace h := p_vi_inv h
  obtain ⟨x120, hv, h⟩ := h
  refine je_get (k := 4) C he rfl in_X7 (by decide) q555 rfl dX7_takeSign_120 123 rfl hv ?_
  refine je_bipush C (61) dX7_takeSign_123 125 rfl bp_61 ?_
  refine je_icmp_ne C 132 dX7_takeSign_125 128 rfl rfl h ?_ ?_
  · clear h
    intro h
    refine je_aload_n C dX7_takeSign_132 133 rfl 0 rfl ?_
    replace h := p_ob_inv h
    obtain ⟨V133, he, h⟩ := h
    replace h := p_vi_inv h
    obtain ⟨x133, hv, h⟩ := h
    refine je_get (k := 4) C he rfl in_X7 (by decide) q555 rfl dX7_takeSign_133 136 rfl hv ?_
    refine je_bipush C (60) dX7_takeSign_136 138 rfl bp_60 ?_
    refine je_icmp_ne C 161 dX7_takeSign_138 141 rfl rfl h ?_ ?_
    · clear h
      intro h
      refine je_iload_n C dX7_takeSign_161 162 rfl 1 rfl ?_
      refine je_if_eq C 169 dX7_takeSign_162 165 rfl rfl h ?_ ?_
      · clear h
        intro h
        refine je_iconst C (5) dX7_takeSign_169 170 rfl ic_5 ?_
        refine je_sub [0] [(0, .ref (G.2.1 + a0))] rfl ?_
        exact hwX7_takeSign_170 C τ a0 (5 : Int32) a0 h
      clear h
      intro h
      refine je_iconst C (4) dX7_takeSign_165 166 rfl ic_4 ?_
      refine je_goto C 170 dX7_takeSign_166 rfl ?_
      refine je_sub [0] [(0, .ref (G.2.1 + a0))] rfl ?_
      exact hwX7_takeSign_170 C τ a0 (4 : Int32) a0 h
    clear h
    intro h
    refine je_iload_n C dX7_takeSign_141 142 rfl 1 rfl ?_
    refine je_if_eq C 149 dX7_takeSign_142 145 rfl rfl h ?_ ?_
    · clear h
      intro h
      refine je_iload_n C dX7_takeSign_149 150 rfl 2 rfl ?_
      refine je_if_eq C 157 dX7_takeSign_150 153 rfl rfl h ?_ ?_
      · clear h
        intro h
        refine je_iconst C (0) dX7_takeSign_157 158 rfl ic_0 ?_
        refine je_goto C 170 dX7_takeSign_158 rfl ?_
        refine je_sub [0] [(0, .ref (G.2.1 + a0))] rfl ?_
        exact hwX7_takeSign_170 C τ a0 (0 : Int32) a0 h
      clear h
      intro h
      refine je_iconst C (3) dX7_takeSign_153 154 rfl ic_3 ?_
      refine je_goto C 170 dX7_takeSign_154 rfl ?_
      refine je_sub [0] [(0, .ref (G.2.1 + a0))] rfl ?_
      exact hwX7_takeSign_170 C τ a0 (3 : Int32) a0 h
    clear h
    intro h
    refine je_iconst C (1) dX7_takeSign_145 146 rfl ic_1 ?_
    refine je_goto C 170 dX7_takeSign_146 rfl ?_
    refine je_sub [0] [(0, .ref (G.2.1 + a0))] rfl ?_
    exact hwX7_takeSign_170 C τ a0 (1 : Int32) a0 h
  clear h
  intro h
  refine je_iconst C (2) dX7_takeSign_128 129 rfl ic_2 ?_
  refine je_goto C 170 dX7_takeSign_129 rfl ?_
  refine je_sub [0] [(0, .ref (G.2.1 + a0))] rfl ?_
  exact hwX7_takeSign_170 C τ a0 (2 : Int32) a0 h
set_option maxHeartbeats 4000000 in
theorem hwX7_takeSign_108 {p : Program} {l : Launch} {e : Env} {s : State} {m : MethodId} {args : Array Value} {below : List Frame} {meth : Method} {c : Code} {G : je_G} {F : Nat} {r9 : hT} (C : Cx p s m args meth c G "MinistryDesks$Reader" cX7_takeSign 4 none) (τ : hT) (a0 : Nat) (v2 : Int32) (v3 : Int32) (h : hbX7_takeSign_108 G F τ a0 v2 v3 = some r9) : Js p l e ({ frames := 4, cells := 0, slots := 0, locals := 91 } : Room) s m args below meth c G 4 (MQ below (je_Q G none r9.1 (G.2.1 + r9.2)) args s 0 0 (je_A G)) τ.1 (G.2.1 + τ.2) 0 0 108 [(0, .ref (G.2.1 + a0)), (2, .int v2), (3, .int v3)] [] := by
  unfold hbX7_takeSign_108 at h
  refine je_aload_n C dX7_takeSign_108 109 rfl 0 rfl ?_
  refine je_dup C dX7_takeSign_109 110 rfl rfl ?_
  replace h := p_ob_inv h
  obtain ⟨V110, he, h⟩ := h
  replace h := p_vi_inv h
  obtain ⟨x110, hv, h⟩ := h
  refine je_get (k := 2) C he rfl in_X7 (by decide) q553 rfl dX7_takeSign_110 113 rfl hv ?_
  refine je_iconst C (1) dX7_takeSign_113 114 rfl ic_1 ?_
  refine je_iadd C dX7_takeSign_114 115 rfl ?_
  replace h := p_ob_inv h
  obtain ⟨V115, he, h⟩ := h
  refine je_put (k := 2) (v := .int (x110 + (1 : Int32))) C he rfl in_X7 tyX7 tyX7_ok nmX7 (by decide) q553 rfl rfl rfl rfl dX7_takeSign_115 118 rfl ?_
  refine jh_lt h ?_
  clear h
  intro t115 h
  exact hwX7_takeSign_118 C t115 a0 v2 v3 h
set_option maxHeartbeats 4000000 in
theorem hwX7_takeSign_99 {p : Program} {l : Launch} {e : Env} {s : State} {m : MethodId} {args : Array Value} {below : List Frame} {meth : Method} {c : Code} {G : je_G} {F : Nat} {r9 : hT} (C : Cx p s m args meth c G "MinistryDesks$Reader" cX7_takeSign 4 none) (τ : hT) (a0 : Nat) (v2 : Int32) (s0 : Int32) (h : hbX7_takeSign_99 G F τ a0 v2 s0 = some r9) : Js p l e ({ frames := 4, cells := 0, slots := 0, locals := 91 } : Room) s m args below meth c G 4 (MQ below (je_Q G none r9.1 (G.2.1 + r9.2)) args s 0 0 (je_A G)) τ.1 (G.2.1 + τ.2) 0 0 99 [(0, .ref (G.2.1 + a0)), (2, .int v2)] [.int s0] := by
  unfold hbX7_takeSign_99 at h
  refine je_istore_n C dX7_takeSign_99 100 rfl (Nat.le_of_ble_eq_true rfl) [(3, .int s0), (0, .ref (G.2.1 + a0)), (2, .int v2)] rfl ?_
  refine je_iload_n C dX7_takeSign_100 101 rfl 2 rfl ?_
  refine je_if_ne C 108 dX7_takeSign_101 104 rfl rfl h ?_ ?_
  · clear h
    intro h
    refine je_sub [1, 2, 0] [(0, .ref (G.2.1 + a0)), (2, .int v2), (3, .int s0)] rfl ?_
    exact hwX7_takeSign_108 C τ a0 v2 s0 h
  clear h
  intro h
  refine je_iload_n C dX7_takeSign_104 105 rfl 0 rfl ?_
  refine je_if_eq C 118 dX7_takeSign_105 108 rfl rfl h ?_ ?_
  · clear h
    intro h
    refine je_sub [1, 2, 0] [(0, .ref (G.2.1 + a0)), (2, .int v2), (3, .int s0)] rfl ?_
    exact hwX7_takeSign_118 C τ a0 v2 s0 h
  clear h
  intro h
  refine je_sub [1, 2, 0] [(0, .ref (G.2.1 + a0)), (2, .int v2), (3, .int s0)] rfl ?_
  exact hwX7_takeSign_108 C τ a0 v2 s0 h
set_option maxHeartbeats 4000000 in
theorem hwX7_takeSign_98 {p : Program} {l : Launch} {e : Env} {s : State} {m : MethodId} {args : Array Value} {below : List Frame} {meth : Method} {c : Code} {G : je_G} {F : Nat} {r9 : hT} (C : Cx p s m args meth c G "MinistryDesks$Reader" cX7_takeSign 4 none) (τ : hT) (a0 : Nat) (v2 : Int32) (h : hbX7_takeSign_98 G F τ a0 v2 = some r9) : Js p l e ({ frames := 4, cells := 0, slots := 0, locals := 91 } : Room) s m args below meth c G 4 (MQ below (je_Q G none r9.1 (G.2.1 + r9.2)) args s 0 0 (je_A G)) τ.1 (G.2.1 + τ.2) 0 0 98 [(0, .ref (G.2.1 + a0)), (2, .int v2)] [] := by
  unfold hbX7_takeSign_98 at h
  refine je_iconst C (0) dX7_takeSign_98 99 rfl ic_0 ?_
  exact hwX7_takeSign_99 C τ a0 v2 (0 : Int32) h
set_option maxHeartbeats 4000000 in
theorem hwX7_takeSign_78 {p : Program} {l : Launch} {e : Env} {s : State} {m : MethodId} {args : Array Value} {below : List Frame} {meth : Method} {c : Code} {G : je_G} {F : Nat} {r9 : hT} (C : Cx p s m args meth c G "MinistryDesks$Reader" cX7_takeSign 4 none) (τ : hT) (a0 : Nat) (v1 : Int32) (s0 : Int32) (h : hbX7_takeSign_78 G F τ a0 v1 s0 = some r9) : Js p l e ({ frames := 4, cells := 0, slots := 0, locals := 91 } : Room) s m args below meth c G 4 (MQ below (je_Q G none r9.1 (G.2.1 + r9.2)) args s 0 0 (je_A G)) τ.1 (G.2.1 + τ.2) 0 0 78 [(0, .ref (G.2.1 + a0)), (1, .int v1)] [.int s0] := by
  unfold hbX7_takeSign_78 at h
  refine je_istore_n C dX7_takeSign_78 79 rfl (Nat.le_of_ble_eq_true rfl) [(2, .int s0), (0, .ref (G.2.1 + a0)), (1, .int v1)] rfl ?_
  refine je_aload_n C dX7_takeSign_79 80 rfl 1 rfl ?_
  replace h := p_ob_inv h
  obtain ⟨V80, he, h⟩ := h
  replace h := p_vi_inv h
  obtain ⟨x80, hv, h⟩ := h
  refine je_get (k := 4) C he rfl in_X7 (by decide) q555 rfl dX7_takeSign_80 83 rfl hv ?_
  refine je_bipush C (60) dX7_takeSign_83 85 rfl bp_60 ?_
  refine je_icmp_ne C 98 dX7_takeSign_85 88 rfl rfl h ?_ ?_
  · clear h
    intro h
    refine je_sub [1, 0] [(0, .ref (G.2.1 + a0)), (2, .int s0)] rfl ?_
    exact hwX7_takeSign_98 C τ a0 s0 h
  clear h
  intro h
  refine je_iload_n C dX7_takeSign_88 89 rfl 2 rfl ?_
  refine je_bipush C (62) dX7_takeSign_89 91 rfl bp_62 ?_
  refine je_icmp_ne C 98 dX7_takeSign_91 94 rfl rfl h ?_ ?_
  · clear h
    intro h
    refine je_sub [1, 0] [(0, .ref (G.2.1 + a0)), (2, .int s0)] rfl ?_
    exact hwX7_takeSign_98 C τ a0 s0 h
  clear h
  intro h
  refine je_iconst C (1) dX7_takeSign_94 95 rfl ic_1 ?_
  refine je_goto C 99 dX7_takeSign_95 rfl ?_
  refine je_sub [1, 0] [(0, .ref (G.2.1 + a0)), (2, .int s0)] rfl ?_
  exact hwX7_takeSign_99 C τ a0 s0 (1 : Int32) h
set_option maxHeartbeats 4000000 in
theorem hwX7_takeSign_77 {p : Program} {l : Launch} {e : Env} {s : State} {m : MethodId} {args : Array Value} {below : List Frame} {meth : Method} {c : Code} {G : je_G} {F : Nat} {r9 : hT} (C : Cx p s m args meth c G "MinistryDesks$Reader" cX7_takeSign 4 none) (τ : hT) (a0 : Nat) (v1 : Int32) (h : hbX7_takeSign_77 G F τ a0 v1 = some r9) : Js p l e ({ frames := 4, cells := 0, slots := 0, locals := 91 } : Room) s m args below meth c G 4 (MQ below (je_Q G none r9.1 (G.2.1 + r9.2)) args s 0 0 (je_A G)) τ.1 (G.2.1 + τ.2) 0 0 77 [(0, .ref (G.2.1 + a0)), (1, .int v1)] [] := by
  unfold hbX7_takeSign_77 at h
  refine je_iconst C (0) dX7_takeSign_77 78 rfl ic_0 ?_
  exact hwX7_takeSign_78 C τ a0 v1 (0 : Int32) h
set_option maxHeartbeats 4000000 in
theorem hwX7_takeSign_58 {p : Program} {l : Launch} {e : Env} {s : State} {m : MethodId} {args : Array Value} {below : List Frame} {meth : Method} {c : Code} {G : je_G} {F : Nat} {r9 : hT} (C : Cx p s m args meth c G "MinistryDesks$Reader" cX7_takeSign 4 none) (τ : hT) (a0 : Nat) (v1 : Int32) (h : hbX7_takeSign_58 G F τ a0 v1 = some r9) : Js p l e ({ frames := 4, cells := 0, slots := 0, locals := 91 } : Room) s m args below meth c G 4 (MQ below (je_Q G none r9.1 (G.2.1 + r9.2)) args s 0 0 (je_A G)) τ.1 (G.2.1 + τ.2) 0 0 58 [(0, .ref (G.2.1 + a0)), (1, .int v1)] [] := by
  unfold hbX7_takeSign_58 at h
  refine je_aload_n C dX7_takeSign_58 59 rfl 0 rfl ?_
  replace h := p_ob_inv h
  obtain ⟨V59, he, h⟩ := h
  replace h := p_vi_inv h
  obtain ⟨x59, hv, h⟩ := h
  refine je_get (k := 4) C he rfl in_X7 (by decide) q555 rfl dX7_takeSign_59 62 rfl hv ?_
  refine je_bipush C (61) dX7_takeSign_62 64 rfl bp_61 ?_
  refine je_icmp_eq C 77 dX7_takeSign_64 67 rfl rfl h ?_ ?_
  · clear h
    intro h
    exact hwX7_takeSign_77 C τ a0 v1 h
  clear h
  intro h
  refine je_iload_n C dX7_takeSign_67 68 rfl 1 rfl ?_
  refine je_bipush C (61) dX7_takeSign_68 70 rfl bp_61 ?_
  refine je_icmp_ne C 77 dX7_takeSign_70 73 rfl rfl h ?_ ?_
  · clear h
    intro h
    exact hwX7_takeSign_77 C τ a0 v1 h
  clear h
  intro h
  refine je_iconst C (1) dX7_takeSign_73 74 rfl ic_1 ?_
  refine je_goto C 78 dX7_takeSign_74 rfl ?_
  exact hwX7_takeSign_78 C τ a0 v1 (1 : Int32) h
set_option maxHeartbeats 4000000 in
theorem hwX7_takeSign_200 {p : Program} {l : Launch} {e : Env} {s : State} {m : MethodId} {args : Array Value} {below : List Frame} {meth : Method} {c : Code} {G : je_G} {F : Nat} {r9 : hT} (C : Cx p s m args meth c G "MinistryDesks$Reader" cX7_takeSign 4 none) (τ : hT) (a0 : Nat) (s0 : Int32) (s1 : Nat) (h : hbX7_takeSign_200 G F τ a0 s0 s1 = some r9) : Js p l e ({ frames := 4, cells := 0, slots := 0, locals := 91 } : Room) s m args below meth c G 4 (MQ below (je_Q G none r9.1 (G.2.1 + r9.2)) args s 0 0 (je_A G)) τ.1 (G.2.1 + τ.2) 0 0 200 [(0, .ref (G.2.1 + a0))] [.int s0, .ref (G.2.1 + s1)] := by
  unfold hbX7_takeSign_200 at h
  replace h := p_ob_inv h
  obtain ⟨V200, he, h⟩ := h
  refine je_put (k := 3) (v := .int s0) C he rfl in_X7 tyX7 tyX7_ok nmX7 (by decide) q554 rfl rfl rfl rfl dX7_takeSign_200 203 rfl ?_
  refine jh_lt h ?_
  clear h
  intro t200 h
  cases h
  exact je_vret C dX7_takeSign_203
set_option maxHeartbeats 4000000 in
theorem hmX7_takeSign {l : Launch} {G : je_G} {F : Nat} {τ : hT} {a0 : Nat} {r9 : hT} (h : hX7_takeSign G F τ a0 = some r9) : MetS l G yX7_takeSign cX7_takeSign 4 none 4 91 0 0 [.ref (G.2.1 + a0)] τ.1 (G.2.1 + τ.2) none r9.1 (G.2.1 + r9.2) := by
  refine je_met "MinistryDesks$Reader" rfl (by decide +kernel) (Nat.le_of_ble_eq_true rfl) [(0, .ref (G.2.1 + a0))] rfl (fun p e s m args below meth c C => ?_)
  unfold hX7_takeSign at h
  refine je_aload_n C dX7_takeSign_0 1 rfl 0 rfl ?_
  refine je_aload_n C dX7_takeSign_1 2 rfl 0 rfl ?_
  refine je_aload_n C dX7_takeSign_2 3 rfl 0 rfl ?_
  replace h := p_ob_inv h
  obtain ⟨V3, he, h⟩ := h
  replace h := p_vi_inv h
  obtain ⟨x3, hv, h⟩ := h
  refine je_get (k := 2) C he rfl in_X7 (by decide) q553 rfl dX7_takeSign_3 6 rfl hv ?_
  replace h := p_ob_inv h
  obtain ⟨V6, he, h⟩ := h
  replace h := p_cl_inv h
  obtain ⟨x6, hg, h⟩ := h
  refine je_callV (As := [.int x3]) (rest := [.ref (G.2.1 + a0)]) (o := (some (.int x6))) C (hmX7_see hg) he rfl hdX7_see rfl cwX7_30 rfl ⟨Nat.le_of_ble_eq_true rfl, Nat.le_of_ble_eq_true rfl⟩ ⟨Nat.le_of_ble_eq_true rfl, Nat.le_of_ble_eq_true rfl⟩ (Nat.le_of_ble_eq_true rfl) dX7_takeSign_6 9 rfl ?_
  replace h := p_ob_inv h
  obtain ⟨V9, he, h⟩ := h
  refine je_put (k := 4) (v := .int x6) C he rfl in_X7 tyX7 tyX7_ok nmX7 (by decide) q555 rfl rfl rfl rfl dX7_takeSign_9 12 rfl ?_
  refine jh_lt h ?_
  clear h
  intro t9 h
  refine je_aload_n C dX7_takeSign_12 13 rfl 0 rfl ?_
  refine je_dup C dX7_takeSign_13 14 rfl rfl ?_
  replace h := p_ob_inv h
  obtain ⟨V14, he, h⟩ := h
  replace h := p_vi_inv h
  obtain ⟨x14, hv, h⟩ := h
  refine je_get (k := 2) C he rfl in_X7 (by decide) q553 rfl dX7_takeSign_14 17 rfl hv ?_
  refine je_iconst C (1) dX7_takeSign_17 18 rfl ic_1 ?_
  refine je_iadd C dX7_takeSign_18 19 rfl ?_
  replace h := p_ob_inv h
  obtain ⟨V19, he, h⟩ := h
  refine je_put (k := 2) (v := .int (x14 + (1 : Int32))) C he rfl in_X7 tyX7 tyX7_ok nmX7 (by decide) q553 rfl rfl rfl rfl dX7_takeSign_19 22 rfl ?_
  refine jh_lt h ?_
  clear h
  intro t19 h
  refine je_aload_n C dX7_takeSign_22 23 rfl 0 rfl ?_
  refine je_aload_n C dX7_takeSign_23 24 rfl 0 rfl ?_
  replace h := p_ob_inv h
  obtain ⟨V24, he, h⟩ := h
  replace h := p_vi_inv h
  obtain ⟨x24, hv, h⟩ := h
  refine je_get (k := 2) C he rfl in_X7 (by decide) q553 rfl dX7_takeSign_24 27 rfl hv ?_
  replace h := p_ob_inv h
  obtain ⟨V27, he, h⟩ := h
  replace h := p_cl_inv h
  obtain ⟨x27, hg, h⟩ := h
  refine je_callV (As := [.int x24]) (rest := []) (o := (some (.int x27))) C (hmX7_see hg) he rfl hdX7_see rfl cwX7_30 rfl ⟨Nat.le_of_ble_eq_true rfl, Nat.le_of_ble_eq_true rfl⟩ ⟨Nat.le_of_ble_eq_true rfl, Nat.le_of_ble_eq_true rfl⟩ (Nat.le_of_ble_eq_true rfl) dX7_takeSign_27 30 rfl ?_
  refine je_istore_n C dX7_takeSign_30 31 rfl (Nat.le_of_ble_eq_true rfl) [(1, .int x27), (0, .ref (G.2.1 + a0))] rfl ?_
  refine je_aload_n C dX7_takeSign_31 32 rfl 1 rfl ?_
  replace h := p_ob_inv h
  obtain ⟨V32, he, h⟩ := h
  replace h := p_vi_inv h
  obtain ⟨x32, hv, h⟩ := h
  refine je_get (k := 4) C he rfl in_X7 (by decide) q555 rfl dX7_takeSign_32 35 rfl hv ?_
  refine je_bipush C (60) dX7_takeSign_35 37 rfl bp_60 ?_
  refine je_icmp_eq C 58 dX7_takeSign_37 40 rfl rfl h ?_ ?_
  · clear h
    intro h
    refine je_sub [1, 0] [(0, .ref (G.2.1 + a0)), (1, .int x27)] rfl ?_
    exact hwX7_takeSign_58 C t19 a0 x27 h
  clear h
  intro h
  refine je_aload_n C dX7_takeSign_40 41 rfl 1 rfl ?_
  replace h := p_ob_inv h
  obtain ⟨V41, he, h⟩ := h
  replace h := p_vi_inv h
  obtain ⟨x41, hv, h⟩ := h
  refine je_get (k := 4) C he rfl in_X7 (by decide) q555 rfl dX7_takeSign_41 44 rfl hv ?_
  refine je_bipush C (62) dX7_takeSign_44 46 rfl bp_62 ?_
  refine je_icmp_eq C 58 dX7_takeSign_46 49 rfl rfl h ?_ ?_
  · clear h
    intro h
    refine je_sub [1, 0] [(0, .ref (G.2.1 + a0)), (1, .int x27)] rfl ?_
    exact hwX7_takeSign_58 C t19 a0 x27 h
  clear h
  intro h
  refine je_aload_n C dX7_takeSign_49 50 rfl 1 rfl ?_
  replace h := p_ob_inv h
  obtain ⟨V50, he, h⟩ := h
  replace h := p_vi_inv h
  obtain ⟨x50, hv, h⟩ := h
  refine je_get (k := 4) C he rfl in_X7 (by decide) q555 rfl dX7_takeSign_50 53 rfl hv ?_
  refine je_bipush C (61) dX7_takeSign_53 55 rfl bp_61 ?_
  refine je_icmp_ne C 181 dX7_takeSign_55 58 rfl rfl h ?_ ?_
  · clear h
    intro h
    refine je_aload_n C dX7_takeSign_181 182 rfl 1 rfl ?_
    refine je_ldcS (i := 1) C (je_r1 C.2.2.2.2.2.2.2.2) dX7_takeSign_182 184 rfl ?_
    refine je_aload_n C dX7_takeSign_184 185 rfl 1 rfl ?_
    replace h := p_ob_inv h
    obtain ⟨V185, he, h⟩ := h
    replace h := p_vi_inv h
    obtain ⟨x185, hv, h⟩ := h
    refine je_get (k := 4) C he rfl in_X7 (by decide) q555 rfl dX7_takeSign_185 188 rfl hv ?_
    replace h := p_cl_inv h
    obtain ⟨t188, hg, h⟩ := h
    refine je_callSti (i := 1) (As := [.int x185]) (rest := [.ref (G.2.1 + a0)]) C (by decide) (metJ3_indexOf_2 hg) hdJ3_indexOf_2 rfl cwX7_92 rfl ⟨Nat.le_of_ble_eq_true rfl, Nat.le_of_ble_eq_true rfl⟩ (Nat.le_of_ble_eq_true rfl) dX7_takeSign_188 191 rfl ⟨Nat.le_of_ble_eq_true rfl, Nat.le_of_ble_eq_true rfl⟩ ?_
    refine je_if_lt C 198 dX7_takeSign_191 194 rfl rfl h ?_ ?_
    · clear h
      intro h
      refine je_bipush C (6) dX7_takeSign_198 200 rfl bp_6 ?_
      refine je_sub [1] [(0, .ref (G.2.1 + a0))] rfl ?_
      exact hwX7_takeSign_200 C t19 a0 (6 : Int32) a0 h
    clear h
    intro h
    refine je_iconst C (4) dX7_takeSign_194 195 rfl ic_4 ?_
    refine je_goto C 200 dX7_takeSign_195 rfl ?_
    refine je_sub [1] [(0, .ref (G.2.1 + a0))] rfl ?_
    exact hwX7_takeSign_200 C t19 a0 (4 : Int32) a0 h
  clear h
  intro h
  refine je_sub [1, 0] [(0, .ref (G.2.1 + a0)), (1, .int x27)] rfl ?_
  exact hwX7_takeSign_58 C t19 a0 x27 h
theorem hdX7_takeNumber : je_hd yX7_takeNumber 0 := ⟨by decide +kernel, by decide +kernel, by decide +kernel⟩
theorem hdX7_takeSign : je_hd yX7_takeSign 0 := ⟨by decide +kernel, by decide +kernel, by decide +kernel⟩
theorem hdX7_takeWord : je_hd yX7_takeWord 0 := ⟨by decide +kernel, by decide +kernel, by decide +kernel⟩
theorem cwX7_51 : GoodIn lw_all (wsV "MinistryDesks$Reader" 51 "MinistryDesks$Reader" yX7_takeWord (ws_ yX7_takeWord cX7_takeWord 2 none)) := lw_V q593 q595 qs4 q170 q596
theorem cwX7_57 : GoodIn lw_all (wsV "MinistryDesks$Reader" 57 "MinistryDesks$Reader" yX7_takeNumber (ws_ yX7_takeNumber cX7_takeNumber 1 none)) := lw_V q709 q711 qs7 q170 q712
theorem cwX7_60 : GoodIn lw_all (wsV "MinistryDesks$Reader" 60 "MinistryDesks$Reader" yX7_takeSign (ws_ yX7_takeSign cX7_takeSign 4 none)) := lw_V q714 q716 qs8 q170 q717
set_option maxHeartbeats 4000000 in
theorem hwX7_take_26 {p : Program} {l : Launch} {e : Env} {s : State} {m : MethodId} {args : Array Value} {below : List Frame} {meth : Method} {c : Code} {G : je_G} {F : Nat} {r9 : hT} {k0 : hT → Nat → Option (hT)} (C : Cx p s m args meth c G "MinistryDesks$Reader" cX7_take 1 none) (hk0 : ∀ (kq : hT) (q0 : Nat), k0 kq q0 = some r9 → Js p l e ({ frames := 6, cells := 0, slots := 0, locals := 132 } : Room) s m args below meth c G 1 (MQ below (je_Q G none r9.1 (G.2.1 + r9.2)) args s 0 0 (je_A G)) kq.1 (G.2.1 + kq.2) 0 0 0 [(0, .ref (G.2.1 + q0))] []) (τ : hT) (a0 : Nat) (h : hbX7_take_26 G F k0 τ a0 = some r9) : Js p l e ({ frames := 6, cells := 0, slots := 0, locals := 132 } : Room) s m args below meth c G 1 (MQ below (je_Q G none r9.1 (G.2.1 + r9.2)) args s 0 0 (je_A G)) τ.1 (G.2.1 + τ.2) 0 0 26 [(0, .ref (G.2.1 + a0))] [] := by
  unfold hbX7_take_26 at h
  refine je_aload_n C dX7_take_26 27 rfl 0 rfl ?_
  refine je_dup C dX7_take_27 28 rfl rfl ?_
  replace h := p_ob_inv h
  obtain ⟨V28, he, h⟩ := h
  replace h := p_vi_inv h
  obtain ⟨x28, hv, h⟩ := h
  refine je_get (k := 2) C he rfl in_X7 (by decide) q553 rfl dX7_take_28 31 rfl hv ?_
  refine je_iconst C (1) dX7_take_31 32 rfl ic_1 ?_
  refine je_iadd C dX7_take_32 33 rfl ?_
  replace h := p_ob_inv h
  obtain ⟨V33, he, h⟩ := h
  refine je_put (k := 2) (v := .int (x28 + (1 : Int32))) C he rfl in_X7 tyX7 tyX7_ok nmX7 (by decide) q553 rfl rfl rfl rfl dX7_take_33 36 rfl ?_
  refine jh_lt h ?_
  clear h
  intro t33 h
  refine je_goto C 0 dX7_take_36 rfl ?_
  exact hk0 t33 a0 h
set_option maxHeartbeats 4000000 in
theorem hwX7_take_0 {p : Program} {l : Launch} {e : Env} {s : State} {m : MethodId} {args : Array Value} {below : List Frame} {meth : Method} {c : Code} {G : je_G} {F : Nat} {r9 : hT} (C : Cx p s m args meth c G "MinistryDesks$Reader" cX7_take 1 none) : ∀ (n : Nat) (τ : hT) (a0 : Nat), hbX7_take_0 G F n τ a0 = some r9 → Js p l e ({ frames := 6, cells := 0, slots := 0, locals := 132 } : Room) s m args below meth c G 1 (MQ below (je_Q G none r9.1 (G.2.1 + r9.2)) args s 0 0 (je_A G)) τ.1 (G.2.1 + τ.2) 0 0 0 [(0, .ref (G.2.1 + a0))] [] := by
  intro n
  induction n with
  | zero =>
    intro τ a0 h
    cases h
  | succ n ih =>
    intro τ a0 h
    rw [hbX7_take_0] at h
    refine je_aload_n C dX7_take_0 1 rfl 0 rfl ?_
    refine je_aload_n C dX7_take_1 2 rfl 0 rfl ?_
    replace h := p_ob_inv h
    obtain ⟨V2, he, h⟩ := h
    replace h := p_vi_inv h
    obtain ⟨x2, hv, h⟩ := h
    refine je_get (k := 2) C he rfl in_X7 (by decide) q553 rfl dX7_take_2 5 rfl hv ?_
    replace h := p_ob_inv h
    obtain ⟨V5, he, h⟩ := h
    replace h := p_cl_inv h
    obtain ⟨x5, hg, h⟩ := h
    refine je_callV (As := [.int x2]) (rest := []) (o := (some (.int x5))) C (hmX7_see hg) he rfl hdX7_see rfl cwX7_30 rfl ⟨Nat.le_of_ble_eq_true rfl, Nat.le_of_ble_eq_true rfl⟩ ⟨Nat.le_of_ble_eq_true rfl, Nat.le_of_ble_eq_true rfl⟩ (Nat.le_of_ble_eq_true rfl) dX7_take_5 8 rfl ?_
    refine je_bipush C (10) dX7_take_8 10 rfl bp_10 ?_
    refine je_icmp_eq C 26 dX7_take_10 13 rfl rfl h ?_ ?_
    · clear h
      intro h
      exact hwX7_take_26 C ih τ a0 h
    clear h
    intro h
    refine je_aload_n C dX7_take_13 14 rfl 0 rfl ?_
    refine je_aload_n C dX7_take_14 15 rfl 0 rfl ?_
    replace h := p_ob_inv h
    obtain ⟨V15, he, h⟩ := h
    replace h := p_vi_inv h
    obtain ⟨x15, hv, h⟩ := h
    refine je_get (k := 2) C he rfl in_X7 (by decide) q553 rfl dX7_take_15 18 rfl hv ?_
    replace h := p_ob_inv h
    obtain ⟨V18, he, h⟩ := h
    replace h := p_cl_inv h
    obtain ⟨x18, hg, h⟩ := h
    refine je_callV (As := [.int x15]) (rest := []) (o := (some (.int x18))) C (hmX7_see hg) he rfl hdX7_see rfl cwX7_30 rfl ⟨Nat.le_of_ble_eq_true rfl, Nat.le_of_ble_eq_true rfl⟩ ⟨Nat.le_of_ble_eq_true rfl, Nat.le_of_ble_eq_true rfl⟩ (Nat.le_of_ble_eq_true rfl) dX7_take_18 21 rfl ?_
    refine je_bipush C (32) dX7_take_21 23 rfl bp_32 ?_
    refine je_icmp_ne C 39 dX7_take_23 26 rfl rfl h ?_ ?_
    · clear h
      intro h
      refine je_aload_n C dX7_take_39 40 rfl 0 rfl ?_
      refine je_aload_n C dX7_take_40 41 rfl 0 rfl ?_
      replace h := p_ob_inv h
      obtain ⟨V41, he, h⟩ := h
      replace h := p_vi_inv h
      obtain ⟨x41, hv, h⟩ := h
      refine je_get (k := 2) C he rfl in_X7 (by decide) q553 rfl dX7_take_41 44 rfl hv ?_
      replace h := p_ob_inv h
      obtain ⟨V44, he, h⟩ := h
      refine je_put (k := 5) (v := .int x41) C he rfl in_X7 tyX7 tyX7_ok nmX7 (by decide) q556 rfl rfl rfl rfl dX7_take_44 47 rfl ?_
      refine jh_lt h ?_
      clear h
      intro t44 h
      refine je_aload_n C dX7_take_47 48 rfl 0 rfl ?_
      replace h := p_ob_inv h
      obtain ⟨V48, he, h⟩ := h
      replace h := p_vi_inv h
      obtain ⟨x48, hv, h⟩ := h
      refine je_get (k := 2) C he rfl in_X7 (by decide) q553 rfl dX7_take_48 51 rfl hv ?_
      refine je_aload_n C dX7_take_51 52 rfl 0 rfl ?_
      replace h := p_ob_inv h
      obtain ⟨V52, he, h⟩ := h
      replace h := p_vi_inv h
      obtain ⟨x52, hv, h⟩ := h
      refine je_get (k := 0) C he rfl in_X7 (by decide) q551 rfl dX7_take_52 55 rfl hv ?_
      refine je_icmp_lt C 66 dX7_take_55 58 rfl rfl h ?_ ?_
      · clear h
        intro h
        refine je_aload_n C dX7_take_66 67 rfl 0 rfl ?_
        refine je_aload_n C dX7_take_67 68 rfl 0 rfl ?_
        replace h := p_ob_inv h
        obtain ⟨V68, he, h⟩ := h
        replace h := p_vi_inv h
        obtain ⟨x68, hv, h⟩ := h
        refine je_get (k := 2) C he rfl in_X7 (by decide) q553 rfl dX7_take_68 71 rfl hv ?_
        replace h := p_ob_inv h
        obtain ⟨V71, he, h⟩ := h
        replace h := p_cl_inv h
        obtain ⟨x71, hg, h⟩ := h
        refine je_callV (As := [.int x68]) (rest := []) (o := (some (.int x71))) C (hmX7_isSmall hg) he rfl hdX7_isSmall rfl cwX7_47 rfl ⟨Nat.le_of_ble_eq_true rfl, Nat.le_of_ble_eq_true rfl⟩ ⟨Nat.le_of_ble_eq_true rfl, Nat.le_of_ble_eq_true rfl⟩ (Nat.le_of_ble_eq_true rfl) dX7_take_71 74 rfl ?_
        refine je_if_eq C 84 dX7_take_74 77 rfl rfl h ?_ ?_
        · clear h
          intro h
          refine je_aload_n C dX7_take_84 85 rfl 0 rfl ?_
          refine je_aload_n C dX7_take_85 86 rfl 0 rfl ?_
          replace h := p_ob_inv h
          obtain ⟨V86, he, h⟩ := h
          replace h := p_vi_inv h
          obtain ⟨x86, hv, h⟩ := h
          refine je_get (k := 2) C he rfl in_X7 (by decide) q553 rfl dX7_take_86 89 rfl hv ?_
          replace h := p_ob_inv h
          obtain ⟨V89, he, h⟩ := h
          replace h := p_cl_inv h
          obtain ⟨x89, hg, h⟩ := h
          refine je_callV (As := [.int x86]) (rest := []) (o := (some (.int x89))) C (hmX7_isDigit hg) he rfl hdX7_isDigit rfl cwX7_54 rfl ⟨Nat.le_of_ble_eq_true rfl, Nat.le_of_ble_eq_true rfl⟩ ⟨Nat.le_of_ble_eq_true rfl, Nat.le_of_ble_eq_true rfl⟩ (Nat.le_of_ble_eq_true rfl) dX7_take_89 92 rfl ?_
          refine je_if_eq C 102 dX7_take_92 95 rfl rfl h ?_ ?_
          · clear h
            intro h
            refine je_aload_n C dX7_take_102 103 rfl 0 rfl ?_
            replace h := p_ob_inv h
            obtain ⟨V103, he, h⟩ := h
            replace h := p_cl_inv h
            obtain ⟨u103, hg, h⟩ := h
            refine je_callV (As := []) (rest := []) (o := none) C (hmX7_takeSign hg) he rfl hdX7_takeSign rfl cwX7_60 rfl ⟨Nat.le_of_ble_eq_true rfl, Nat.le_of_ble_eq_true rfl⟩ ⟨Nat.le_of_ble_eq_true rfl, Nat.le_of_ble_eq_true rfl⟩ (Nat.le_of_ble_eq_true rfl) dX7_take_103 106 rfl ?_
            refine jh_lt (t0 := u103) h ?_
            clear h
            intro t103 h
            cases h
            exact je_vret C dX7_take_106
          clear h
          intro h
          refine je_aload_n C dX7_take_95 96 rfl 0 rfl ?_
          replace h := p_ob_inv h
          obtain ⟨V96, he, h⟩ := h
          replace h := p_cl_inv h
          obtain ⟨u96, hg, h⟩ := h
          refine je_callV (As := []) (rest := []) (o := none) C (hmX7_takeNumber hg) he rfl hdX7_takeNumber rfl cwX7_57 rfl ⟨Nat.le_of_ble_eq_true rfl, Nat.le_of_ble_eq_true rfl⟩ ⟨Nat.le_of_ble_eq_true rfl, Nat.le_of_ble_eq_true rfl⟩ (Nat.le_of_ble_eq_true rfl) dX7_take_96 99 rfl ?_
          refine jh_lt (t0 := u96) h ?_
          clear h
          intro t96 h
          refine je_goto C 106 dX7_take_99 rfl ?_
          cases h
          exact je_vret C dX7_take_106
        clear h
        intro h
        refine je_aload_n C dX7_take_77 78 rfl 0 rfl ?_
        replace h := p_ob_inv h
        obtain ⟨V78, he, h⟩ := h
        replace h := p_cl_inv h
        obtain ⟨u78, hg, h⟩ := h
        refine je_callV (As := []) (rest := []) (o := none) C (hmX7_takeWord hg) he rfl hdX7_takeWord rfl cwX7_51 rfl ⟨Nat.le_of_ble_eq_true rfl, Nat.le_of_ble_eq_true rfl⟩ ⟨Nat.le_of_ble_eq_true rfl, Nat.le_of_ble_eq_true rfl⟩ (Nat.le_of_ble_eq_true rfl) dX7_take_78 81 rfl ?_
        refine jh_lt (t0 := u78) h ?_
        clear h
        intro t78 h
        refine je_goto C 106 dX7_take_81 rfl ?_
        cases h
        exact je_vret C dX7_take_106
      clear h
      intro h
      refine je_aload_n C dX7_take_58 59 rfl 0 rfl ?_
      refine je_iconst C (0) dX7_take_59 60 rfl ic_0 ?_
      replace h := p_ob_inv h
      obtain ⟨V60, he, h⟩ := h
      refine je_put (k := 3) (v := .int (0 : Int32)) C he rfl in_X7 tyX7 tyX7_ok nmX7 (by decide) q554 rfl rfl rfl rfl dX7_take_60 63 rfl ?_
      refine jh_lt h ?_
      clear h
      intro t60 h
      refine je_goto C 106 dX7_take_63 rfl ?_
      cases h
      exact je_vret C dX7_take_106
    clear h
    intro h
    exact hwX7_take_26 C ih τ a0 h
set_option maxHeartbeats 4000000 in
theorem hmX7_take {l : Launch} {G : je_G} {F : Nat} {τ : hT} {a0 : Nat} {r9 : hT} (h : hX7_take G F τ a0 = some r9) : MetS l G yX7_take cX7_take 1 none 6 132 0 0 [.ref (G.2.1 + a0)] τ.1 (G.2.1 + τ.2) none r9.1 (G.2.1 + r9.2) := by
  refine je_met "MinistryDesks$Reader" rfl (by decide +kernel) (Nat.le_of_ble_eq_true rfl) [(0, .ref (G.2.1 + a0))] rfl (fun p e s m args below meth c C => ?_)
  unfold hX7_take at h
  exact hwX7_take_0 C F τ a0 h
theorem hoJ9_1 : Cond.methodLink "java/lang/Throwable" 1 Lib.objectInit ∈ lw_all ∧ Cond.instanceMethod Lib.objectInit ∈ lw_all ∧ Cond.code Lib.objectInit ⟨#[0xb1]⟩ 1 none ∈ lw_all := ⟨q751, q209, q210⟩
set_option maxHeartbeats 4000000 in
theorem hwJ9_init_2_X8_41 {p : Program} {l : Launch} {e : Env} {s : State} {m : MethodId} {args : Array Value} {below : List Frame} {meth : Method} {c : Code} {G : je_G} {r9 : hT} (C : Cx p s m args meth c G "java/lang/Throwable" cJ9_init_2 5 none) (hI : meth.name = "<init>") (τ : hT) (a0 : Nat) (q1 : Option Nat) (q2 : Option Nat) (v3 : Int32) (h : hbJ9_init_2_X8_41 G τ a0 q1 q2 v3 = some r9) : Js p l e ({ frames := 1, cells := 0, slots := 0, locals := 20 } : Room) s m args below meth c G 5 (MQ below (je_Q G none r9.1 (G.2.1 + r9.2)) args s 0 0 (je_A G)) τ.1 (G.2.1 + τ.2) 0 0 41 [(0, .ref (G.2.1 + a0)), (1, va_rf q1), (2, va_rf q2), (3, .int v3)] [] := by
  unfold hbJ9_init_2_X8_41 at h
  refine je_aload_n C dJ9_init_2_41 42 rfl 0 rfl ?_
  refine je_aloadR_n C dJ9_init_2_42 43 rfl 1 rfl ?_
  replace h := p_ob_inv h
  obtain ⟨V43, he, h⟩ := h
  refine je_put (k := 3) (v := va_rf q1) C he rfl in_X8 tyX8 tyX8_ok nmX8 (by decide) q782 rfl rfl je_refnar je_reffit dJ9_init_2_43 46 rfl ?_
  refine jh_lt h ?_
  clear h
  intro t43 h
  refine je_aload_n C dJ9_init_2_46 47 rfl 0 rfl ?_
  refine je_aloadR_n C dJ9_init_2_47 48 rfl 2 rfl ?_
  replace h := p_ob_inv h
  obtain ⟨V48, he, h⟩ := h
  refine je_put (k := 0) (v := va_rf q2) C he rfl in_X8 tyX8 tyX8_ok nmX8 (by decide) q783 rfl rfl je_refnar je_reffit dJ9_init_2_48 51 rfl ?_
  refine jh_lt h ?_
  clear h
  intro t48 h
  refine je_iload_n C dJ9_init_2_51 52 rfl 3 rfl ?_
  refine je_if_ne C 60 dJ9_init_2_52 55 rfl rfl h ?_ ?_
  · clear h
    intro h
    cases h
    exact je_vret C dJ9_init_2_60
  clear h
  intro h
  refine je_aload_n C dJ9_init_2_55 56 rfl 0 rfl ?_
  refine je_null C dJ9_init_2_56 57 rfl ?_
  replace h := p_ob_inv h
  obtain ⟨V57, he, h⟩ := h
  refine je_put (k := 2) (v := va_rf none) C he rfl in_X8 tyX8 tyX8_ok nmX8 (by decide) q785 rfl rfl je_refnar je_reffit dJ9_init_2_57 60 rfl ?_
  refine jh_lt h ?_
  clear h
  intro t57 h
  cases h
  exact je_vret C dJ9_init_2_60
set_option maxHeartbeats 4000000 in
theorem hmJ9_init_2_X8 {l : Launch} {G : je_G} {τ : hT} {a0 : Nat} {q1 : Option Nat} {q2 : Option Nat} {v3 : Int32} {v4 : Int32} {r9 : hT} (h : hJ9_init_2_X8 G τ a0 q1 q2 v3 v4 = some r9) : MetS l G yJ9_init_2 cJ9_init_2 5 none 1 20 0 0 [.ref (G.2.1 + a0), va_rf q1, va_rf q2, .int v3, .int v4] τ.1 (G.2.1 + τ.2) none r9.1 (G.2.1 + r9.2) := by
  refine je_metI "java/lang/Throwable" rfl (by decide +kernel) rfl (by cases q1 <;> cases q2 <;> exact Nat.le_of_ble_eq_true rfl) [(0, .ref (G.2.1 + a0)), (1, va_rf q1), (2, va_rf q2), (3, .int v3), (4, .int v4)] (by cases q1 <;> cases q2 <;> rfl) (fun p e s m args below meth c C hI => ?_)
  unfold hJ9_init_2_X8 at h
  refine je_aload_n C dJ9_init_2_0 1 rfl 0 rfl ?_
  refine je_obji C hoJ9_1 ⟨Nat.le_of_ble_eq_true rfl, Nat.le_of_ble_eq_true rfl⟩ (Nat.le_of_ble_eq_true rfl) dJ9_init_2_1 4 rfl ?_
  refine je_aload_n C dJ9_init_2_4 5 rfl 0 rfl ?_
  refine je_aload_n C dJ9_init_2_5 6 rfl 0 rfl ?_
  replace h := p_ob_inv h
  obtain ⟨V6, he, h⟩ := h
  refine je_put (k := 0) (v := .ref (G.2.1 + a0)) C he rfl in_X8 tyX8 tyX8_ok nmX8 (by decide) q783 rfl rfl rfl rfl dJ9_init_2_6 9 rfl ?_
  refine jh_lt h ?_
  clear h
  intro t6 h
  refine je_aload_n C dJ9_init_2_9 10 rfl 0 rfl ?_
  refine je_gets C (je_zUS C.2.2.2.2.2.2.2.2) q752 rfl dJ9_init_2_10 13 rfl ?_
  replace h := p_ob_inv h
  obtain ⟨V13, he, h⟩ := h
  refine je_put (k := 1) (v := va_rf (G.2.2.2.2 0)) C he rfl in_X8 tyX8 tyX8_ok nmX8 (by decide) q784 rfl rfl je_refnarA je_reffitA dJ9_init_2_13 16 rfl ?_
  refine jh_lt h ?_
  clear h
  intro t13 h
  refine je_aload_n C dJ9_init_2_16 17 rfl 0 rfl ?_
  refine je_gets C (je_zSS C.2.2.2.2.2.2.2.2) q754 rfl dJ9_init_2_17 20 rfl ?_
  replace h := p_ob_inv h
  obtain ⟨V20, he, h⟩ := h
  refine je_put (k := 2) (v := va_rf (G.2.2.2.2 1)) C he rfl in_X8 tyX8 tyX8_ok nmX8 (by decide) q785 rfl rfl je_refnar je_reffit dJ9_init_2_20 23 rfl ?_
  refine jh_lt h ?_
  clear h
  intro t20 h
  refine je_iload C dJ9_init_2_23 25 rfl 4 rfl ?_
  refine je_if_eq C 36 dJ9_init_2_25 28 rfl rfl h ?_ ?_
  · clear h
    intro h
    refine je_aload_n C dJ9_init_2_36 37 rfl 0 rfl ?_
    refine je_null C dJ9_init_2_37 38 rfl ?_
    replace h := p_ob_inv h
    obtain ⟨V38, he, h⟩ := h
    refine je_put (k := 1) (v := va_rf none) C he rfl in_X8 tyX8 tyX8_ok nmX8 (by decide) q784 rfl rfl je_refnarA je_reffitA dJ9_init_2_38 41 rfl ?_
    refine jh_lt h ?_
    clear h
    intro t38 h
    refine je_sub [0, 1, 2, 3] [(0, .ref (G.2.1 + a0)), (1, va_rf q1), (2, va_rf q2), (3, .int v3)] rfl ?_
    exact hwJ9_init_2_X8_41 C hI t38 a0 q1 q2 v3 h
  clear h
  intro h
  refine je_aload_n C dJ9_init_2_28 29 rfl 0 rfl ?_
  cases h
theorem hdJ9_init_2 : je_hd yJ9_init_2 4 := ⟨by decide +kernel, by decide +kernel, by decide +kernel⟩
theorem ccJ10_16 : Cond.methodLink "java/lang/Exception" 16 yJ9_init_2 ∈ lw_all ∧ Cond.instanceMethod yJ9_init_2 ∈ lw_all ∧ Cond.initialized yJ9_init_2.cls ∈ lw_all ∧ Cond.code yJ9_init_2 cJ9_init_2 5 none ∈ lw_all := ⟨q774, q775, q177, q776⟩
set_option maxHeartbeats 4000000 in
theorem hmJ10_init_X8 {l : Launch} {G : je_G} {τ : hT} {a0 : Nat} {q1 : Option Nat} {q2 : Option Nat} {v3 : Int32} {v4 : Int32} {r9 : hT} (h : hJ10_init_X8 G τ a0 q1 q2 v3 v4 = some r9) : MetS l G yJ10_init cJ10_init 5 none 2 44 0 0 [.ref (G.2.1 + a0), va_rf q1, va_rf q2, .int v3, .int v4] τ.1 (G.2.1 + τ.2) none r9.1 (G.2.1 + r9.2) := by
  refine je_metI "java/lang/Exception" rfl (by decide +kernel) rfl (by cases q1 <;> cases q2 <;> exact Nat.le_of_ble_eq_true rfl) [(0, .ref (G.2.1 + a0)), (1, va_rf q1), (2, va_rf q2), (3, .int v3), (4, .int v4)] (by cases q1 <;> cases q2 <;> rfl) (fun p e s m args below meth c C hI => ?_)
  unfold hJ10_init_X8 at h
  refine je_aload_n C dJ10_init_0 1 rfl 0 rfl ?_
  refine je_aloadR_n C dJ10_init_1 2 rfl 1 rfl ?_
  refine je_aloadR_n C dJ10_init_2 3 rfl 2 rfl ?_
  refine je_iload_n C dJ10_init_3 4 rfl 3 rfl ?_
  refine je_iload C dJ10_init_4 6 rfl 4 rfl ?_
  replace h := p_cl_inv h
  obtain ⟨u6, hg, h⟩ := h
  refine je_callI (As := [va_rf q1, va_rf q2, .int v3, .int v4]) (rest := []) C (hmJ9_init_2_X8 hg) hdJ9_init_2 rfl ccJ10_16 rfl ⟨Nat.le_of_ble_eq_true rfl, Nat.le_of_ble_eq_true rfl⟩ ⟨Nat.le_of_ble_eq_true rfl, Nat.le_of_ble_eq_true rfl⟩ (Nat.le_of_ble_eq_true rfl) dJ10_init_6 9 rfl ?_
  refine jh_lt (t0 := u6) h ?_
  clear h
  intro t6 h
  cases h
  exact je_vret C dJ10_init_9
theorem hdJ10_init : je_hd yJ10_init 4 := ⟨by decide +kernel, by decide +kernel, by decide +kernel⟩
theorem ccX8_1 : Cond.methodLink "MinistryDesks$Fault" 1 yJ10_init ∈ lw_all ∧ Cond.instanceMethod yJ10_init ∈ lw_all ∧ Cond.initialized yJ10_init.cls ∈ lw_all ∧ Cond.code yJ10_init cJ10_init 5 none ∈ lw_all := ⟨q771, q772, q178, q773⟩
set_option maxHeartbeats 4000000 in
theorem hmX8_init {l : Launch} {G : je_G} {τ : hT} {a0 : Nat} {v1 : Int32} {v2 : Int32} {r9 : hT} (h : hX8_init G τ a0 v1 v2 = some r9) : MetS l G yX8_init cX8_init 3 none 3 68 0 0 [.ref (G.2.1 + a0), .int v1, .int v2] τ.1 (G.2.1 + τ.2) none r9.1 (G.2.1 + r9.2) := by
  refine je_metI "MinistryDesks$Fault" rfl (by decide +kernel) rfl (Nat.le_of_ble_eq_true rfl) [(0, .ref (G.2.1 + a0)), (1, .int v1), (2, .int v2)] rfl (fun p e s m args below meth c C hI => ?_)
  unfold hX8_init at h
  refine je_aload_n C dX8_init_0 1 rfl 0 rfl ?_
  refine je_null C dX8_init_1 2 rfl ?_
  refine je_null C dX8_init_2 3 rfl ?_
  refine je_iconst C (0) dX8_init_3 4 rfl ic_0 ?_
  refine je_iconst C (0) dX8_init_4 5 rfl ic_0 ?_
  replace h := p_cl_inv h
  obtain ⟨u5, hg, h⟩ := h
  refine je_callI (As := [va_rf none, va_rf none, .int (0 : Int32), .int (0 : Int32)]) (rest := []) C (hmJ10_init_X8 hg) hdJ10_init rfl ccX8_1 rfl ⟨Nat.le_of_ble_eq_true rfl, Nat.le_of_ble_eq_true rfl⟩ ⟨Nat.le_of_ble_eq_true rfl, Nat.le_of_ble_eq_true rfl⟩ (Nat.le_of_ble_eq_true rfl) dX8_init_5 8 rfl ?_
  refine jh_lt (t0 := u5) h ?_
  clear h
  intro t5 h
  refine je_aload_n C dX8_init_8 9 rfl 0 rfl ?_
  refine je_iload_n C dX8_init_9 10 rfl 1 rfl ?_
  replace h := p_ob_inv h
  obtain ⟨V10, he, h⟩ := h
  refine je_putF (k := 6) (v := .int v1) C hI he rfl in_X8 tyX8 tyX8_ok nmX8 (by decide) q777 rfl rfl rfl rfl rfl dX8_init_10 13 rfl ?_
  refine jh_lt h ?_
  clear h
  intro t10 h
  refine je_aload_n C dX8_init_13 14 rfl 0 rfl ?_
  refine je_iload_n C dX8_init_14 15 rfl 2 rfl ?_
  replace h := p_ob_inv h
  obtain ⟨V15, he, h⟩ := h
  refine je_putF (k := 7) (v := .int v2) C hI he rfl in_X8 tyX8 tyX8_ok nmX8 (by decide) q779 rfl rfl rfl rfl rfl dX8_init_15 18 rfl ?_
  refine jh_lt h ?_
  clear h
  intro t15 h
  cases h
  exact je_vret C dX8_init_18
theorem hdX8_init : je_hd yX8_init 2 := ⟨by decide +kernel, by decide +kernel, by decide +kernel⟩
theorem ccX7_96 : Cond.methodLink "MinistryDesks$Reader" 96 yX8_init ∈ lw_all ∧ Cond.instanceMethod yX8_init ∈ lw_all ∧ Cond.initialized yX8_init.cls ∈ lw_all ∧ Cond.code yX8_init cX8_init 3 none ∈ lw_all := ⟨q768, q769, q179, q770⟩
set_option maxHeartbeats 4000000 in
theorem hmX7_wrong {l : Launch} {G : je_G} {τ : hT} {a0 : Nat} {r9 : Option Nat × hT} (h : hX7_wrong G τ a0 = some r9) : MetS l G yX7_wrong cX7_wrong 1 (some (.object "MinistryDesks$Fault")) 4 90 1 8 [.ref (G.2.1 + a0)] τ.1 (G.2.1 + τ.2) (some (va_rf r9.1)) r9.2.1 (G.2.1 + r9.2.2) := by
  refine je_met "MinistryDesks$Reader" rfl (by decide +kernel) (Nat.le_of_ble_eq_true rfl) [(0, .ref (G.2.1 + a0))] rfl (fun p e s m args below meth c C => ?_)
  unfold hX7_wrong at h
  refine je_new C (ci := 19) rfl in_X8 tyX8 tyX8_ok q728 q729 q179 rfl (Nat.le_of_ble_eq_true rfl) (Nat.le_of_ble_eq_true rfl) dX7_wrong_0 3 rfl ?_
  refine je_ltr h ?_
  clear h
  intro b0 h
  refine jh_lt h ?_
  clear h
  intro t0 h
  refine je_dup C dX7_wrong_3 4 rfl rfl ?_
  refine je_iconst C (1) dX7_wrong_4 5 rfl ic_1 ?_
  refine je_aload_n C dX7_wrong_5 6 rfl 0 rfl ?_
  replace h := p_ob_inv h
  obtain ⟨V6, he, h⟩ := h
  replace h := p_vi_inv h
  obtain ⟨x6, hv, h⟩ := h
  refine je_get (k := 5) C he rfl in_X7 (by decide) q556 rfl dX7_wrong_6 9 rfl hv ?_
  replace h := p_cl_inv h
  obtain ⟨u9, hg, h⟩ := h
  refine je_callI (As := [.int (1 : Int32), .int x6]) (rest := [.ref (G.2.1 + b0)]) C (hmX8_init hg) hdX8_init rfl ccX7_96 rfl ⟨Nat.le_of_ble_eq_true rfl, Nat.le_of_ble_eq_true rfl⟩ ⟨Nat.le_of_ble_eq_true rfl, Nat.le_of_ble_eq_true rfl⟩ (Nat.le_of_ble_eq_true rfl) dX7_wrong_9 12 rfl ?_
  refine jh_lt (t0 := u9) h ?_
  clear h
  intro t9 h
  cases h
  exact je_aret (x := (some (G.2.1 + b0))) C dX7_wrong_12
set_option maxHeartbeats 4000000 in
theorem hmJ2_size {l : Launch} {G : je_G} {τ : hT} {a0 : Nat} {r9 : Int32} (h : hJ2_size G τ a0 = some r9) : MetS l G yJ2_size cJ2_size 1 (some .int) 0 0 0 0 [.ref (G.2.1 + a0)] τ.1 (G.2.1 + τ.2) (some (.int r9)) τ.1 (G.2.1 + τ.2) := by
  refine je_met "java/util/ArrayList" rfl (by decide +kernel) (Nat.le_of_ble_eq_true rfl) [(0, .ref (G.2.1 + a0))] rfl (fun p e s m args below meth c C => ?_)
  unfold hJ2_size at h
  refine je_aload_n C dJ2_size_0 1 rfl 0 rfl ?_
  replace h := p_ob_inv h
  obtain ⟨V1, he, h⟩ := h
  replace h := p_vi_inv h
  obtain ⟨x1, hv, h⟩ := h
  refine je_get (k := 2) C he rfl in_J2 (by decide) q232 rfl dJ2_size_1 4 rfl hv ?_
  cases h
  exact je_iret C dJ2_size_4
set_option maxHeartbeats 4000000 in
theorem hmX7_much {l : Launch} {G : je_G} {τ : hS} {a0 : Nat} {v1 : Int32} {r9 : (Nat × hS) ⊕ (Unit × hS)} (h : hX7_much G τ a0 v1 = some r9) : MetX l G yX7_much cX7_much 2 none 4 90 [.ref (G.2.1 + a0), .int v1] τ (xV r9) := by
  by_cases hDC : τ.2.2 ≤ DC
  · refine jx_met "MinistryDesks$Reader" rfl (by decide +kernel) (Nat.le_of_ble_eq_true rfl) [(0, .ref (G.2.1 + a0)), (1, .int v1)] rfl (fun p e s m args below meth c C hnt => ?_)
    have hc : τ.2.2 + 0 = τ.2.2 ∧ τ.2.2 ≤ DC := ⟨rfl, hDC⟩
    unfold hX7_much at h
    obtain ⟨-, h⟩ := p_pr_inv h
    refine je_widen 0 (64 * 0) (Nat.le_refl _) (Nat.le_refl _) ?_
    refine je_iload_n C dX7_much_0 1 rfl 1 rfl ?_
    refine je_if_eq C 17 dX7_much_1 4 rfl rfl h ?_ ?_
    · clear h
      intro h
      cases h
      exact jx_ret hc.1 (Nat.le_refl _) (je_vret C dX7_much_17)
    clear h
    intro h
    replace h := p_pr_inv h
    obtain ⟨hb, h⟩ := h
    refine je_new C (ci := 19) rfl in_X8 tyX8 tyX8_ok q728 q729 q179 rfl (jx_f1 (k := 1) hc hb) (jx_f2 (k := 1) (n := 8) hc hb (Nat.le_of_ble_eq_true rfl)) dX7_much_4 7 rfl ?_
    refine je_widen (0 + 1) (64 * (0 + 1)) (Nat.le_refl _) (jx_f3 (Nat.le_of_ble_eq_true rfl)) ?_
    refine je_ltr h ?_
    clear h
    intro b4 h
    refine jx_lt h ?_
    clear h
    intro t4 e2 h
    replace hc : τ.2.2 + (0 + 1) = t4.2.2 ∧ t4.2.2 ≤ DC := jx_f4 (k := 1) e2 hc hb
    clear e2 hb
    refine je_dup C dX7_much_7 8 rfl rfl ?_
    refine je_iconst C (2) dX7_much_8 9 rfl ic_2 ?_
    refine je_aload_n C dX7_much_9 10 rfl 0 rfl ?_
    replace h := p_ob_inv h
    obtain ⟨V10, he, h⟩ := h
    replace h := p_vi_inv h
    obtain ⟨x10, hv, h⟩ := h
    refine je_get (k := 5) C he rfl in_X7 (by decide) q556 rfl dX7_much_10 13 rfl hv ?_
    replace h := p_cl_inv h
    obtain ⟨u13, hg, h⟩ := h
    refine je_callI (As := [.int (2 : Int32), .int x10]) (rest := [.ref (G.2.1 + b4)]) C (hmX8_init hg) hdX8_init rfl ccX7_96 rfl ⟨Nat.le_of_ble_eq_true rfl, Nat.le_of_ble_eq_true rfl⟩ ⟨jx_f1 (k := 0) hc hc.2, jx_f2 (k := 0) (n := 0) hc hc.2 (Nat.le_of_ble_eq_true rfl)⟩ (Nat.le_of_ble_eq_true rfl) dX7_much_13 16 rfl ?_
    refine je_widen (0 + 1) (64 * (0 + 1)) (Nat.le_refl _) (jx_f30 (Nat.le_of_ble_eq_true rfl)) ?_
    refine jx_lt (t0 := x_of u13 (t4.2.2 + 0)) h ?_
    clear h
    intro t13 e2 h
    replace hc : τ.2.2 + (0 + 1) = t13.2.2 ∧ t13.2.2 ≤ DC := jx_f80 (k := 0) e2 hc hc.2
    clear e2 hg
    replace h := p_ob_inv h
    obtain ⟨V16, he, h⟩ := h
    cases h
    exact jx_athrow C hnt he rfl hc.1 (Nat.le_refl _) dX7_much_16
  · unfold hX7_much at h
    exact absurd (p_pr_inv h).1 hDC
theorem hdX7_wrong : je_hd yX7_wrong 0 := ⟨by decide +kernel, by decide +kernel, by decide +kernel⟩
theorem cwX7_99 : GoodIn lw_all (wsV "MinistryDesks$Reader" 99 "MinistryDesks$Reader" yX7_wrong (ws_ yX7_wrong cX7_wrong 1 (some (.object "MinistryDesks$Fault")))) := lw_V q724 q726 qs9 q170 q727
set_option maxHeartbeats 4000000 in
theorem hmX7_name {l : Launch} {G : je_G} {τ : hS} {a0 : Nat} {r9 : (Nat × hS) ⊕ (Int32 × hS)} (h : hX7_name G τ a0 = some r9) : MetX l G yX7_name cX7_name 1 (some .int) 5 110 [.ref (G.2.1 + a0)] τ (xI r9) := by
  by_cases hDC : τ.2.2 ≤ DC
  · refine jx_met "MinistryDesks$Reader" rfl (by decide +kernel) (Nat.le_of_ble_eq_true rfl) [(0, .ref (G.2.1 + a0))] rfl (fun p e s m args below meth c C hnt => ?_)
    have hc : τ.2.2 + 0 = τ.2.2 ∧ τ.2.2 ≤ DC := ⟨rfl, hDC⟩
    unfold hX7_name at h
    obtain ⟨-, h⟩ := p_pr_inv h
    refine je_widen 0 (64 * 0) (Nat.le_refl _) (Nat.le_refl _) ?_
    refine je_aload_n C dX7_name_0 1 rfl 0 rfl ?_
    replace h := p_ob_inv h
    obtain ⟨V1, he, h⟩ := h
    replace h := p_vi_inv h
    obtain ⟨x1, hv, h⟩ := h
    refine je_get (k := 3) C he rfl in_X7 (by decide) q554 rfl dX7_name_1 4 rfl hv ?_
    refine je_iconst C (2) dX7_name_4 5 rfl ic_2 ?_
    refine je_icmp_eq C 13 dX7_name_5 8 rfl rfl h ?_ ?_
    · clear h
      intro h
      refine je_aload_n C dX7_name_13 14 rfl 0 rfl ?_
      replace h := p_ob_inv h
      obtain ⟨V14, he, h⟩ := h
      replace h := p_vi_inv h
      obtain ⟨x14, hv, h⟩ := h
      refine je_get (k := 4) C he rfl in_X7 (by decide) q555 rfl dX7_name_14 17 rfl hv ?_
      cases h
      exact jx_ret hc.1 (Nat.le_refl _) (je_iret C dX7_name_17)
    clear h
    intro h
    refine je_aload_n C dX7_name_8 9 rfl 0 rfl ?_
    replace h := p_ob_inv h
    obtain ⟨V9, he, h⟩ := h
    replace h := p_pr_inv h
    obtain ⟨hb, h⟩ := h
    replace h := p_cl_inv h
    obtain ⟨u9, hg, h⟩ := h
    refine je_callV (As := []) (rest := []) (o := (some (va_rf u9.1))) C (hmX7_wrong hg) he rfl hdX7_wrong rfl cwX7_99 rfl ⟨Nat.le_of_ble_eq_true rfl, Nat.le_of_ble_eq_true rfl⟩ ⟨jx_f1 (k := 1) hc hb, jx_f2 (k := 1) (n := 8) hc hb (Nat.le_of_ble_eq_true rfl)⟩ (Nat.le_of_ble_eq_true rfl) dX7_name_9 12 rfl ?_
    refine je_widen (0 + 1) (64 * (0 + 1)) (Nat.le_refl _) (jx_f3 (Nat.le_of_ble_eq_true rfl)) ?_
    refine je_ltq (x := u9.1) (st := []) h ?_
    clear h
    intro x9 h
    refine jx_lt (t0 := x_of u9.2 (τ.2.2 + 1)) h ?_
    clear h
    intro t9 e2 h
    replace hc : τ.2.2 + (0 + 1) = t9.2.2 ∧ t9.2.2 ≤ DC := jx_f8 (k := 1) e2 hc hb
    clear e2 hg hb
    obtain ⟨j12, hj9, h8⟩ := p_at_inv h
    clear h
    subst hj9
    have h := h8
    clear h8
    replace h := p_ob_inv h
    obtain ⟨V12, he, h⟩ := h
    cases h
    exact jx_athrow C hnt he rfl hc.1 (Nat.le_refl _) dX7_name_12
  · unfold hX7_name at h
    exact absurd (p_pr_inv h).1 hDC
set_option maxHeartbeats 4000000 in
theorem hmJ2_elementData {l : Launch} {G : je_G} {τ : hT} {a0 : Nat} {v1 : Int32} {r9 : Option Nat} (h : hJ2_elementData G τ a0 v1 = some r9) : MetS l G yJ2_elementData cJ2_elementData 2 (some (.object "java/lang/Object")) 0 0 0 0 [.ref (G.2.1 + a0), .int v1] τ.1 (G.2.1 + τ.2) (some (va_rf r9)) τ.1 (G.2.1 + τ.2) := by
  refine je_met "java/util/ArrayList" rfl (by decide +kernel) (Nat.le_of_ble_eq_true rfl) [(0, .ref (G.2.1 + a0)), (1, .int v1)] rfl (fun p e s m args below meth c C => ?_)
  unfold hJ2_elementData at h
  refine je_aload_n C dJ2_elementData_0 1 rfl 0 rfl ?_
  replace h := p_ob_inv h
  obtain ⟨V1, he, h⟩ := h
  replace h := p_vr_inv h
  obtain ⟨x1, hv, h⟩ := h
  refine je_get (k := 1) C he rfl in_J2 (by decide) q231 rfl dJ2_elementData_1 4 rfl hv ?_
  refine je_iload_n C dJ2_elementData_4 5 rfl 1 rfl ?_
  obtain ⟨j5, hj9, h8⟩ := p_at_inv h
  clear h
  subst hj9
  have h := h8
  clear h8
  replace h := p_aO_inv h
  obtain ⟨n5, f5, he, h⟩ := h
  replace h := p_ck_inv h
  obtain ⟨hin, h⟩ := h
  refine je_aald C he hin dJ2_elementData_5 6 rfl ?_
  refine je_ltq h ?_
  clear h
  intro x5 h
  cases h
  exact je_aret C dJ2_elementData_6
theorem hdJ11_checkIndex : je_hd yJ11_checkIndex 2 := ⟨by decide +kernel, by decide +kernel, by decide +kernel⟩
theorem hdJ2_elementData : je_hd yJ2_elementData 1 := ⟨by decide +kernel, by decide +kernel, by decide +kernel⟩
theorem cwJ2_118 : GoodIn lw_all (va_wsS "java/util/ArrayList" 118 yJ11_checkIndex (ws_ yJ11_checkIndex cJ11_checkIndex 2 (some .int))) := lw_S q823 q824 q180 q825
theorem cwJ2_123 : GoodIn lw_all (wsV "java/util/ArrayList" 123 "java/util/ArrayList" yJ2_elementData (ws_ yJ2_elementData cJ2_elementData 2 (some (.object "java/lang/Object")))) := lw_V q827 q828 q829 q165 q830
set_option maxHeartbeats 4000000 in
theorem hmJ2_get {l : Launch} {G : je_G} {τ : hT} {a0 : Nat} {v1 : Int32} {r9 : Option Nat} (h : hJ2_get G τ a0 v1 = some r9) : MetS l G yJ2_get cJ2_get 2 (some (.object "java/lang/Object")) 2 43 0 0 [.ref (G.2.1 + a0), .int v1] τ.1 (G.2.1 + τ.2) (some (va_rf r9)) τ.1 (G.2.1 + τ.2) := by
  refine je_met "java/util/ArrayList" rfl (by decide +kernel) (Nat.le_of_ble_eq_true rfl) [(0, .ref (G.2.1 + a0)), (1, .int v1)] rfl (fun p e s m args below meth c C => ?_)
  unfold hJ2_get at h
  refine je_iload_n C dJ2_get_0 1 rfl 1 rfl ?_
  refine je_aload_n C dJ2_get_1 2 rfl 0 rfl ?_
  replace h := p_ob_inv h
  obtain ⟨V2, he, h⟩ := h
  replace h := p_vi_inv h
  obtain ⟨x2, hv, h⟩ := h
  refine je_get (k := 2) C he rfl in_J2 (by decide) q232 rfl dJ2_get_2 5 rfl hv ?_
  replace h := p_cl_inv h
  obtain ⟨t5, hg, h⟩ := h
  refine je_callSi (As := [.int v1, .int x2]) (rest := []) C (metJ11_checkIndex hg) hdJ11_checkIndex cwJ2_118 rfl ⟨Nat.le_of_ble_eq_true rfl, Nat.le_of_ble_eq_true rfl⟩ (Nat.le_of_ble_eq_true rfl) dJ2_get_5 8 rfl ⟨Nat.le_of_ble_eq_true rfl, Nat.le_of_ble_eq_true rfl⟩ ?_
  refine je_pop C dJ2_get_8 9 rfl rfl ?_
  refine je_aload_n C dJ2_get_9 10 rfl 0 rfl ?_
  refine je_iload_n C dJ2_get_10 11 rfl 1 rfl ?_
  replace h := p_ob_inv h
  obtain ⟨V11, he, h⟩ := h
  replace h := p_cl_inv h
  obtain ⟨x11, hg, h⟩ := h
  refine je_callV (As := [.int v1]) (rest := []) (o := (some (va_rf x11))) C (hmJ2_elementData hg) he rfl hdJ2_elementData rfl cwJ2_123 rfl ⟨Nat.le_of_ble_eq_true rfl, Nat.le_of_ble_eq_true rfl⟩ ⟨Nat.le_of_ble_eq_true rfl, Nat.le_of_ble_eq_true rfl⟩ (Nat.le_of_ble_eq_true rfl) dJ2_get_11 14 rfl ?_
  cases h
  exact je_aret C dJ2_get_14
theorem hdJ2_get : je_hd yJ2_get 1 := ⟨by decide +kernel, by decide +kernel, by decide +kernel⟩
theorem hdJ2_size : je_hd yJ2_size 0 := ⟨by decide +kernel, by decide +kernel, by decide +kernel⟩
set_option maxHeartbeats 4000000 in
theorem hwX2_desk_2 {p : Program} {l : Launch} {e : Env} {s : State} {m : MethodId} {args : Array Value} {below : List Frame} {meth : Method} {c : Code} {G : je_G} {F : Nat} {τ : hT} {r9 : Int32} (C : Cx p s m args meth c G "MinistryDesks$House" cX2_desk 3 (some .int)) : ∀ (n : Nat) (a0 : Nat) (v1 : Int32) (v2 : Int32), hbX2_desk_2 G F n τ a0 v1 v2 = some r9 → Js p l e ({ frames := 3, cells := 0, slots := 0, locals := 64 } : Room) s m args below meth c G 3 (MQ below (je_Q G (some (.int r9)) τ.1 (G.2.1 + τ.2)) args s 0 0 (je_A G)) τ.1 (G.2.1 + τ.2) 0 0 2 [(0, .ref (G.2.1 + a0)), (1, .int v1), (2, .int v2)] [] := by
  intro n
  induction n with
  | zero =>
    intro a0 v1 v2 h
    cases h
  | succ n ih =>
    intro a0 v1 v2 h
    rw [hbX2_desk_2] at h
    refine je_iload_n C dX2_desk_2 3 rfl 2 rfl ?_
    refine je_aload_n C dX2_desk_3 4 rfl 0 rfl ?_
    replace h := p_ob_inv h
    obtain ⟨V4, he, h⟩ := h
    replace h := p_vr_inv h
    obtain ⟨x4, hv, h⟩ := h
    refine je_get (k := 0) C he rfl in_X2 (by decide) q244 rfl dX2_desk_4 7 rfl hv ?_
    obtain ⟨j7, hj9, h8⟩ := p_at_inv h
    clear h
    subst hj9
    have h := h8
    clear h8
    replace h := p_ob_inv h
    obtain ⟨V7, he, h⟩ := h
    replace h := p_cl_inv h
    obtain ⟨x7, hg, h⟩ := h
    refine je_callV (As := []) (rest := [.int v2]) (o := (some (.int x7))) C (hmJ2_size hg) he rfl hdJ2_size rfl cwX2_37 rfl ⟨Nat.le_of_ble_eq_true rfl, Nat.le_of_ble_eq_true rfl⟩ ⟨Nat.le_of_ble_eq_true rfl, Nat.le_of_ble_eq_true rfl⟩ (Nat.le_of_ble_eq_true rfl) dX2_desk_7 10 rfl ?_
    refine je_icmp_ge C 39 dX2_desk_10 13 rfl rfl h ?_ ?_
    · clear h
      intro h
      refine je_iconst C (-1) dX2_desk_39 40 rfl ic_m1 ?_
      cases h
      exact je_iret C dX2_desk_40
    clear h
    intro h
    refine je_aload_n C dX2_desk_13 14 rfl 0 rfl ?_
    replace h := p_ob_inv h
    obtain ⟨V14, he, h⟩ := h
    replace h := p_vr_inv h
    obtain ⟨x14, hv, h⟩ := h
    refine je_get (k := 0) C he rfl in_X2 (by decide) q244 rfl dX2_desk_14 17 rfl hv ?_
    refine je_iload_n C dX2_desk_17 18 rfl 2 rfl ?_
    obtain ⟨j18, hj9, h8⟩ := p_at_inv h
    clear h
    subst hj9
    have h := h8
    clear h8
    replace h := p_ob_inv h
    obtain ⟨V18, he, h⟩ := h
    replace h := p_cl_inv h
    obtain ⟨x18, hg, h⟩ := h
    refine je_callV (As := [.int v2]) (rest := []) (o := (some (va_rf x18))) C (hmJ2_get hg) he rfl hdJ2_get rfl cwX2_41 rfl ⟨Nat.le_of_ble_eq_true rfl, Nat.le_of_ble_eq_true rfl⟩ ⟨Nat.le_of_ble_eq_true rfl, Nat.le_of_ble_eq_true rfl⟩ (Nat.le_of_ble_eq_true rfl) dX2_desk_18 21 rfl ?_
    obtain ⟨j21, hj9, h8⟩ := p_at_inv h
    clear h
    subst hj9
    have h := h8
    clear h8
    replace h := p_ob_inv h
    obtain ⟨V21, he, h⟩ := h
    refine je_cast C he rfl q831 dX2_desk_21 24 rfl ?_
    replace h := p_ob_inv h
    obtain ⟨V24, he, h⟩ := h
    replace h := p_vi_inv h
    obtain ⟨x24, hv, h⟩ := h
    refine je_getN (k := 0) C he rfl in_X9 (by decide) q851 rfl dX2_desk_24 27 rfl hv ?_
    refine je_iload_n C dX2_desk_27 28 rfl 1 rfl ?_
    refine je_icmp_ne C 33 dX2_desk_28 31 rfl rfl h ?_ ?_
    · clear h
      intro h
      refine je_iinc C (1) dX2_desk_33 36 rfl 2 rfl ic_1 (Nat.le_of_ble_eq_true rfl) [(2, .int (v2 + (1 : Int32))), (0, .ref (G.2.1 + a0)), (1, .int v1)] rfl ?_
      refine je_goto C 2 dX2_desk_36 rfl ?_
      refine je_sub [1, 2, 0] [(0, .ref (G.2.1 + a0)), (1, .int v1), (2, .int (v2 + (1 : Int32)))] rfl ?_
      exact ih a0 v1 (v2 + (1 : Int32)) h
    clear h
    intro h
    refine je_iload_n C dX2_desk_31 32 rfl 2 rfl ?_
    cases h
    exact je_iret C dX2_desk_32
set_option maxHeartbeats 4000000 in
theorem hmX2_desk {l : Launch} {G : je_G} {F : Nat} {τ : hT} {a0 : Nat} {v1 : Int32} {r9 : Int32} (h : hX2_desk G F τ a0 v1 = some r9) : MetS l G yX2_desk cX2_desk 3 (some .int) 3 64 0 0 [.ref (G.2.1 + a0), .int v1] τ.1 (G.2.1 + τ.2) (some (.int r9)) τ.1 (G.2.1 + τ.2) := by
  refine je_met "MinistryDesks$House" rfl (by decide +kernel) (Nat.le_of_ble_eq_true rfl) [(0, .ref (G.2.1 + a0)), (1, .int v1)] rfl (fun p e s m args below meth c C => ?_)
  unfold hX2_desk at h
  refine je_iconst C (0) dX2_desk_0 1 rfl ic_0 ?_
  refine je_istore_n C dX2_desk_1 2 rfl (Nat.le_of_ble_eq_true rfl) [(2, .int (0 : Int32)), (0, .ref (G.2.1 + a0)), (1, .int v1)] rfl ?_
  refine je_sub [1, 2, 0] [(0, .ref (G.2.1 + a0)), (1, .int v1), (2, .int (0 : Int32))] rfl ?_
  exact hwX2_desk_2 C F a0 v1 (0 : Int32) h
set_option maxHeartbeats 4000000 in
theorem hmX7_told {l : Launch} {G : je_G} {τ : hS} {a0 : Nat} {v1 : Int32} {r9 : (Nat × hS) ⊕ (Unit × hS)} (h : hX7_told G τ a0 v1 = some r9) : MetX l G yX7_told cX7_told 2 none 4 90 [.ref (G.2.1 + a0), .int v1] τ (xV r9) := by
  by_cases hDC : τ.2.2 ≤ DC
  · refine jx_met "MinistryDesks$Reader" rfl (by decide +kernel) (Nat.le_of_ble_eq_true rfl) [(0, .ref (G.2.1 + a0)), (1, .int v1)] rfl (fun p e s m args below meth c C hnt => ?_)
    have hc : τ.2.2 + 0 = τ.2.2 ∧ τ.2.2 ≤ DC := ⟨rfl, hDC⟩
    unfold hX7_told at h
    obtain ⟨-, h⟩ := p_pr_inv h
    refine je_widen 0 (64 * 0) (Nat.le_refl _) (Nat.le_refl _) ?_
    refine je_iload_n C dX7_told_0 1 rfl 1 rfl ?_
    refine je_if_eq C 17 dX7_told_1 4 rfl rfl h ?_ ?_
    · clear h
      intro h
      cases h
      exact jx_ret hc.1 (Nat.le_refl _) (je_vret C dX7_told_17)
    clear h
    intro h
    replace h := p_pr_inv h
    obtain ⟨hb, h⟩ := h
    refine je_new C (ci := 19) rfl in_X8 tyX8 tyX8_ok q728 q729 q179 rfl (jx_f1 (k := 1) hc hb) (jx_f2 (k := 1) (n := 8) hc hb (Nat.le_of_ble_eq_true rfl)) dX7_told_4 7 rfl ?_
    refine je_widen (0 + 1) (64 * (0 + 1)) (Nat.le_refl _) (jx_f3 (Nat.le_of_ble_eq_true rfl)) ?_
    refine je_ltr h ?_
    clear h
    intro b4 h
    refine jx_lt h ?_
    clear h
    intro t4 e2 h
    replace hc : τ.2.2 + (0 + 1) = t4.2.2 ∧ t4.2.2 ≤ DC := jx_f4 (k := 1) e2 hc hb
    clear e2 hb
    refine je_dup C dX7_told_7 8 rfl rfl ?_
    refine je_iconst C (3) dX7_told_8 9 rfl ic_3 ?_
    refine je_aload_n C dX7_told_9 10 rfl 0 rfl ?_
    replace h := p_ob_inv h
    obtain ⟨V10, he, h⟩ := h
    replace h := p_vi_inv h
    obtain ⟨x10, hv, h⟩ := h
    refine je_get (k := 5) C he rfl in_X7 (by decide) q556 rfl dX7_told_10 13 rfl hv ?_
    replace h := p_cl_inv h
    obtain ⟨u13, hg, h⟩ := h
    refine je_callI (As := [.int (3 : Int32), .int x10]) (rest := [.ref (G.2.1 + b4)]) C (hmX8_init hg) hdX8_init rfl ccX7_96 rfl ⟨Nat.le_of_ble_eq_true rfl, Nat.le_of_ble_eq_true rfl⟩ ⟨jx_f1 (k := 0) hc hc.2, jx_f2 (k := 0) (n := 0) hc hc.2 (Nat.le_of_ble_eq_true rfl)⟩ (Nat.le_of_ble_eq_true rfl) dX7_told_13 16 rfl ?_
    refine je_widen (0 + 1) (64 * (0 + 1)) (Nat.le_refl _) (jx_f30 (Nat.le_of_ble_eq_true rfl)) ?_
    refine jx_lt (t0 := x_of u13 (t4.2.2 + 0)) h ?_
    clear h
    intro t13 e2 h
    replace hc : τ.2.2 + (0 + 1) = t13.2.2 ∧ t13.2.2 ≤ DC := jx_f80 (k := 0) e2 hc hc.2
    clear e2 hg
    replace h := p_ob_inv h
    obtain ⟨V16, he, h⟩ := h
    cases h
    exact jx_athrow C hnt he rfl hc.1 (Nat.le_refl _) dX7_told_16
  · unfold hX7_told at h
    exact absurd (p_pr_inv h).1 hDC
theorem hdX7_take : je_hd yX7_take 0 := ⟨by decide +kernel, by decide +kernel, by decide +kernel⟩
theorem hdX7_told : je_hd yX7_told 1 := ⟨by decide +kernel, by decide +kernel, by decide +kernel⟩
theorem cwX7_107 : GoodIn lw_all (wsV "MinistryDesks$Reader" 107 "MinistryDesks$Reader" yX7_take (ws_ yX7_take cX7_take 1 none)) := lw_V q580 q582 qs1 q170 q583
theorem cwX7_110 : GoodIn lw_all (wsV "MinistryDesks$Reader" 110 "MinistryDesks$Reader" yX7_told (ws_ yX7_told cX7_told 2 none)) := lw_V q836 q838 qs15 q170 q839
set_option maxHeartbeats 4000000 in
theorem hwX7_newName_10 {p : Program} {l : Launch} {e : Env} {s : State} {m : MethodId} {args : Array Value} {below : List Frame} {meth : Method} {c : Code} {G : je_G} {F : Nat} {c0 : Nat} {r9 : (Nat × hS) ⊕ (Int32 × hS)} (C : Cx p s m args meth c G "MinistryDesks$Reader" cX7_newName 3 (some .int)) (hnt : ∀ x ∈ c.exceptionTable.toList, False) (τ : hS) (a0 : Nat) (s0 : Int32) (s1 : Nat) (cells : Nat) (hc : c0 + cells = τ.2.2 ∧ τ.2.2 ≤ DC) (h : hbX7_newName_10 G F τ a0 s0 s1 = some r9) : Js p l e ({ frames := 7, cells := DC - c0, slots := 64 * (DC - c0), locals := 152 } : Room) s m args below meth c G 3 (xMQ below G (xI r9) args s c0) τ.1 (G.2.1 + τ.2.1) cells (64 * cells) 10 [(0, .ref (G.2.1 + a0))] [.int s0, .ref (G.2.1 + s1)] := by
  unfold hbX7_newName_10 at h
  replace h := p_ob_inv h
  obtain ⟨V10, he, h⟩ := h
  replace h := p_ex_inv h
  rcases h with ⟨z9, hg, hz1, rfl⟩ | ⟨u10, hg, hz1, hz2, h⟩
  · exact jx_callV (As := [.int s0]) (rest := []) C (hmX7_told hg) he rfl hdX7_told rfl cwX7_110 rfl ⟨Nat.le_of_ble_eq_true rfl, Nat.le_of_ble_eq_true rfl⟩ ⟨rfl, rfl⟩ hc (Nat.le_refl _) (Nat.le_of_ble_eq_true rfl) hnt dX7_newName_10 13 rfl hz1 (fun _ e9 => e9) (fun _ e9 => by cases e9)
  refine jx_callV (As := [.int s0]) (rest := []) C (hmX7_told hg) he rfl hdX7_told rfl cwX7_110 rfl ⟨Nat.le_of_ble_eq_true rfl, Nat.le_of_ble_eq_true rfl⟩ ⟨rfl, rfl⟩ hc (Nat.le_refl _) (Nat.le_of_ble_eq_true rfl) hnt dX7_newName_10 13 rfl hz1 (fun _ e9 => by cases e9) (fun z9 e9 cells2 hc2 => ?_)
  cases e9
  refine jx_lt (t0 := u10.2) h ?_
  clear h
  intro t10 e2 h
  replace hc : c0 + cells2 = t10.2.2 ∧ t10.2.2 ≤ DC := jx_f7 e2 hc2 hz2
  clear e2 hc2 hz1 hz2 hg
  refine je_aload_n C dX7_newName_13 14 rfl 0 rfl ?_
  replace h := p_ob_inv h
  obtain ⟨V14, he, h⟩ := h
  replace h := p_vi_inv h
  obtain ⟨x14, hv, h⟩ := h
  refine je_get (k := 4) C he rfl in_X7 (by decide) q555 rfl dX7_newName_14 17 rfl hv ?_
  refine je_istore_n C dX7_newName_17 18 rfl (Nat.le_of_ble_eq_true rfl) [(2, .int x14), (0, .ref (G.2.1 + a0))] rfl ?_
  refine je_aload_n C dX7_newName_18 19 rfl 1 rfl ?_
  replace h := p_ob_inv h
  obtain ⟨V19, he, h⟩ := h
  replace h := p_cl_inv h
  obtain ⟨u19, hg, h⟩ := h
  refine je_callV (As := []) (rest := []) (o := none) C (hmX7_take hg) he rfl hdX7_take rfl cwX7_107 rfl ⟨Nat.le_of_ble_eq_true rfl, Nat.le_of_ble_eq_true rfl⟩ ⟨jx_f1 (k := 0) hc hc.2, jx_f2 (k := 0) (n := 0) hc hc.2 (Nat.le_of_ble_eq_true rfl)⟩ (Nat.le_of_ble_eq_true rfl) dX7_newName_19 22 rfl ?_
  refine je_widen (cells2) (64 * (cells2)) (Nat.le_refl _) (jx_f30 (Nat.le_of_ble_eq_true rfl)) ?_
  refine jx_lt (t0 := x_of u19 (t10.2.2 + 0)) h ?_
  clear h
  intro t19 e2 h
  replace hc : c0 + (cells2) = t19.2.2 ∧ t19.2.2 ≤ DC := jx_f80 (k := 0) e2 hc hc.2
  clear e2 hg
  refine je_iload_n C dX7_newName_22 23 rfl 0 rfl ?_
  cases h
  exact jx_ret hc.1 (Nat.le_refl _) (je_iret C dX7_newName_23)
set_option maxHeartbeats 4000000 in
theorem hmX7_newName {l : Launch} {G : je_G} {F : Nat} {τ : hS} {a0 : Nat} {v1 : Int32} {r9 : (Nat × hS) ⊕ (Int32 × hS)} (h : hX7_newName G F τ a0 v1 = some r9) : MetX l G yX7_newName cX7_newName 3 (some .int) 7 152 [.ref (G.2.1 + a0), .int v1] τ (xI r9) := by
  by_cases hDC : τ.2.2 ≤ DC
  · refine jx_met "MinistryDesks$Reader" rfl (by decide +kernel) (Nat.le_of_ble_eq_true rfl) [(0, .ref (G.2.1 + a0)), (1, .int v1)] rfl (fun p e s m args below meth c C hnt => ?_)
    have hc : τ.2.2 + 0 = τ.2.2 ∧ τ.2.2 ≤ DC := ⟨rfl, hDC⟩
    unfold hX7_newName at h
    obtain ⟨-, h⟩ := p_pr_inv h
    refine je_widen 0 (64 * 0) (Nat.le_refl _) (Nat.le_refl _) ?_
    refine je_aload_n C dX7_newName_0 1 rfl 0 rfl ?_
    refine je_iload_n C dX7_newName_1 2 rfl 1 rfl ?_
    refine je_if_lt C 9 dX7_newName_2 5 rfl rfl h ?_ ?_
    · clear h
      intro h
      refine je_iconst C (0) dX7_newName_9 10 rfl ic_0 ?_
      refine je_sub [0] [(0, .ref (G.2.1 + a0))] rfl ?_
      exact hwX7_newName_10 C hnt τ a0 (0 : Int32) a0 0 hc h
    clear h
    intro h
    refine je_iconst C (1) dX7_newName_5 6 rfl ic_1 ?_
    refine je_goto C 10 dX7_newName_6 rfl ?_
    refine je_sub [0] [(0, .ref (G.2.1 + a0))] rfl ?_
    exact hwX7_newName_10 C hnt τ a0 (1 : Int32) a0 0 hc h
  · unfold hX7_newName at h
    exact absurd (p_pr_inv h).1 hDC
theorem hdX7_much : je_hd yX7_much 1 := ⟨by decide +kernel, by decide +kernel, by decide +kernel⟩
theorem cwX7_103 : GoodIn lw_all (wsV "MinistryDesks$Reader" 103 "MinistryDesks$Reader" yX7_much (ws_ yX7_much cX7_much 2 none)) := lw_V q806 q808 qs12 q170 q809
set_option maxHeartbeats 4000000 in
theorem hwX7_number_31 {p : Program} {l : Launch} {e : Env} {s : State} {m : MethodId} {args : Array Value} {below : List Frame} {meth : Method} {c : Code} {G : je_G} {F : Nat} {c0 : Nat} {r9 : (Nat × hS) ⊕ (Int32 × hS)} (C : Cx p s m args meth c G "MinistryDesks$Reader" cX7_number 4 (some .int)) (hnt : ∀ x ∈ c.exceptionTable.toList, False) (τ : hS) (a0 : Nat) (s0 : Int32) (s1 : Nat) (cells : Nat) (hc : c0 + cells = τ.2.2 ∧ τ.2.2 ≤ DC) (h : hbX7_number_31 G F τ a0 s0 s1 = some r9) : Js p l e ({ frames := 7, cells := DC - c0, slots := 64 * (DC - c0), locals := 152 } : Room) s m args below meth c G 4 (xMQ below G (xI r9) args s c0) τ.1 (G.2.1 + τ.2.1) cells (64 * cells) 31 [(0, .ref (G.2.1 + a0))] [.int s0, .ref (G.2.1 + s1)] := by
  unfold hbX7_number_31 at h
  replace h := p_ob_inv h
  obtain ⟨V31, he, h⟩ := h
  replace h := p_ex_inv h
  rcases h with ⟨z9, hg, hz1, rfl⟩ | ⟨u31, hg, hz1, hz2, h⟩
  · exact jx_callV (As := [.int s0]) (rest := []) C (hmX7_much hg) he rfl hdX7_much rfl cwX7_103 rfl ⟨Nat.le_of_ble_eq_true rfl, Nat.le_of_ble_eq_true rfl⟩ ⟨rfl, rfl⟩ hc (Nat.le_refl _) (Nat.le_of_ble_eq_true rfl) hnt dX7_number_31 34 rfl hz1 (fun _ e9 => e9) (fun _ e9 => by cases e9)
  refine jx_callV (As := [.int s0]) (rest := []) C (hmX7_much hg) he rfl hdX7_much rfl cwX7_103 rfl ⟨Nat.le_of_ble_eq_true rfl, Nat.le_of_ble_eq_true rfl⟩ ⟨rfl, rfl⟩ hc (Nat.le_refl _) (Nat.le_of_ble_eq_true rfl) hnt dX7_number_31 34 rfl hz1 (fun _ e9 => by cases e9) (fun z9 e9 cells2 hc2 => ?_)
  cases e9
  refine jx_lt (t0 := u31.2) h ?_
  clear h
  intro t31 e2 h
  replace hc : c0 + cells2 = t31.2.2 ∧ t31.2.2 ≤ DC := jx_f7 e2 hc2 hz2
  clear e2 hc2 hz1 hz2 hg
  refine je_aload_n C dX7_number_34 35 rfl 0 rfl ?_
  replace h := p_ob_inv h
  obtain ⟨V35, he, h⟩ := h
  replace h := p_vi_inv h
  obtain ⟨x35, hv, h⟩ := h
  refine je_get (k := 4) C he rfl in_X7 (by decide) q555 rfl dX7_number_35 38 rfl hv ?_
  refine je_istore_n C dX7_number_38 39 rfl (Nat.le_of_ble_eq_true rfl) [(3, .int x35), (0, .ref (G.2.1 + a0))] rfl ?_
  refine je_aload_n C dX7_number_39 40 rfl 1 rfl ?_
  replace h := p_ob_inv h
  obtain ⟨V40, he, h⟩ := h
  replace h := p_cl_inv h
  obtain ⟨u40, hg, h⟩ := h
  refine je_callV (As := []) (rest := []) (o := none) C (hmX7_take hg) he rfl hdX7_take rfl cwX7_107 rfl ⟨Nat.le_of_ble_eq_true rfl, Nat.le_of_ble_eq_true rfl⟩ ⟨jx_f1 (k := 0) hc hc.2, jx_f2 (k := 0) (n := 0) hc hc.2 (Nat.le_of_ble_eq_true rfl)⟩ (Nat.le_of_ble_eq_true rfl) dX7_number_40 43 rfl ?_
  refine je_widen (cells2) (64 * (cells2)) (Nat.le_refl _) (jx_f30 (Nat.le_of_ble_eq_true rfl)) ?_
  refine jx_lt (t0 := x_of u40 (t31.2.2 + 0)) h ?_
  clear h
  intro t40 e2 h
  replace hc : c0 + (cells2) = t40.2.2 ∧ t40.2.2 ≤ DC := jx_f80 (k := 0) e2 hc hc.2
  clear e2 hg
  refine je_iload_n C dX7_number_43 44 rfl 0 rfl ?_
  cases h
  exact jx_ret hc.1 (Nat.le_refl _) (je_iret C dX7_number_44)
set_option maxHeartbeats 4000000 in
theorem hmX7_number {l : Launch} {G : je_G} {F : Nat} {τ : hS} {a0 : Nat} {v1 : Int32} {v2 : Int32} {r9 : (Nat × hS) ⊕ (Int32 × hS)} (h : hX7_number G F τ a0 v1 v2 = some r9) : MetX l G yX7_number cX7_number 4 (some .int) 7 152 [.ref (G.2.1 + a0), .int v1, .int v2] τ (xI r9) := by
  by_cases hDC : τ.2.2 ≤ DC
  · refine jx_met "MinistryDesks$Reader" rfl (by decide +kernel) (Nat.le_of_ble_eq_true rfl) [(0, .ref (G.2.1 + a0)), (1, .int v1), (2, .int v2)] rfl (fun p e s m args below meth c C hnt => ?_)
    have hc : τ.2.2 + 0 = τ.2.2 ∧ τ.2.2 ≤ DC := ⟨rfl, hDC⟩
    unfold hX7_number at h
    obtain ⟨-, h⟩ := p_pr_inv h
    refine je_widen 0 (64 * 0) (Nat.le_refl _) (Nat.le_refl _) ?_
    refine je_aload_n C dX7_number_0 1 rfl 0 rfl ?_
    replace h := p_ob_inv h
    obtain ⟨V1, he, h⟩ := h
    replace h := p_vi_inv h
    obtain ⟨x1, hv, h⟩ := h
    refine je_get (k := 3) C he rfl in_X7 (by decide) q554 rfl dX7_number_1 4 rfl hv ?_
    refine je_iconst C (3) dX7_number_4 5 rfl ic_3 ?_
    refine je_icmp_eq C 13 dX7_number_5 8 rfl rfl h ?_ ?_
    · clear h
      intro h
      refine je_aload_n C dX7_number_13 14 rfl 0 rfl ?_
      refine je_aload_n C dX7_number_14 15 rfl 0 rfl ?_
      replace h := p_ob_inv h
      obtain ⟨V15, he, h⟩ := h
      replace h := p_vi_inv h
      obtain ⟨x15, hv, h⟩ := h
      refine je_get (k := 4) C he rfl in_X7 (by decide) q555 rfl dX7_number_15 18 rfl hv ?_
      refine je_iload_n C dX7_number_18 19 rfl 1 rfl ?_
      refine je_iload_n C dX7_number_19 20 rfl 2 rfl ?_
      replace h := p_cl_inv h
      obtain ⟨t20, hg, h⟩ := h
      refine je_callSNi (As := [.int x15, .int v1, .int v2]) (rest := [.ref (G.2.1 + a0)]) C (metX1_isIn hg) hdX1_isIn cwX7_34 rfl ⟨Nat.le_of_ble_eq_true rfl, Nat.le_of_ble_eq_true rfl⟩ (Nat.le_of_ble_eq_true rfl) dX7_number_20 23 rfl ⟨jx_f5 hc, jx_f6 hc⟩ ?_
      refine je_if_ne C 30 dX7_number_23 26 rfl rfl h ?_ ?_
      · clear h
        intro h
        refine je_iconst C (0) dX7_number_30 31 rfl ic_0 ?_
        refine je_sub [0] [(0, .ref (G.2.1 + a0))] rfl ?_
        exact hwX7_number_31 C hnt τ a0 (0 : Int32) a0 0 hc h
      clear h
      intro h
      refine je_iconst C (1) dX7_number_26 27 rfl ic_1 ?_
      refine je_goto C 31 dX7_number_27 rfl ?_
      refine je_sub [0] [(0, .ref (G.2.1 + a0))] rfl ?_
      exact hwX7_number_31 C hnt τ a0 (1 : Int32) a0 0 hc h
    clear h
    intro h
    refine je_aload_n C dX7_number_8 9 rfl 0 rfl ?_
    replace h := p_ob_inv h
    obtain ⟨V9, he, h⟩ := h
    replace h := p_pr_inv h
    obtain ⟨hb, h⟩ := h
    replace h := p_cl_inv h
    obtain ⟨u9, hg, h⟩ := h
    refine je_callV (As := []) (rest := []) (o := (some (va_rf u9.1))) C (hmX7_wrong hg) he rfl hdX7_wrong rfl cwX7_99 rfl ⟨Nat.le_of_ble_eq_true rfl, Nat.le_of_ble_eq_true rfl⟩ ⟨jx_f1 (k := 1) hc hb, jx_f2 (k := 1) (n := 8) hc hb (Nat.le_of_ble_eq_true rfl)⟩ (Nat.le_of_ble_eq_true rfl) dX7_number_9 12 rfl ?_
    refine je_widen (0 + 1) (64 * (0 + 1)) (Nat.le_refl _) (jx_f3 (Nat.le_of_ble_eq_true rfl)) ?_
    refine je_ltq (x := u9.1) (st := []) h ?_
    clear h
    intro x9 h
    refine jx_lt (t0 := x_of u9.2 (τ.2.2 + 1)) h ?_
    clear h
    intro t9 e2 h
    replace hc : τ.2.2 + (0 + 1) = t9.2.2 ∧ t9.2.2 ≤ DC := jx_f8 (k := 1) e2 hc hb
    clear e2 hg hb
    obtain ⟨j12, hj9, h8⟩ := p_at_inv h
    clear h
    subst hj9
    have h := h8
    clear h8
    replace h := p_ob_inv h
    obtain ⟨V12, he, h⟩ := h
    cases h
    exact jx_athrow C hnt he rfl hc.1 (Nat.le_refl _) dX7_number_12
  · unfold hX7_number at h
    exact absurd (p_pr_inv h).1 hDC
theorem hoX9_3 : Cond.methodLink "MinistryDesks$Desk" 3 Lib.objectInit ∈ lw_all ∧ Cond.instanceMethod Lib.objectInit ∈ lw_all ∧ Cond.code Lib.objectInit ⟨#[0xb1]⟩ 1 none ∈ lw_all := ⟨q849, q209, q210⟩
set_option maxHeartbeats 4000000 in
theorem hmX9_init {l : Launch} {G : je_G} {τ : hT} {a0 : Nat} {v1 : Int32} {v2 : Int32} {r9 : hT} (h : hX9_init G τ a0 v1 v2 = some r9) : MetS l G yX9_init cX9_init 3 none 1 20 0 0 [.ref (G.2.1 + a0), .int v1, .int v2] τ.1 (G.2.1 + τ.2) none r9.1 (G.2.1 + r9.2) := by
  refine je_metI "MinistryDesks$Desk" rfl (by decide +kernel) rfl (Nat.le_of_ble_eq_true rfl) [(0, .ref (G.2.1 + a0)), (1, .int v1), (2, .int v2)] rfl (fun p e s m args below meth c C hI => ?_)
  unfold hX9_init at h
  refine je_aload_n C dX9_init_0 1 rfl 0 rfl ?_
  refine je_obji C hoX9_3 ⟨Nat.le_of_ble_eq_true rfl, Nat.le_of_ble_eq_true rfl⟩ (Nat.le_of_ble_eq_true rfl) dX9_init_1 4 rfl ?_
  refine je_aload_n C dX9_init_4 5 rfl 0 rfl ?_
  refine je_iconst C (-1) dX9_init_5 6 rfl ic_m1 ?_
  replace h := p_ob_inv h
  obtain ⟨V6, he, h⟩ := h
  refine je_put (k := 2) (v := .int (-1 : Int32)) C he rfl in_X9 tyX9 tyX9_ok nmX9 (by decide) q855 rfl rfl rfl rfl dX9_init_6 9 rfl ?_
  refine jh_lt h ?_
  clear h
  intro t6 h
  refine je_aload_n C dX9_init_9 10 rfl 0 rfl ?_
  refine je_iload_n C dX9_init_10 11 rfl 1 rfl ?_
  replace h := p_ob_inv h
  obtain ⟨V11, he, h⟩ := h
  refine je_putF (k := 0) (v := .int v1) C hI he rfl in_X9 tyX9 tyX9_ok nmX9 (by decide) q850 rfl rfl rfl rfl rfl dX9_init_11 14 rfl ?_
  refine jh_lt h ?_
  clear h
  intro t11 h
  refine je_aload_n C dX9_init_14 15 rfl 0 rfl ?_
  refine je_iload_n C dX9_init_15 16 rfl 2 rfl ?_
  replace h := p_ob_inv h
  obtain ⟨V16, he, h⟩ := h
  refine je_putF (k := 1) (v := .int v2) C hI he rfl in_X9 tyX9 tyX9_ok nmX9 (by decide) q852 rfl rfl rfl rfl rfl dX9_init_16 19 rfl ?_
  refine jh_lt h ?_
  clear h
  intro t16 h
  cases h
  exact je_vret C dX9_init_19
theorem mlJ12_194 : Cond.methodLink "jdk/internal/util/ArraysSupport" 194 Lib.Math.max.name ∈ lw_all ∧ Cond.static Lib.Math.max.name ∈ lw_all ∧ Cond.initialized "java/lang/Math" ∈ lw_all ∧ Cond.code Lib.Math.max.name Lib.Math.max.code 2 (some .int) ∈ lw_all := ⟨q885, q628, q173, q629⟩
set_option maxHeartbeats 4000000 in
theorem hwJ12_newLength_21 {p : Program} {l : Launch} {e : Env} {s : State} {m : MethodId} {args : Array Value} {below : List Frame} {meth : Method} {c : Code} {G : je_G} {τ : hT} {r9 : Int32} (C : Cx p s m args meth c G "jdk/internal/util/ArraysSupport" cJ12_newLength 4 (some .int)) (v0 : Int32) (v1 : Int32) (h : hbJ12_newLength_21 G τ v0 v1 = some r9) : Js p l e ({ frames := 1, cells := 0, slots := 0, locals := 23 } : Room) s m args below meth c G 4 (MQ below (je_Q G (some (.int r9)) τ.1 (G.2.1 + τ.2)) args s 0 0 (je_A G)) τ.1 (G.2.1 + τ.2) 0 0 21 [(0, .int v0), (1, .int v1)] [] := by
  unfold hbJ12_newLength_21 at h
  refine je_iload_n C dJ12_newLength_21 22 rfl 0 rfl ?_
  refine je_iload_n C dJ12_newLength_22 23 rfl 1 rfl ?_
  cases h
set_option maxHeartbeats 4000000 in
theorem hmJ12_newLength {l : Launch} {G : je_G} {τ : hT} {v0 : Int32} {v1 : Int32} {v2 : Int32} {r9 : Int32} (h : hJ12_newLength G τ v0 v1 v2 = some r9) : MetS l G yJ12_newLength cJ12_newLength 4 (some .int) 1 23 0 0 [.int v0, .int v1, .int v2] τ.1 (G.2.1 + τ.2) (some (.int r9)) τ.1 (G.2.1 + τ.2) := by
  refine je_met "jdk/internal/util/ArraysSupport" rfl (by decide +kernel) (Nat.le_of_ble_eq_true rfl) [(0, .int v0), (1, .int v1), (2, .int v2)] rfl (fun p e s m args below meth c C => ?_)
  unfold hJ12_newLength at h
  refine je_iload_n C dJ12_newLength_0 1 rfl 0 rfl ?_
  refine je_iload_n C dJ12_newLength_1 2 rfl 1 rfl ?_
  refine je_iload_n C dJ12_newLength_2 3 rfl 2 rfl ?_
  refine je_mmax C ⟨Nat.le_of_ble_eq_true rfl, Nat.le_of_ble_eq_true rfl⟩ (Nat.le_of_ble_eq_true rfl) mlJ12_194 dJ12_newLength_3 6 rfl ⟨Nat.le_of_ble_eq_true rfl, Nat.le_of_ble_eq_true rfl⟩ ?_
  refine je_iadd C dJ12_newLength_6 7 rfl ?_
  refine je_lti h ?_
  clear h
  intro t7 h
  refine je_istore_n C dJ12_newLength_7 8 rfl (Nat.le_of_ble_eq_true rfl) [(3, .int t7), (0, .int v0), (1, .int v1), (2, .int v2)] rfl ?_
  refine je_iconst C (0) dJ12_newLength_8 9 rfl ic_0 ?_
  refine je_iload_n C dJ12_newLength_9 10 rfl 0 rfl ?_
  refine je_icmp_ge C 21 dJ12_newLength_10 13 rfl rfl h ?_ ?_
  · clear h
    intro h
    refine je_sub [1, 2] [(0, .int v0), (1, .int v1)] rfl ?_
    exact hwJ12_newLength_21 C v0 v1 h
  clear h
  intro h
  refine je_iload_n C dJ12_newLength_13 14 rfl 0 rfl ?_
  refine je_ldc C q886 dJ12_newLength_14 16 rfl ?_
  refine je_icmp_gt C 21 dJ12_newLength_16 19 rfl rfl h ?_ ?_
  · clear h
    intro h
    refine je_sub [1, 2] [(0, .int v0), (1, .int v1)] rfl ?_
    exact hwJ12_newLength_21 C v0 v1 h
  clear h
  intro h
  refine je_iload_n C dJ12_newLength_19 20 rfl 0 rfl ?_
  cases h
  exact je_iret C dJ12_newLength_20
theorem mlJ13_304 : Cond.methodLink "java/util/Arrays" 304 Lib.Math.min.name ∈ lw_all ∧ Cond.static Lib.Math.min.name ∈ lw_all ∧ Cond.initialized "java/lang/Math" ∈ lw_all ∧ Cond.code Lib.Math.min.name Lib.Math.min.code 2 (some .int) ∈ lw_all := ⟨q927, q631, q173, q632⟩
theorem acw_J13_150 : Cond.methodLink "java/util/Arrays" 150 arraycopyName ∈ lw_all ∧ Cond.native arraycopyName ∈ lw_all ∧ Cond.static arraycopyName ∈ lw_all ∧ Cond.initialized "java/lang/System" ∈ lw_all := ⟨q928, q930, q929, q184⟩
set_option maxHeartbeats 4000000 in
theorem hwJ13_copyOf_2_24 {p : Program} {l : Launch} {e : Env} {s : State} {m : MethodId} {args : Array Value} {below : List Frame} {meth : Method} {c : Code} {G : je_G} {r9 : Option Nat × hT} (C : Cx p s m args meth c G "java/util/Arrays" cJ13_copyOf_2 4 (some (.array (.object "java/lang/Object")))) (τ : hT) (q0 : Option Nat) (v1 : Int32) (s0 : Option Nat) (h : hbJ13_copyOf_2_24 G τ q0 v1 s0 = some r9) : Js p l e ({ frames := 1, cells := 1, slots := 40, locals := 48 } : Room) s m args below meth c G 4 (MQ below (je_Q G (some (va_rf r9.1)) r9.2.1 (G.2.1 + r9.2.2)) args s 1 40 (je_A G)) τ.1 (G.2.1 + τ.2) 1 40 24 [(0, va_rf q0), (1, .int v1)] [va_rf s0] := by
  unfold hbJ13_copyOf_2_24 at h
  refine je_astoreR_n C dJ13_copyOf_2_24 25 rfl (Nat.le_of_ble_eq_true rfl) [(3, va_rf s0), (0, va_rf q0), (1, .int v1)] rfl ?_
  refine je_aloadR_n C dJ13_copyOf_2_25 26 rfl 1 rfl ?_
  refine je_iconst C (0) dJ13_copyOf_2_26 27 rfl ic_0 ?_
  refine je_aloadR_n C dJ13_copyOf_2_27 28 rfl 0 rfl ?_
  refine je_iconst C (0) dJ13_copyOf_2_28 29 rfl ic_0 ?_
  refine je_aloadR_n C dJ13_copyOf_2_29 30 rfl 1 rfl ?_
  replace h := p_al_inv h
  obtain ⟨n30, hx, h⟩ := h
  refine je_alenX C hx dJ13_copyOf_2_30 31 rfl ?_
  refine je_iload_n C dJ13_copyOf_2_31 32 rfl 2 rfl ?_
  refine je_mmin C ⟨Nat.le_of_ble_eq_true rfl, Nat.le_of_ble_eq_true rfl⟩ (by simp only [List.map_cons, List.map_nil, je_cat, List.sum_cons, List.sum_nil]; exact Nat.le_of_ble_eq_true rfl) mlJ13_304 dJ13_copyOf_2_32 35 rfl ⟨Nat.le_of_ble_eq_true rfl, Nat.le_of_ble_eq_true rfl⟩ ?_
  obtain ⟨j35, hj9, h8⟩ := p_at_inv h
  clear h
  subst hj9
  have h := h8
  clear h8
  obtain ⟨j35_3, hj9, h8⟩ := p_at_inv h
  clear h
  subst hj9
  have h := h8
  clear h8
  refine je_lti h ?_
  clear h
  intro t35 h
  replace h := p_aO_inv h
  obtain ⟨n35, f35, he0, h⟩ := h
  replace h := p_aO_inv h
  obtain ⟨m35, g35, he1, h⟩ := h
  replace h := p_pr_inv h
  obtain ⟨⟨hn0, hn1, hn2, hn3⟩, h⟩ := h
  refine je_copyO C he0 he1 acw_J13_150 (by decide) (by decide) hn0 (by show 0 + _ ≤ _; omega) (by show 0 + _ ≤ _; omega) (fun i hi => by show isIt G _ (f35 (0 + i)) = true; rw [Nat.zero_add]; exact List.all_eq_true.mp hn3 i (List.mem_range.mpr hi)) ⟨Nat.le_of_ble_eq_true rfl, Nat.le_of_ble_eq_true rfl⟩ (Nat.le_of_ble_eq_true rfl) dJ13_copyOf_2_35 38 rfl ?_
  refine jh_lt h ?_
  clear h
  intro t35_9 h
  refine je_aload_n C dJ13_copyOf_2_38 39 rfl 0 rfl ?_
  cases h
  exact je_aretA (x := (some (G.2.1 + j35_3))) C dJ13_copyOf_2_39
set_option maxHeartbeats 4000000 in
theorem hmJ13_copyOf_2 {l : Launch} {G : je_G} {τ : hT} {q0 : Option Nat} {v1 : Int32} {q2 : Option Nat} {r9 : Option Nat × hT} (h : hJ13_copyOf_2 G τ q0 v1 q2 = some r9) : MetS l G yJ13_copyOf_2 cJ13_copyOf_2 4 (some (.array (.object "java/lang/Object"))) 1 48 1 40 [va_rf q0, .int v1, va_rf q2] τ.1 (G.2.1 + τ.2) (some (va_rf r9.1)) r9.2.1 (G.2.1 + r9.2.2) := by
  refine je_met "java/util/Arrays" rfl (by decide +kernel) (by cases q0 <;> cases q2 <;> exact Nat.le_of_ble_eq_true rfl) [(0, va_rf q0), (1, .int v1), (2, va_rf q2)] (by cases q0 <;> cases q2 <;> rfl) (fun p e s m args below meth c C => ?_)
  unfold hJ13_copyOf_2 at h
  refine je_aloadR_n C dJ13_copyOf_2_0 1 rfl 2 rfl ?_
  refine je_ldcM C q924 dJ13_copyOf_2_1 3 rfl ?_
  refine je_acmp_ne (x := q2) (y := (some (G.2.2.2.1 7))) C 13 dJ13_copyOf_2_3 6 rfl rfl h ?_ ?_
  · clear h
    intro h
    refine je_aloadR_n C dJ13_copyOf_2_13 14 rfl 2 rfl ?_
    cases h
  clear h
  intro h
  refine je_iload_n C dJ13_copyOf_2_6 7 rfl 1 rfl ?_
  replace h := p_sm_inv h
  obtain ⟨hs0, hs1, h⟩ := h
  refine je_anew C rfl hs0 (by omega) q926 rfl (Nat.le_of_ble_eq_true rfl) (by show 0 + _ ≤ 40; omega) dJ13_copyOf_2_7 10 rfl ?_
  refine je_widen 1 40 (by decide) (by omega) ?_
  refine je_ltr h ?_
  clear h
  intro b7 h
  refine jh_lt h ?_
  clear h
  intro t7 h
  refine je_goto C 24 dJ13_copyOf_2_10 rfl ?_
  refine je_sub [0, 1] [(0, va_rf q0), (1, .int v1)] rfl ?_
  exact hwJ13_copyOf_2_24 C t7 q0 v1 (some (G.2.1 + b7)) h
theorem hdJ13_copyOf_2 : je_hd yJ13_copyOf_2 3 := ⟨by decide +kernel, by decide +kernel, by decide +kernel⟩
theorem cwJ13_300 : GoodIn lw_all (va_wsS "java/util/Arrays" 300 yJ13_copyOf_2 (ws_ yJ13_copyOf_2 cJ13_copyOf_2 4 (some (.array (.object "java/lang/Object"))))) := lw_S q921 q922 q183 q923
theorem hgJ13_86 : Cond.methodLink "java/util/Arrays" 86 ⟨"java/lang/Object", "getClass", "()Ljava/lang/Class;"⟩ ∈ lw_all ∧ Cond.selects "[Ljava/lang/Object;" ⟨"java/lang/Object", "getClass", "()Ljava/lang/Class;"⟩ ⟨"java/lang/Object", "getClass", "()Ljava/lang/Class;"⟩ ∈ lw_all ∧ Cond.instanceMethod ⟨"java/lang/Object", "getClass", "()Ljava/lang/Class;"⟩ ∈ lw_all ∧ Cond.native ⟨"java/lang/Object", "getClass", "()Ljava/lang/Class;"⟩ ∈ lw_all := ⟨q893, q2430, q894, q920⟩
set_option maxHeartbeats 4000000 in
theorem hmJ13_copyOf {l : Launch} {G : je_G} {τ : hT} {q0 : Option Nat} {v1 : Int32} {r9 : Option Nat × hT} (h : hJ13_copyOf G τ q0 v1 = some r9) : MetS l G yJ13_copyOf cJ13_copyOf 2 (some (.array (.object "java/lang/Object"))) 2 71 1 40 [va_rf q0, .int v1] τ.1 (G.2.1 + τ.2) (some (va_rf r9.1)) r9.2.1 (G.2.1 + r9.2.2) := by
  refine je_met "java/util/Arrays" rfl (by decide +kernel) (by cases q0 <;> exact Nat.le_of_ble_eq_true rfl) [(0, va_rf q0), (1, .int v1)] (by cases q0 <;> rfl) (fun p e s m args below meth c C => ?_)
  unfold hJ13_copyOf at h
  refine je_aloadR_n C dJ13_copyOf_0 1 rfl 0 rfl ?_
  refine je_iload_n C dJ13_copyOf_1 2 rfl 1 rfl ?_
  refine je_aloadR_n C dJ13_copyOf_2 3 rfl 0 rfl ?_
  obtain ⟨j3, hj9, h8⟩ := p_at_inv h
  clear h
  subst hj9
  have h := h8
  clear h8
  replace h := p_aO_inv h
  obtain ⟨n3, f3, he, h⟩ := h
  refine je_getC C he hgJ13_86 ⟨Nat.le_of_ble_eq_true rfl, Nat.le_of_ble_eq_true rfl⟩ (Nat.le_of_ble_eq_true rfl) dJ13_copyOf_3 6 rfl ?_
  replace h := p_cl_inv h
  obtain ⟨u6, hg, h⟩ := h
  refine je_callS (As := [.ref (G.2.1 + j3), .int v1, va_rf (some (G.2.2.2.1 7))]) (rest := []) (o := (some (va_rf u6.1))) C (hmJ13_copyOf_2 hg) hdJ13_copyOf_2 cwJ13_300 rfl ⟨Nat.le_of_ble_eq_true rfl, Nat.le_of_ble_eq_true rfl⟩ ⟨Nat.le_of_ble_eq_true rfl, Nat.le_of_ble_eq_true rfl⟩ (Nat.le_of_ble_eq_true rfl) dJ13_copyOf_6 9 rfl ?_
  refine je_ltq (x := u6.1) (st := []) h ?_
  clear h
  intro x6 h
  refine jh_lt (t0 := u6.2) h ?_
  clear h
  intro t6 h
  cases h
  exact je_aretA C dJ13_copyOf_9
theorem hdJ12_newLength : je_hd yJ12_newLength 3 := ⟨by decide +kernel, by decide +kernel, by decide +kernel⟩
theorem hdJ13_copyOf : je_hd yJ13_copyOf 2 := ⟨by decide +kernel, by decide +kernel, by decide +kernel⟩
theorem cwJ2_66 : GoodIn lw_all (va_wsS "java/util/ArrayList" 66 yJ13_copyOf (ws_ yJ13_copyOf cJ13_copyOf 2 (some (.array (.object "java/lang/Object"))))) := lw_S q890 q891 q183 q892
theorem cwJ2_73 : GoodIn lw_all (va_wsS "java/util/ArrayList" 73 yJ12_newLength (ws_ yJ12_newLength cJ12_newLength 4 (some .int))) := lw_S q882 q883 q182 q884
theorem mlJ2_79 : Cond.methodLink "java/util/ArrayList" 79 Lib.Math.max.name ∈ lw_all ∧ Cond.static Lib.Math.max.name ∈ lw_all ∧ Cond.initialized "java/lang/Math" ∈ lw_all ∧ Cond.code Lib.Math.max.name Lib.Math.max.code 2 (some .int) ∈ lw_all := ⟨q931, q628, q173, q629⟩
set_option maxHeartbeats 4000000 in
theorem hwJ2_grow_2_20 {p : Program} {l : Launch} {e : Env} {s : State} {m : MethodId} {args : Array Value} {below : List Frame} {meth : Method} {c : Code} {G : je_G} {r9 : Option Nat × hT} (C : Cx p s m args meth c G "java/util/ArrayList" cJ2_grow_2 4 (some (.array (.object "java/lang/Object")))) (τ : hT) (a0 : Nat) (v1 : Int32) (v2 : Int32) (h : hbJ2_grow_2_20 G τ a0 v1 v2 = some r9) : Js p l e ({ frames := 3, cells := 1, slots := 40, locals := 92 } : Room) s m args below meth c G 4 (MQ below (je_Q G (some (va_rf r9.1)) r9.2.1 (G.2.1 + r9.2.2)) args s 1 40 (je_A G)) τ.1 (G.2.1 + τ.2) 0 0 20 [(0, .ref (G.2.1 + a0)), (1, .int v1), (2, .int v2)] [] := by
  unfold hbJ2_grow_2_20 at h
  refine je_iload_n C dJ2_grow_2_20 21 rfl 2 rfl ?_
  refine je_iload_n C dJ2_grow_2_21 22 rfl 1 rfl ?_
  refine je_iload_n C dJ2_grow_2_22 23 rfl 2 rfl ?_
  refine je_isub C dJ2_grow_2_23 24 rfl ?_
  refine je_iload_n C dJ2_grow_2_24 25 rfl 2 rfl ?_
  refine je_iconst C (1) dJ2_grow_2_25 26 rfl ic_1 ?_
  refine je_ishr C dJ2_grow_2_26 27 rfl ?_
  replace h := p_cl_inv h
  obtain ⟨x27, hg, h⟩ := h
  refine je_callS (As := [.int v2, .int (v1 - v2), .int (v2 >>> ((1 : Int32) &&& 31))]) (rest := []) (o := (some (.int x27))) C (hmJ12_newLength hg) hdJ12_newLength cwJ2_73 rfl ⟨Nat.le_of_ble_eq_true rfl, Nat.le_of_ble_eq_true rfl⟩ ⟨Nat.le_of_ble_eq_true rfl, Nat.le_of_ble_eq_true rfl⟩ (Nat.le_of_ble_eq_true rfl) dJ2_grow_2_27 30 rfl ?_
  refine je_istore_n C dJ2_grow_2_30 31 rfl (Nat.le_of_ble_eq_true rfl) [(3, .int x27), (0, .ref (G.2.1 + a0)), (1, .int v1), (2, .int v2)] rfl ?_
  refine je_aload_n C dJ2_grow_2_31 32 rfl 1 rfl ?_
  refine je_aload_n C dJ2_grow_2_32 33 rfl 1 rfl ?_
  replace h := p_ob_inv h
  obtain ⟨V33, he, h⟩ := h
  replace h := p_vr_inv h
  obtain ⟨x33, hv, h⟩ := h
  refine je_get (k := 1) C he rfl in_J2 (by decide) q231 rfl dJ2_grow_2_33 36 rfl hv ?_
  refine je_iload_n C dJ2_grow_2_36 37 rfl 0 rfl ?_
  replace h := p_cl_inv h
  obtain ⟨u37, hg, h⟩ := h
  refine je_callS (As := [va_rf x33, .int x27]) (rest := [.ref (G.2.1 + a0)]) (o := (some (va_rf u37.1))) C (hmJ13_copyOf hg) hdJ13_copyOf cwJ2_66 rfl ⟨Nat.le_of_ble_eq_true rfl, Nat.le_of_ble_eq_true rfl⟩ ⟨Nat.le_of_ble_eq_true rfl, Nat.le_of_ble_eq_true rfl⟩ (Nat.le_of_ble_eq_true rfl) dJ2_grow_2_37 40 rfl ?_
  refine je_ltq (x := u37.1) (st := [.ref (G.2.1 + a0)]) h ?_
  clear h
  intro x37 h
  refine jh_lt (t0 := u37.2) h ?_
  clear h
  intro t37 h
  refine je_dupx1 C dJ2_grow_2_40 (by cases x37 <;> rfl) rfl 41 rfl ?_
  replace h := p_ob_inv h
  obtain ⟨V41, he, h⟩ := h
  refine je_put (k := 1) (v := va_rf x37) C he rfl in_J2 tyJ2 tyJ2_ok nmJ2 (by decide) q231 rfl rfl je_refnarA je_reffitA dJ2_grow_2_41 44 rfl ?_
  refine jh_lt h ?_
  clear h
  intro t41 h
  cases h
  exact je_aretA C dJ2_grow_2_44
set_option maxHeartbeats 4000000 in
theorem hmJ2_grow_2 {l : Launch} {G : je_G} {τ : hT} {a0 : Nat} {v1 : Int32} {r9 : Option Nat × hT} (h : hJ2_grow_2 G τ a0 v1 = some r9) : MetS l G yJ2_grow_2 cJ2_grow_2 4 (some (.array (.object "java/lang/Object"))) 3 92 1 40 [.ref (G.2.1 + a0), .int v1] τ.1 (G.2.1 + τ.2) (some (va_rf r9.1)) r9.2.1 (G.2.1 + r9.2.2) := by
  refine je_met "java/util/ArrayList" rfl (by decide +kernel) (Nat.le_of_ble_eq_true rfl) [(0, .ref (G.2.1 + a0)), (1, .int v1)] rfl (fun p e s m args below meth c C => ?_)
  unfold hJ2_grow_2 at h
  refine je_aload_n C dJ2_grow_2_0 1 rfl 0 rfl ?_
  replace h := p_ob_inv h
  obtain ⟨V1, he, h⟩ := h
  replace h := p_vr_inv h
  obtain ⟨x1, hv, h⟩ := h
  refine je_get (k := 1) C he rfl in_J2 (by decide) q231 rfl dJ2_grow_2_1 4 rfl hv ?_
  replace h := p_al_inv h
  obtain ⟨n4, hx, h⟩ := h
  refine je_alenX C hx dJ2_grow_2_4 5 rfl ?_
  refine je_lti h ?_
  clear h
  intro t5 h
  refine je_istore_n C dJ2_grow_2_5 6 rfl (Nat.le_of_ble_eq_true rfl) [(2, .int t5), (0, .ref (G.2.1 + a0)), (1, .int v1)] rfl ?_
  refine je_iload_n C dJ2_grow_2_6 7 rfl 0 rfl ?_
  refine je_if_gt C 20 dJ2_grow_2_7 10 rfl rfl h ?_ ?_
  · clear h
    intro h
    refine je_sub [1, 2, 0] [(0, .ref (G.2.1 + a0)), (1, .int v1), (2, .int t5)] rfl ?_
    exact hwJ2_grow_2_20 C τ a0 v1 t5 h
  clear h
  intro h
  refine je_aload_n C dJ2_grow_2_10 11 rfl 1 rfl ?_
  replace h := p_ob_inv h
  obtain ⟨V11, he, h⟩ := h
  replace h := p_vr_inv h
  obtain ⟨x11, hv, h⟩ := h
  refine je_get (k := 1) C he rfl in_J2 (by decide) q231 rfl dJ2_grow_2_11 14 rfl hv ?_
  refine je_gets C (je_zDC C.2.2.2.2.2.2.2.2) q229 rfl dJ2_grow_2_14 17 rfl ?_
  refine je_acmp_eq (x := x11) (y := (some (G.2.2.2.1 6))) C 45 dJ2_grow_2_17 20 rfl rfl h ?_ ?_
  · clear h
    intro h
    refine je_aload_n C dJ2_grow_2_45 46 rfl 1 rfl ?_
    refine je_bipush C (10) dJ2_grow_2_46 48 rfl bp_10 ?_
    refine je_iload_n C dJ2_grow_2_48 49 rfl 2 rfl ?_
    refine je_mmax C ⟨Nat.le_of_ble_eq_true rfl, Nat.le_of_ble_eq_true rfl⟩ (Nat.le_of_ble_eq_true rfl) mlJ2_79 dJ2_grow_2_49 52 rfl ⟨Nat.le_of_ble_eq_true rfl, Nat.le_of_ble_eq_true rfl⟩ ?_
    refine je_lti h ?_
    clear h
    intro t52 h
    replace h := p_sm_inv h
    obtain ⟨hs0, hs1, h⟩ := h
    refine je_anew C rfl hs0 (by omega) q932 rfl (Nat.le_of_ble_eq_true rfl) (by show 0 + _ ≤ 40; omega) dJ2_grow_2_52 55 rfl ?_
    refine je_widen 1 40 (by decide) (by omega) ?_
    refine je_ltr h ?_
    clear h
    intro b52 h
    refine jh_lt h ?_
    clear h
    intro t52_9 h
    refine je_dupx1 C dJ2_grow_2_55 rfl rfl 56 rfl ?_
    replace h := p_ob_inv h
    obtain ⟨V56, he, h⟩ := h
    refine je_put (k := 1) (v := .ref (G.2.1 + b52)) C he rfl in_J2 tyJ2 tyJ2_ok nmJ2 (by decide) q231 rfl rfl rfl rfl dJ2_grow_2_56 59 rfl ?_
    refine jh_lt h ?_
    clear h
    intro t56 h
    cases h
    exact je_aretA (x := (some (G.2.1 + b52))) C dJ2_grow_2_59
  clear h
  intro h
  refine je_sub [1, 2, 0] [(0, .ref (G.2.1 + a0)), (1, .int v1), (2, .int t5)] rfl ?_
  exact hwJ2_grow_2_20 C τ a0 v1 t5 h
theorem hdJ2_grow_2 : je_hd yJ2_grow_2 1 := ⟨by decide +kernel, by decide +kernel, by decide +kernel⟩
theorem cwJ2_69 : GoodIn lw_all (wsV "java/util/ArrayList" 69 "java/util/ArrayList" yJ2_grow_2 (ws_ yJ2_grow_2 cJ2_grow_2 4 (some (.array (.object "java/lang/Object"))))) := lw_V q878 q880 qs19 q165 q881
set_option maxHeartbeats 4000000 in
theorem hmJ2_grow {l : Launch} {G : je_G} {τ : hT} {a0 : Nat} {r9 : Option Nat × hT} (h : hJ2_grow G τ a0 = some r9) : MetS l G yJ2_grow cJ2_grow 1 (some (.array (.object "java/lang/Object"))) 4 115 1 40 [.ref (G.2.1 + a0)] τ.1 (G.2.1 + τ.2) (some (va_rf r9.1)) r9.2.1 (G.2.1 + r9.2.2) := by
  refine je_met "java/util/ArrayList" rfl (by decide +kernel) (Nat.le_of_ble_eq_true rfl) [(0, .ref (G.2.1 + a0))] rfl (fun p e s m args below meth c C => ?_)
  unfold hJ2_grow at h
  refine je_aload_n C dJ2_grow_0 1 rfl 0 rfl ?_
  refine je_aload_n C dJ2_grow_1 2 rfl 0 rfl ?_
  replace h := p_ob_inv h
  obtain ⟨V2, he, h⟩ := h
  replace h := p_vi_inv h
  obtain ⟨x2, hv, h⟩ := h
  refine je_get (k := 2) C he rfl in_J2 (by decide) q232 rfl dJ2_grow_2 5 rfl hv ?_
  refine je_iconst C (1) dJ2_grow_5 6 rfl ic_1 ?_
  refine je_iadd C dJ2_grow_6 7 rfl ?_
  replace h := p_ob_inv h
  obtain ⟨V7, he, h⟩ := h
  replace h := p_cl_inv h
  obtain ⟨u7, hg, h⟩ := h
  refine je_callV (As := [.int (x2 + (1 : Int32))]) (rest := []) (o := (some (va_rf u7.1))) C (hmJ2_grow_2 hg) he rfl hdJ2_grow_2 rfl cwJ2_69 rfl ⟨Nat.le_of_ble_eq_true rfl, Nat.le_of_ble_eq_true rfl⟩ ⟨Nat.le_of_ble_eq_true rfl, Nat.le_of_ble_eq_true rfl⟩ (Nat.le_of_ble_eq_true rfl) dJ2_grow_7 10 rfl ?_
  refine je_ltq (x := u7.1) (st := []) h ?_
  clear h
  intro x7 h
  refine jh_lt (t0 := u7.2) h ?_
  clear h
  intro t7 h
  cases h
  exact je_aretA C dJ2_grow_10
theorem hdJ2_grow : je_hd yJ2_grow 0 := ⟨by decide +kernel, by decide +kernel, by decide +kernel⟩
theorem cwJ2_129 : GoodIn lw_all (wsV "java/util/ArrayList" 129 "java/util/ArrayList" yJ2_grow (ws_ yJ2_grow cJ2_grow 1 (some (.array (.object "java/lang/Object"))))) := lw_V q874 q876 qs18 q165 q877
set_option maxHeartbeats 4000000 in
theorem hwJ2_add_2_11 {p : Program} {l : Launch} {e : Env} {s : State} {m : MethodId} {args : Array Value} {below : List Frame} {meth : Method} {c : Code} {G : je_G} {r9 : hT} (C : Cx p s m args meth c G "java/util/ArrayList" cJ2_add_2 4 none) (τ : hT) (a0 : Nat) (q1 : Option Nat) (q2 : Option Nat) (v3 : Int32) (h : hbJ2_add_2_11 G τ a0 q1 q2 v3 = some r9) : Js p l e ({ frames := 5, cells := 1, slots := 40, locals := 135 } : Room) s m args below meth c G 4 (MQ below (je_Q G none r9.1 (G.2.1 + r9.2)) args s 1 40 (je_A G)) τ.1 (G.2.1 + τ.2) 1 40 11 [(0, .ref (G.2.1 + a0)), (1, va_rf q1), (2, va_rf q2), (3, .int v3)] [] := by
  unfold hbJ2_add_2_11 at h
  refine je_aloadR_n C dJ2_add_2_11 12 rfl 2 rfl ?_
  refine je_iload_n C dJ2_add_2_12 13 rfl 3 rfl ?_
  refine je_aloadR_n C dJ2_add_2_13 14 rfl 1 rfl ?_
  obtain ⟨j14, hj9, h8⟩ := p_at_inv h
  clear h
  subst hj9
  have h := h8
  clear h8
  obtain ⟨j14_2, hj9, h8⟩ := p_at_inv h
  clear h
  subst hj9
  have h := h8
  clear h8
  replace h := p_it_inv h
  obtain ⟨c14, Vv, hev, hci, h⟩ := h
  obtain ⟨r0, hr0, hca⟩ := castIt hci
  replace h := p_aO_inv h
  obtain ⟨n14, f14, he, h⟩ := h
  replace h := p_ck_inv h
  obtain ⟨hin, h⟩ := h
  refine je_aast C he hev hr0 hca hin dJ2_add_2_14 15 rfl ?_
  refine jh_lt h ?_
  clear h
  intro t14 h
  refine je_aload_n C dJ2_add_2_15 16 rfl 0 rfl ?_
  refine je_iload_n C dJ2_add_2_16 17 rfl 3 rfl ?_
  refine je_iconst C (1) dJ2_add_2_17 18 rfl ic_1 ?_
  refine je_iadd C dJ2_add_2_18 19 rfl ?_
  replace h := p_ob_inv h
  obtain ⟨V19, he, h⟩ := h
  refine je_put (k := 2) (v := .int (v3 + (1 : Int32))) C he rfl in_J2 tyJ2 tyJ2_ok nmJ2 (by decide) q232 rfl rfl rfl rfl dJ2_add_2_19 22 rfl ?_
  refine jh_lt h ?_
  clear h
  intro t19 h
  cases h
  exact je_vret C dJ2_add_2_22
set_option maxHeartbeats 4000000 in
theorem hmJ2_add_2 {l : Launch} {G : je_G} {τ : hT} {a0 : Nat} {q1 : Option Nat} {q2 : Option Nat} {v3 : Int32} {r9 : hT} (h : hJ2_add_2 G τ a0 q1 q2 v3 = some r9) : MetS l G yJ2_add_2 cJ2_add_2 4 none 5 135 1 40 [.ref (G.2.1 + a0), va_rf q1, va_rf q2, .int v3] τ.1 (G.2.1 + τ.2) none r9.1 (G.2.1 + r9.2) := by
  refine je_met "java/util/ArrayList" rfl (by decide +kernel) (by cases q1 <;> cases q2 <;> exact Nat.le_of_ble_eq_true rfl) [(0, .ref (G.2.1 + a0)), (1, va_rf q1), (2, va_rf q2), (3, .int v3)] (by cases q1 <;> cases q2 <;> rfl) (fun p e s m args below meth c C => ?_)
  unfold hJ2_add_2 at h
  refine je_iload_n C dJ2_add_2_0 1 rfl 3 rfl ?_
  refine je_aloadR_n C dJ2_add_2_1 2 rfl 2 rfl ?_
  replace h := p_al_inv h
  obtain ⟨n2, hx, h⟩ := h
  refine je_alenX C hx dJ2_add_2_2 3 rfl ?_
  refine je_icmp_ne C 11 dJ2_add_2_3 6 rfl rfl h ?_ ?_
  · clear h
    intro h
    refine je_widen 1 40 (by decide) (by decide) ?_
    exact hwJ2_add_2_11 C τ a0 q1 q2 v3 h
  clear h
  intro h
  refine je_aload_n C dJ2_add_2_6 7 rfl 0 rfl ?_
  replace h := p_ob_inv h
  obtain ⟨V7, he, h⟩ := h
  replace h := p_cl_inv h
  obtain ⟨u7, hg, h⟩ := h
  refine je_callV (As := []) (rest := []) (o := (some (va_rf u7.1))) C (hmJ2_grow hg) he rfl hdJ2_grow rfl cwJ2_129 rfl ⟨Nat.le_of_ble_eq_true rfl, Nat.le_of_ble_eq_true rfl⟩ ⟨Nat.le_of_ble_eq_true rfl, Nat.le_of_ble_eq_true rfl⟩ (Nat.le_of_ble_eq_true rfl) dJ2_add_2_7 10 rfl ?_
  refine je_ltq (x := u7.1) (st := []) h ?_
  clear h
  intro x7 h
  refine jh_lt (t0 := u7.2) h ?_
  clear h
  intro t7 h
  refine je_astoreR_n C dJ2_add_2_10 11 rfl (Nat.le_of_ble_eq_true rfl) [(2, va_rf x7), (0, .ref (G.2.1 + a0)), (1, va_rf q1), (3, .int v3)] (by cases q1 <;> rfl) ?_
  refine je_sub [1, 2, 0, 3] [(0, .ref (G.2.1 + a0)), (1, va_rf q1), (2, va_rf x7), (3, .int v3)] rfl ?_
  exact hwJ2_add_2_11 C t7 a0 q1 x7 v3 h
theorem hdJ2_add_2 : je_hd yJ2_add_2 3 := ⟨by decide +kernel, by decide +kernel, by decide +kernel⟩
theorem cwJ2_131 : GoodIn lw_all (wsV "java/util/ArrayList" 131 "java/util/ArrayList" yJ2_add_2 (ws_ yJ2_add_2 cJ2_add_2 4 none)) := lw_V q870 q872 qs17 q165 q873
set_option maxHeartbeats 4000000 in
theorem hmJ2_add {l : Launch} {G : je_G} {τ : hT} {a0 : Nat} {q1 : Option Nat} {r9 : Int32 × hT} (h : hJ2_add G τ a0 q1 = some r9) : MetS l G yJ2_add cJ2_add 2 (some .boolean) 6 158 1 40 [.ref (G.2.1 + a0), va_rf q1] τ.1 (G.2.1 + τ.2) (some (.int r9.1)) r9.2.1 (G.2.1 + r9.2.2) := by
  refine je_met "java/util/ArrayList" rfl (by decide +kernel) (by cases q1 <;> exact Nat.le_of_ble_eq_true rfl) [(0, .ref (G.2.1 + a0)), (1, va_rf q1)] (by cases q1 <;> rfl) (fun p e s m args below meth c C => ?_)
  unfold hJ2_add at h
  refine je_aload_n C dJ2_add_0 1 rfl 0 rfl ?_
  refine je_dup C dJ2_add_1 2 rfl rfl ?_
  replace h := p_ob_inv h
  obtain ⟨V2, he, h⟩ := h
  replace h := p_vi_inv h
  obtain ⟨x2, hv, h⟩ := h
  refine je_getU (k := 0) C he rfl in_J2 (by decide) q234 q235 dJ2_add_2 5 rfl hv ?_
  refine je_iconst C (1) dJ2_add_5 6 rfl ic_1 ?_
  refine je_iadd C dJ2_add_6 7 rfl ?_
  replace h := p_ob_inv h
  obtain ⟨V7, he, h⟩ := h
  refine je_putU (k := 0) (v := .int (x2 + (1 : Int32))) C he rfl in_J2 tyJ2 tyJ2_ok nmJ2 (by decide) q234 q235 rfl rfl rfl dJ2_add_7 10 rfl ?_
  refine jh_lt h ?_
  clear h
  intro t7 h
  refine je_aload_n C dJ2_add_10 11 rfl 0 rfl ?_
  refine je_aloadR_n C dJ2_add_11 12 rfl 1 rfl ?_
  refine je_aload_n C dJ2_add_12 13 rfl 0 rfl ?_
  replace h := p_ob_inv h
  obtain ⟨V13, he, h⟩ := h
  replace h := p_vr_inv h
  obtain ⟨x13, hv, h⟩ := h
  refine je_get (k := 1) C he rfl in_J2 (by decide) q231 rfl dJ2_add_13 16 rfl hv ?_
  refine je_aload_n C dJ2_add_16 17 rfl 0 rfl ?_
  replace h := p_ob_inv h
  obtain ⟨V17, he, h⟩ := h
  replace h := p_vi_inv h
  obtain ⟨x17, hv, h⟩ := h
  refine je_get (k := 2) C he rfl in_J2 (by decide) q232 rfl dJ2_add_17 20 rfl hv ?_
  replace h := p_ob_inv h
  obtain ⟨V20, he, h⟩ := h
  replace h := p_cl_inv h
  obtain ⟨u20, hg, h⟩ := h
  refine je_callV (As := [va_rf q1, va_rf x13, .int x17]) (rest := []) (o := none) C (hmJ2_add_2 hg) he rfl hdJ2_add_2 rfl cwJ2_131 rfl ⟨Nat.le_of_ble_eq_true rfl, Nat.le_of_ble_eq_true rfl⟩ ⟨Nat.le_of_ble_eq_true rfl, Nat.le_of_ble_eq_true rfl⟩ (Nat.le_of_ble_eq_true rfl) dJ2_add_20 23 rfl ?_
  refine jh_lt (t0 := u20) h ?_
  clear h
  intro t20 h
  refine je_iconst C (1) dJ2_add_23 24 rfl ic_1 ?_
  cases h
  exact je_zret C dJ2_add_24 (Or.inr rfl)
set_option maxHeartbeats 4000000 in
theorem hmX7_there {l : Launch} {G : je_G} {F : Nat} {τ : hS} {a0 : Nat} {v1 : Int32} {r9 : (Nat × hS) ⊕ (Int32 × hS)} (h : hX7_there G F τ a0 v1 = some r9) : MetX l G yX7_there cX7_there 2 (some .int) 7 152 [.ref (G.2.1 + a0), .int v1] τ (xI r9) := by
  by_cases hDC : τ.2.2 ≤ DC
  · refine jx_met "MinistryDesks$Reader" rfl (by decide +kernel) (Nat.le_of_ble_eq_true rfl) [(0, .ref (G.2.1 + a0)), (1, .int v1)] rfl (fun p e s m args below meth c C hnt => ?_)
    have hc : τ.2.2 + 0 = τ.2.2 ∧ τ.2.2 ≤ DC := ⟨rfl, hDC⟩
    unfold hX7_there at h
    obtain ⟨-, h⟩ := p_pr_inv h
    refine je_widen 0 (64 * 0) (Nat.le_refl _) (Nat.le_refl _) ?_
    refine je_iload_n C dX7_there_0 1 rfl 1 rfl ?_
    refine je_if_ge C 17 dX7_there_1 4 rfl rfl h ?_ ?_
    · clear h
      intro h
      refine je_aload_n C dX7_there_17 18 rfl 0 rfl ?_
      replace h := p_ob_inv h
      obtain ⟨V18, he, h⟩ := h
      replace h := p_cl_inv h
      obtain ⟨u18, hg, h⟩ := h
      refine je_callV (As := []) (rest := []) (o := none) C (hmX7_take hg) he rfl hdX7_take rfl cwX7_107 rfl ⟨Nat.le_of_ble_eq_true rfl, Nat.le_of_ble_eq_true rfl⟩ ⟨jx_f1 (k := 0) hc hc.2, jx_f2 (k := 0) (n := 0) hc hc.2 (Nat.le_of_ble_eq_true rfl)⟩ (Nat.le_of_ble_eq_true rfl) dX7_there_18 21 rfl ?_
      refine je_widen (0) (64 * (0)) (Nat.le_refl _) (jx_f30 (Nat.le_of_ble_eq_true rfl)) ?_
      refine jx_lt (t0 := x_of u18 (τ.2.2 + 0)) h ?_
      clear h
      intro t18 e2 h
      replace hc : τ.2.2 + (0) = t18.2.2 ∧ t18.2.2 ≤ DC := jx_f80 (k := 0) e2 hc hc.2
      clear e2 hg
      refine je_iload_n C dX7_there_21 22 rfl 1 rfl ?_
      cases h
      exact jx_ret hc.1 (Nat.le_refl _) (je_iret C dX7_there_22)
    clear h
    intro h
    replace h := p_pr_inv h
    obtain ⟨hb, h⟩ := h
    refine je_new C (ci := 19) rfl in_X8 tyX8 tyX8_ok q728 q729 q179 rfl (jx_f1 (k := 1) hc hb) (jx_f2 (k := 1) (n := 8) hc hb (Nat.le_of_ble_eq_true rfl)) dX7_there_4 7 rfl ?_
    refine je_widen (0 + 1) (64 * (0 + 1)) (Nat.le_refl _) (jx_f3 (Nat.le_of_ble_eq_true rfl)) ?_
    refine je_ltr h ?_
    clear h
    intro b4 h
    refine jx_lt h ?_
    clear h
    intro t4 e2 h
    replace hc : τ.2.2 + (0 + 1) = t4.2.2 ∧ t4.2.2 ≤ DC := jx_f4 (k := 1) e2 hc hb
    clear e2 hb
    refine je_dup C dX7_there_7 8 rfl rfl ?_
    refine je_iconst C (4) dX7_there_8 9 rfl ic_4 ?_
    refine je_aload_n C dX7_there_9 10 rfl 0 rfl ?_
    replace h := p_ob_inv h
    obtain ⟨V10, he, h⟩ := h
    replace h := p_vi_inv h
    obtain ⟨x10, hv, h⟩ := h
    refine je_get (k := 5) C he rfl in_X7 (by decide) q556 rfl dX7_there_10 13 rfl hv ?_
    replace h := p_cl_inv h
    obtain ⟨u13, hg, h⟩ := h
    refine je_callI (As := [.int (4 : Int32), .int x10]) (rest := [.ref (G.2.1 + b4)]) C (hmX8_init hg) hdX8_init rfl ccX7_96 rfl ⟨Nat.le_of_ble_eq_true rfl, Nat.le_of_ble_eq_true rfl⟩ ⟨jx_f1 (k := 0) hc hc.2, jx_f2 (k := 0) (n := 0) hc hc.2 (Nat.le_of_ble_eq_true rfl)⟩ (Nat.le_of_ble_eq_true rfl) dX7_there_13 16 rfl ?_
    refine je_widen (0 + 1) (64 * (0 + 1)) (Nat.le_refl _) (jx_f30 (Nat.le_of_ble_eq_true rfl)) ?_
    refine jx_lt (t0 := x_of u13 (t4.2.2 + 0)) h ?_
    clear h
    intro t13 e2 h
    replace hc : τ.2.2 + (0 + 1) = t13.2.2 ∧ t13.2.2 ≤ DC := jx_f80 (k := 0) e2 hc hc.2
    clear e2 hg
    replace h := p_ob_inv h
    obtain ⟨V16, he, h⟩ := h
    cases h
    exact jx_athrow C hnt he rfl hc.1 (Nat.le_refl _) dX7_there_16
  · unfold hX7_there at h
    exact absurd (p_pr_inv h).1 hDC
set_option maxHeartbeats 4000000 in
theorem hwX2_fact_2 {p : Program} {l : Launch} {e : Env} {s : State} {m : MethodId} {args : Array Value} {below : List Frame} {meth : Method} {c : Code} {G : je_G} {F : Nat} {τ : hT} {r9 : Int32} (C : Cx p s m args meth c G "MinistryDesks$House" cX2_fact 3 (some .int)) : ∀ (n : Nat) (a0 : Nat) (v1 : Int32) (v2 : Int32), hbX2_fact_2 G F n τ a0 v1 v2 = some r9 → Js p l e ({ frames := 3, cells := 0, slots := 0, locals := 64 } : Room) s m args below meth c G 3 (MQ below (je_Q G (some (.int r9)) τ.1 (G.2.1 + τ.2)) args s 0 0 (je_A G)) τ.1 (G.2.1 + τ.2) 0 0 2 [(0, .ref (G.2.1 + a0)), (1, .int v1), (2, .int v2)] [] := by
  intro n
  induction n with
  | zero =>
    intro a0 v1 v2 h
    cases h
  | succ n ih =>
    intro a0 v1 v2 h
    rw [hbX2_fact_2] at h
    refine je_iload_n C dX2_fact_2 3 rfl 2 rfl ?_
    refine je_aload_n C dX2_fact_3 4 rfl 0 rfl ?_
    replace h := p_ob_inv h
    obtain ⟨V4, he, h⟩ := h
    replace h := p_vr_inv h
    obtain ⟨x4, hv, h⟩ := h
    refine je_get (k := 1) C he rfl in_X2 (by decide) q248 rfl dX2_fact_4 7 rfl hv ?_
    obtain ⟨j7, hj9, h8⟩ := p_at_inv h
    clear h
    subst hj9
    have h := h8
    clear h8
    replace h := p_ob_inv h
    obtain ⟨V7, he, h⟩ := h
    replace h := p_cl_inv h
    obtain ⟨x7, hg, h⟩ := h
    refine je_callV (As := []) (rest := [.int v2]) (o := (some (.int x7))) C (hmJ2_size hg) he rfl hdJ2_size rfl cwX2_37 rfl ⟨Nat.le_of_ble_eq_true rfl, Nat.le_of_ble_eq_true rfl⟩ ⟨Nat.le_of_ble_eq_true rfl, Nat.le_of_ble_eq_true rfl⟩ (Nat.le_of_ble_eq_true rfl) dX2_fact_7 10 rfl ?_
    refine je_icmp_ge C 39 dX2_fact_10 13 rfl rfl h ?_ ?_
    · clear h
      intro h
      refine je_iconst C (-1) dX2_fact_39 40 rfl ic_m1 ?_
      cases h
      exact je_iret C dX2_fact_40
    clear h
    intro h
    refine je_aload_n C dX2_fact_13 14 rfl 0 rfl ?_
    replace h := p_ob_inv h
    obtain ⟨V14, he, h⟩ := h
    replace h := p_vr_inv h
    obtain ⟨x14, hv, h⟩ := h
    refine je_get (k := 1) C he rfl in_X2 (by decide) q248 rfl dX2_fact_14 17 rfl hv ?_
    refine je_iload_n C dX2_fact_17 18 rfl 2 rfl ?_
    obtain ⟨j18, hj9, h8⟩ := p_at_inv h
    clear h
    subst hj9
    have h := h8
    clear h8
    replace h := p_ob_inv h
    obtain ⟨V18, he, h⟩ := h
    replace h := p_cl_inv h
    obtain ⟨x18, hg, h⟩ := h
    refine je_callV (As := [.int v2]) (rest := []) (o := (some (va_rf x18))) C (hmJ2_get hg) he rfl hdJ2_get rfl cwX2_41 rfl ⟨Nat.le_of_ble_eq_true rfl, Nat.le_of_ble_eq_true rfl⟩ ⟨Nat.le_of_ble_eq_true rfl, Nat.le_of_ble_eq_true rfl⟩ (Nat.le_of_ble_eq_true rfl) dX2_fact_18 21 rfl ?_
    obtain ⟨j21, hj9, h8⟩ := p_at_inv h
    clear h
    subst hj9
    have h := h8
    clear h8
    replace h := p_ob_inv h
    obtain ⟨V21, he, h⟩ := h
    refine je_cast C he rfl q942 dX2_fact_21 24 rfl ?_
    replace h := p_ob_inv h
    obtain ⟨V24, he, h⟩ := h
    replace h := p_vi_inv h
    obtain ⟨x24, hv, h⟩ := h
    refine je_getN (k := 0) C he rfl in_X10 (by decide) q953 rfl dX2_fact_24 27 rfl hv ?_
    refine je_iload_n C dX2_fact_27 28 rfl 1 rfl ?_
    refine je_icmp_ne C 33 dX2_fact_28 31 rfl rfl h ?_ ?_
    · clear h
      intro h
      refine je_iinc C (1) dX2_fact_33 36 rfl 2 rfl ic_1 (Nat.le_of_ble_eq_true rfl) [(2, .int (v2 + (1 : Int32))), (0, .ref (G.2.1 + a0)), (1, .int v1)] rfl ?_
      refine je_goto C 2 dX2_fact_36 rfl ?_
      refine je_sub [1, 2, 0] [(0, .ref (G.2.1 + a0)), (1, .int v1), (2, .int (v2 + (1 : Int32)))] rfl ?_
      exact ih a0 v1 (v2 + (1 : Int32)) h
    clear h
    intro h
    refine je_iload_n C dX2_fact_31 32 rfl 2 rfl ?_
    cases h
    exact je_iret C dX2_fact_32
set_option maxHeartbeats 4000000 in
theorem hmX2_fact {l : Launch} {G : je_G} {F : Nat} {τ : hT} {a0 : Nat} {v1 : Int32} {r9 : Int32} (h : hX2_fact G F τ a0 v1 = some r9) : MetS l G yX2_fact cX2_fact 3 (some .int) 3 64 0 0 [.ref (G.2.1 + a0), .int v1] τ.1 (G.2.1 + τ.2) (some (.int r9)) τ.1 (G.2.1 + τ.2) := by
  refine je_met "MinistryDesks$House" rfl (by decide +kernel) (Nat.le_of_ble_eq_true rfl) [(0, .ref (G.2.1 + a0)), (1, .int v1)] rfl (fun p e s m args below meth c C => ?_)
  unfold hX2_fact at h
  refine je_iconst C (0) dX2_fact_0 1 rfl ic_0 ?_
  refine je_istore_n C dX2_fact_1 2 rfl (Nat.le_of_ble_eq_true rfl) [(2, .int (0 : Int32)), (0, .ref (G.2.1 + a0)), (1, .int v1)] rfl ?_
  refine je_sub [1, 2, 0] [(0, .ref (G.2.1 + a0)), (1, .int v1), (2, .int (0 : Int32))] rfl ?_
  exact hwX2_fact_2 C F a0 v1 (0 : Int32) h
theorem hoJ14_1 : Cond.methodLink "java/lang/Record" 1 Lib.objectInit ∈ lw_all ∧ Cond.instanceMethod Lib.objectInit ∈ lw_all ∧ Cond.code Lib.objectInit ⟨#[0xb1]⟩ 1 none ∈ lw_all := ⟨q951, q209, q210⟩
set_option maxHeartbeats 4000000 in
theorem hmJ14_init_X10 {l : Launch} {G : je_G} {τ : hT} {a0 : Nat} {r9 : Unit} (h : hJ14_init_X10 G τ a0 = some r9) : MetS l G yJ14_init cJ14_init 1 none 1 20 0 0 [.ref (G.2.1 + a0)] τ.1 (G.2.1 + τ.2) none τ.1 (G.2.1 + τ.2) := by
  refine je_metI "java/lang/Record" rfl (by decide +kernel) rfl (Nat.le_of_ble_eq_true rfl) [(0, .ref (G.2.1 + a0))] rfl (fun p e s m args below meth c C hI => ?_)
  unfold hJ14_init_X10 at h
  refine je_aload_n C dJ14_init_0 1 rfl 0 rfl ?_
  refine je_obji C hoJ14_1 ⟨Nat.le_of_ble_eq_true rfl, Nat.le_of_ble_eq_true rfl⟩ (Nat.le_of_ble_eq_true rfl) dJ14_init_1 4 rfl ?_
  cases h
  exact je_vret C dJ14_init_4
theorem hdJ14_init : je_hd yJ14_init 0 := ⟨by decide +kernel, by decide +kernel, by decide +kernel⟩
theorem ccX10_1 : Cond.methodLink "MinistryDesks$Fact" 1 yJ14_init ∈ lw_all ∧ Cond.instanceMethod yJ14_init ∈ lw_all ∧ Cond.initialized yJ14_init.cls ∈ lw_all ∧ Cond.code yJ14_init cJ14_init 1 none ∈ lw_all := ⟨q948, q949, q185, q950⟩
set_option maxHeartbeats 4000000 in
theorem hmX10_init {l : Launch} {G : je_G} {τ : hT} {a0 : Nat} {v1 : Int32} {v2 : Int32} {r9 : hT} (h : hX10_init G τ a0 v1 v2 = some r9) : MetS l G yX10_init cX10_init 3 none 2 40 0 0 [.ref (G.2.1 + a0), .int v1, .int v2] τ.1 (G.2.1 + τ.2) none r9.1 (G.2.1 + r9.2) := by
  refine je_metI "MinistryDesks$Fact" rfl (by decide +kernel) rfl (Nat.le_of_ble_eq_true rfl) [(0, .ref (G.2.1 + a0)), (1, .int v1), (2, .int v2)] rfl (fun p e s m args below meth c C hI => ?_)
  unfold hX10_init at h
  refine je_aload_n C dX10_init_0 1 rfl 0 rfl ?_
  replace h := p_cl_inv h
  obtain ⟨u1, hg, h⟩ := h
  refine je_callI (As := []) (rest := []) C (hmJ14_init_X10 hg) hdJ14_init rfl ccX10_1 rfl ⟨Nat.le_of_ble_eq_true rfl, Nat.le_of_ble_eq_true rfl⟩ ⟨Nat.le_of_ble_eq_true rfl, Nat.le_of_ble_eq_true rfl⟩ (Nat.le_of_ble_eq_true rfl) dX10_init_1 4 rfl ?_
  refine je_aload_n C dX10_init_4 5 rfl 0 rfl ?_
  refine je_iload_n C dX10_init_5 6 rfl 1 rfl ?_
  replace h := p_ob_inv h
  obtain ⟨V6, he, h⟩ := h
  refine je_putF (k := 0) (v := .int v1) C hI he rfl in_X10 tyX10 tyX10_ok nmX10 (by decide) q952 rfl rfl rfl rfl rfl dX10_init_6 9 rfl ?_
  refine jh_lt h ?_
  clear h
  intro t6 h
  refine je_aload_n C dX10_init_9 10 rfl 0 rfl ?_
  refine je_iload_n C dX10_init_10 11 rfl 2 rfl ?_
  replace h := p_ob_inv h
  obtain ⟨V11, he, h⟩ := h
  refine je_putF (k := 1) (v := .int v2) C hI he rfl in_X10 tyX10 tyX10_ok nmX10 (by decide) q954 rfl rfl rfl rfl rfl dX10_init_11 14 rfl ?_
  refine jh_lt h ?_
  clear h
  intro t11 h
  cases h
  exact je_vret C dX10_init_14
