/-! the system: walks of its methods: printed by gen -/
set_option maxRecDepth 100000
set_option maxHeartbeats 4000000 in
theorem wX1_allFree_9 {p : Program} {l : Launch} {e : Env} {s : State} {m : MethodId} {args : Array Value} {below : List Frame} {meth : Method} {c : Code} {G : je_G} {dyn : Nat → Option je_E} {sz : Nat} {F : Nat} {hb : Nat} {hu : hd_T} {κ : kp_K} {r9 : Int32} (C : Cx p s m args meth c G "MinistryDesks" cX1_allFree 3 (some .int)) (hH : HouseRep G dyn hb hu) : ∀ (n : Nat) (v1 : Int32) (v2 : Int32), bX1_allFree_9 F hb hu n κ v1 v2 = some r9 → Js p l e ({ frames := 5, cells := 0, slots := 0, locals := 140 } : Room) s m args below meth c G 3 (MQ below (je_Q G (some (.int r9)) (en2 G κ dyn) sz) args s 0 0 (je_A G)) (en2 G κ dyn) sz 0 0 9 [(0, .ref (G.2.1 + 0)), (1, .int v1), (2, .int v2)] [] := by
  intro n
  induction n with
  | zero =>
    intro v1 v2 h
    cases h
  | succ n ih =>
    intro v1 v2 h
    rw [bX1_allFree_9] at h
    refine je_iload_n C dX1_allFree_9 10 rfl 2 rfl ?_
    refine je_if_lt C 42 dX1_allFree_10 13 rfl rfl h (fun h => ?_) (fun h => ?_)
    · refine je_iload_n C dX1_allFree_42 43 rfl 1 rfl ?_
      cases h
      exact je_iret C dX1_allFree_43
    refine je_bipush C (7) dX1_allFree_13 15 rfl bp_7 ?_
    refine je_iload_n C dX1_allFree_15 16 rfl 1 rfl ?_
    refine je_imul C dX1_allFree_16 17 rfl ?_
    refine je_aload_n C dX1_allFree_17 18 rfl 0 rfl ?_
    obtain ⟨hx, h⟩ := p_hs_inv h
    refine gX1_22 C hx dX1_allFree_18 21 rfl ?_
    refine jh_listN C hH (t := 0) (by decide) q246 rfl dX1_allFree_21 24 rfl ?_
    refine je_iload_n C dX1_allFree_24 25 rfl 2 rfl ?_
    obtain ⟨hin0_v2, h⟩ := p_ck_inv h
    refine jh_get (t := 0) (rest := [.int ((7 : Int32) * v1)]) C hH (by decide) hin0_v2 cwX1_171 ⟨Nat.le_of_ble_eq_true rfl, Nat.le_of_ble_eq_true rfl⟩ (Nat.le_of_ble_eq_true rfl) dX1_allFree_25 28 rfl ⟨Nat.le_refl _, Nat.le_refl _⟩ ?_
    refine jh_cast0 C hH hin0_v2 q1422 dX1_allFree_28 31 rfl ?_
    refine jh_item0N C hH hin0_v2 (k := 1) (by decide) q854 rfl dX1_allFree_31 34 rfl ?_
    refine je_iadd C dX1_allFree_34 35 rfl ?_
    refine je_lti h (fun t35 h => ?_)
    refine je_istore_n C dX1_allFree_35 36 rfl (Nat.le_of_ble_eq_true rfl) [(1, .int t35), (0, .ref (G.2.1 + 0)), (2, .int v2)] rfl ?_
    refine je_iinc C (-1) dX1_allFree_36 39 rfl 2 rfl ic_m1 (Nat.le_of_ble_eq_true rfl) [(2, .int (v2 + (-1 : Int32))), (1, .int t35), (0, .ref (G.2.1 + 0))] rfl ?_
    refine je_goto C 9 dX1_allFree_39 rfl ?_
    refine je_sub [2, 1, 0] [(0, .ref (G.2.1 + 0)), (1, .int t35), (2, .int (v2 + (-1 : Int32)))] rfl ?_
    exact ih t35 (v2 + (-1 : Int32)) h
set_option maxHeartbeats 4000000 in
theorem metX1_allFree {l : Launch} {G : je_G} {dyn : Nat → Option je_E} {sz : Nat} {F : Nat} {hb : Nat} {hu : hd_T} {κ : kp_K}  {r9 : Int32} (hH : HouseRep G dyn hb hu) (h : pX1_allFree F hb hu κ = some r9) : MetS l G yX1_allFree cX1_allFree 3 (some .int) 5 140 0 0 [.ref (G.2.1 + 0)] (en2 G κ dyn) sz (some (.int r9)) (en2 G κ dyn) sz := by
  refine je_met "MinistryDesks" rfl (by decide +kernel) (Nat.le_of_ble_eq_true rfl) [(0, .ref (G.2.1 + 0))] rfl (fun p e s m args below meth c C => ?_)
  unfold pX1_allFree at h
  refine je_iconst C (0) dX1_allFree_0 1 rfl ic_0 ?_
  refine je_istore_n C dX1_allFree_1 2 rfl (Nat.le_of_ble_eq_true rfl) [(1, .int (0 : Int32)), (0, .ref (G.2.1 + 0))] rfl ?_
  refine je_aload_n C dX1_allFree_2 3 rfl 1 rfl ?_
  obtain ⟨t3, hg, h⟩ := p_cl_inv h
  refine je_callVi (As := []) (rest := []) C (metX1_desks hH hg) (en2_at kd0) rfl hdX1_desks rfl cwX1_166 rfl ⟨Nat.le_of_ble_eq_true rfl, Nat.le_of_ble_eq_true rfl⟩ (Nat.le_of_ble_eq_true rfl) dX1_allFree_3 6 rfl ⟨Nat.le_refl _, Nat.le_refl _⟩ ?_
  refine je_iconst C (1) dX1_allFree_6 7 rfl ic_1 ?_
  refine je_isub C dX1_allFree_7 8 rfl ?_
  refine je_lti h (fun t8 h => ?_)
  refine je_istore_n C dX1_allFree_8 9 rfl (Nat.le_of_ble_eq_true rfl) [(2, .int t8), (1, .int (0 : Int32)), (0, .ref (G.2.1 + 0))] rfl ?_
  refine je_sub [2, 1, 0] [(0, .ref (G.2.1 + 0)), (1, .int (0 : Int32)), (2, .int t8)] rfl ?_
  exact wX1_allFree_9 C hH F (0 : Int32) t8 h
theorem hdX1_allFree : je_hd yX1_allFree 0 := ⟨by decide +kernel, by decide +kernel, by decide +kernel⟩
theorem hdX1_isFact : je_hd yX1_isFact 1 := ⟨by decide +kernel, by decide +kernel, by decide +kernel⟩
theorem hdX1_layShares : je_hd yX1_layShares 1 := ⟨by decide +kernel, by decide +kernel, by decide +kernel⟩
theorem cwX1_363 : GoodIn lw_all (wsV "MinistryDesks" 363 "MinistryDesks" yX1_isFact (ws_ yX1_isFact cX1_isFact 2 (some .boolean))) := lw_V q1464 q1466 qs65 q161 q1467
theorem cwX1_366 : GoodIn lw_all (wsV "MinistryDesks" 366 "MinistryDesks" yX1_layShares (ws_ yX1_layShares cX1_layShares 8 none)) := lw_V q1468 q1470 qs66 q161 q1471
theorem cwX1_369 : GoodIn lw_all (wsV "MinistryDesks" 369 "MinistryDesks" yX1_allFree (ws_ yX1_allFree cX1_allFree 3 (some .int))) := lw_V q1481 q1483 qs69 q161 q1484
set_option maxHeartbeats 4000000 in
theorem wX1_share_55 {p : Program} {l : Launch} {e : Env} {s : State} {m : MethodId} {args : Array Value} {below : List Frame} {meth : Method} {c : Code} {G : je_G} {dyn : Nat → Option je_E} {sz : Nat} {F : Nat} {hb : Nat} {hu : hd_T} {r9 : Int32 × kp_K} {k46 : kp_K → Int32 → Int32 → Int32 → Int32 → Int32 → Option (Int32 × kp_K)} (C : Cx p s m args meth c G "MinistryDesks" cX1_share 6 (some .int)) (hH : HouseRep G dyn hb hu) (hk46 : ∀ (kq : kp_K) (q1 : Int32) (q2 : Int32) (q3 : Int32) (q4 : Int32) (q5 : Int32), k46 kq q1 q2 q3 q4 q5 = some r9 → Js p l e ({ frames := 7, cells := 0, slots := 0, locals := 197 } : Room) s m args below meth c G 6 (MQ below (je_Q G (some (.int r9.1)) (en2 G r9.2 dyn) sz) args s 0 0 (je_A G)) (en2 G kq dyn) sz 0 0 46 [(0, .ref (G.2.1 + 0)), (1, .int q1), (2, .int q2), (3, .int q3), (4, .int q4), (5, .int q5)] []) : ∀ (n : Nat) (κ : kp_K) (v1 : Int32) (v2 : Int32) (v3 : Int32) (v4 : Int32) (v5 : Int32), bX1_share_55 F hb hu k46 n κ v1 v2 v3 v4 v5 = some r9 → Js p l e ({ frames := 7, cells := 0, slots := 0, locals := 197 } : Room) s m args below meth c G 6 (MQ below (je_Q G (some (.int r9.1)) (en2 G r9.2 dyn) sz) args s 0 0 (je_A G)) (en2 G κ dyn) sz 0 0 55 [(0, .ref (G.2.1 + 0)), (1, .int v1), (2, .int v2), (3, .int v3), (4, .int v4), (5, .int v5)] [] := by
  intro n
  induction n with
  | zero =>
    intro κ v1 v2 v3 v4 v5 h
    cases h
  | succ n ih =>
    intro κ v1 v2 v3 v4 v5 h
    rw [bX1_share_55] at h
    refine je_aload_n C dX1_share_55 56 rfl 0 rfl ?_
    refine je_iload_n C dX1_share_56 57 rfl 3 rfl ?_
    refine je_iload C dX1_share_57 59 rfl 4 rfl ?_
    obtain ⟨t59, hg, h⟩ := p_cl_inv h
    refine je_callVi (As := [.int v3, .int v4]) (rest := []) C (metX1_keeping hg) (en2_at kd0) rfl hdX1_keeping rfl cwX1_355 rfl ⟨Nat.le_of_ble_eq_true rfl, Nat.le_of_ble_eq_true rfl⟩ (Nat.le_of_ble_eq_true rfl) dX1_share_59 62 rfl ⟨Nat.le_refl _, Nat.le_refl _⟩ ?_
    refine je_if_lt C 112 dX1_share_62 65 rfl rfl h (fun h => ?_) (fun h => ?_)
    · refine je_iinc C (1) dX1_share_112 115 rfl 4 rfl ic_1 (Nat.le_of_ble_eq_true rfl) [(4, .int (v4 + (1 : Int32))), (0, .ref (G.2.1 + 0)), (1, .int v1), (2, .int v2), (3, .int v3), (5, .int v5)] rfl ?_
      refine je_goto C 55 dX1_share_115 rfl ?_
      refine je_sub [1, 2, 3, 4, 0, 5] [(0, .ref (G.2.1 + 0)), (1, .int v1), (2, .int v2), (3, .int v3), (4, .int (v4 + (1 : Int32))), (5, .int v5)] rfl ?_
      exact ih κ v1 v2 v3 (v4 + (1 : Int32)) v5 h
    refine je_aload_n C dX1_share_65 66 rfl 0 rfl ?_
    refine je_iload C dX1_share_66 68 rfl 5 rfl ?_
    refine je_iload C dX1_share_68 70 rfl 4 rfl ?_
    refine je_iload_n C dX1_share_70 71 rfl 1 rfl ?_
    obtain ⟨t71, hg, h⟩ := p_cl_inv h
    refine je_callVi (As := [.int v5, .int v4, .int v1]) (rest := []) C (metX1_shareOf hH hg) (en2_at kd0) rfl hdX1_shareOf rfl cwX1_352 rfl ⟨Nat.le_of_ble_eq_true rfl, Nat.le_of_ble_eq_true rfl⟩ (Nat.le_of_ble_eq_true rfl) dX1_share_71 74 rfl ⟨Nat.le_refl _, Nat.le_refl _⟩ ?_
    refine je_aload_n C dX1_share_74 75 rfl 0 rfl ?_
    refine gX1_81 C dX1_share_75 78 rfl ?_
    refine je_sipush C (2401) dX1_share_78 81 rfl sp_2401 ?_
    refine je_iload C dX1_share_81 83 rfl 5 rfl ?_
    refine je_iconst C (1) dX1_share_83 84 rfl ic_1 ?_
    refine je_iadd C dX1_share_84 85 rfl ?_
    refine je_imul C dX1_share_85 86 rfl ?_
    refine je_aload_n C dX1_share_86 87 rfl 0 rfl ?_
    refine je_iload_n C dX1_share_87 88 rfl 3 rfl ?_
    refine je_iload C dX1_share_88 90 rfl 4 rfl ?_
    obtain ⟨t90, hg, h⟩ := p_cl_inv h
    refine je_callVi (As := [.int v3, .int v4]) (rest := [.int ((2401 : Int32) * (v5 + (1 : Int32))), .ref (G.2.1 + 62), .int t71]) C (metX1_keeping hg) (en2_at kd0) rfl hdX1_keeping rfl cwX1_355 rfl ⟨Nat.le_of_ble_eq_true rfl, Nat.le_of_ble_eq_true rfl⟩ (Nat.le_of_ble_eq_true rfl) dX1_share_90 93 rfl ⟨Nat.le_refl _, Nat.le_refl _⟩ ?_
    refine je_iadd C dX1_share_93 94 rfl ?_
    refine je_lti h (fun i94 h => ?_)
    refine jk_iald C kd62 dX1_share_94 95 rfl h (fun h => ?_)
    refine je_iadd C dX1_share_95 96 rfl ?_
    refine je_aload_n C dX1_share_96 97 rfl 0 rfl ?_
    refine gX1_81 C dX1_share_97 100 rfl ?_
    refine je_sipush C (2401) dX1_share_100 103 rfl sp_2401 ?_
    refine je_iload C dX1_share_103 105 rfl 5 rfl ?_
    refine je_imul C dX1_share_105 106 rfl ?_
    refine je_iload_n C dX1_share_106 107 rfl 3 rfl ?_
    refine je_iadd C dX1_share_107 108 rfl ?_
    refine je_lti h (fun i108 h => ?_)
    refine jk_iald C kd62 dX1_share_108 109 rfl h (fun h => ?_)
    refine je_icmp_eq C 118 dX1_share_109 112 rfl rfl h (fun h => ?_) (fun h => ?_)
    · refine je_aload_n C dX1_share_118 119 rfl 0 rfl ?_
      refine je_iload_n C dX1_share_119 120 rfl 3 rfl ?_
      refine je_iload C dX1_share_120 122 rfl 4 rfl ?_
      obtain ⟨t122, hg, h⟩ := p_cl_inv h
      refine je_callVi (As := [.int v3, .int v4]) (rest := []) C (metX1_keeping hg) (en2_at kd0) rfl hdX1_keeping rfl cwX1_355 rfl ⟨Nat.le_of_ble_eq_true rfl, Nat.le_of_ble_eq_true rfl⟩ (Nat.le_of_ble_eq_true rfl) dX1_share_122 125 rfl ⟨Nat.le_refl _, Nat.le_refl _⟩ ?_
      refine je_istore_n C dX1_share_125 126 rfl (Nat.le_of_ble_eq_true rfl) [(3, .int t122), (0, .ref (G.2.1 + 0)), (1, .int v1), (2, .int v2), (4, .int v4), (5, .int v5)] rfl ?_
      refine je_iinc C (1) dX1_share_126 129 rfl 5 rfl ic_1 (Nat.le_of_ble_eq_true rfl) [(5, .int (v5 + (1 : Int32))), (3, .int t122), (0, .ref (G.2.1 + 0)), (1, .int v1), (2, .int v2), (4, .int v4)] rfl ?_
      refine je_goto C 46 dX1_share_129 rfl ?_
      refine je_sub [2, 3, 4, 1, 5, 0] [(0, .ref (G.2.1 + 0)), (1, .int v1), (2, .int v2), (3, .int t122), (4, .int v4), (5, .int (v5 + (1 : Int32)))] rfl ?_
      exact hk46 κ v1 v2 t122 v4 (v5 + (1 : Int32)) h
    refine je_iinc C (1) dX1_share_112 115 rfl 4 rfl ic_1 (Nat.le_of_ble_eq_true rfl) [(4, .int (v4 + (1 : Int32))), (0, .ref (G.2.1 + 0)), (1, .int v1), (2, .int v2), (3, .int v3), (5, .int v5)] rfl ?_
    refine je_goto C 55 dX1_share_115 rfl ?_
    refine je_sub [1, 2, 3, 4, 0, 5] [(0, .ref (G.2.1 + 0)), (1, .int v1), (2, .int v2), (3, .int v3), (4, .int (v4 + (1 : Int32))), (5, .int v5)] rfl ?_
    exact ih κ v1 v2 v3 (v4 + (1 : Int32)) v5 h
set_option maxHeartbeats 4000000 in
theorem wX1_share_46 {p : Program} {l : Launch} {e : Env} {s : State} {m : MethodId} {args : Array Value} {below : List Frame} {meth : Method} {c : Code} {G : je_G} {dyn : Nat → Option je_E} {sz : Nat} {F : Nat} {hb : Nat} {hu : hd_T} {r9 : Int32 × kp_K} (C : Cx p s m args meth c G "MinistryDesks" cX1_share 6 (some .int)) (hH : HouseRep G dyn hb hu) : ∀ (n : Nat) (κ : kp_K) (v1 : Int32) (v2 : Int32) (v3 : Int32) (v4 : Int32) (v5 : Int32), bX1_share_46 F hb hu n κ v1 v2 v3 v4 v5 = some r9 → Js p l e ({ frames := 7, cells := 0, slots := 0, locals := 197 } : Room) s m args below meth c G 6 (MQ below (je_Q G (some (.int r9.1)) (en2 G r9.2 dyn) sz) args s 0 0 (je_A G)) (en2 G κ dyn) sz 0 0 46 [(0, .ref (G.2.1 + 0)), (1, .int v1), (2, .int v2), (3, .int v3), (4, .int v4), (5, .int v5)] [] := by
  intro n
  induction n with
  | zero =>
    intro κ v1 v2 v3 v4 v5 h
    cases h
  | succ n ih =>
    intro κ v1 v2 v3 v4 v5 h
    rw [bX1_share_46] at h
    refine je_iload C dX1_share_46 48 rfl 5 rfl ?_
    refine je_iload_n C dX1_share_48 49 rfl 2 rfl ?_
    refine je_icmp_gt C 132 dX1_share_49 52 rfl rfl h (fun h => ?_) (fun h => ?_)
    · refine je_iload C dX1_share_132 134 rfl 4 rfl ?_
      cases h
      exact je_iret C dX1_share_134
    refine je_iconst C (0) dX1_share_52 53 rfl ic_0 ?_
    refine je_istore C dX1_share_53 55 rfl (Nat.le_of_ble_eq_true rfl) [(4, .int (0 : Int32)), (0, .ref (G.2.1 + 0)), (1, .int v1), (2, .int v2), (3, .int v3), (5, .int v5)] rfl ?_
    refine je_sub [1, 2, 3, 4, 0, 5] [(0, .ref (G.2.1 + 0)), (1, .int v1), (2, .int v2), (3, .int v3), (4, .int (0 : Int32)), (5, .int v5)] rfl ?_
    exact wX1_share_55 C hH ih F κ v1 v2 v3 (0 : Int32) v5 h
set_option maxHeartbeats 4000000 in
theorem wX1_share_19 {p : Program} {l : Launch} {e : Env} {s : State} {m : MethodId} {args : Array Value} {below : List Frame} {meth : Method} {c : Code} {G : je_G} {dyn : Nat → Option je_E} {sz : Nat} {F : Nat} {hb : Nat} {hu : hd_T} {r9 : Int32 × kp_K} (C : Cx p s m args meth c G "MinistryDesks" cX1_share 6 (some .int)) (hH : HouseRep G dyn hb hu) (κ : kp_K) (v1 : Int32) (v2 : Int32) (h : bX1_share_19 F hb hu κ v1 v2 = some r9) : Js p l e ({ frames := 7, cells := 0, slots := 0, locals := 197 } : Room) s m args below meth c G 6 (MQ below (je_Q G (some (.int r9.1)) (en2 G r9.2 dyn) sz) args s 0 0 (je_A G)) (en2 G κ dyn) sz 0 0 19 [(0, .ref (G.2.1 + 0)), (1, .int v1), (2, .int v2)] [] := by
  unfold bX1_share_19 at h
  refine je_aload_n C dX1_share_19 20 rfl 0 rfl ?_
  refine je_iload_n C dX1_share_20 21 rfl 1 rfl ?_
  obtain ⟨k21, hg, h⟩ := p_cl_inv h
  refine je_callVv (As := [.int v1]) (rest := []) C (metX1_layShares hH hg) (en2_at kd0) rfl hdX1_layShares rfl cwX1_366 rfl ⟨Nat.le_of_ble_eq_true rfl, Nat.le_of_ble_eq_true rfl⟩ (Nat.le_of_ble_eq_true rfl) dX1_share_21 24 rfl ⟨Nat.le_refl _, Nat.le_refl _⟩ ?_
  refine je_aload_n C dX1_share_24 25 rfl 0 rfl ?_
  obtain ⟨t25, hg, h⟩ := p_cl_inv h
  refine je_callVi (As := []) (rest := []) C (metX1_allFree hH hg) (en2_at kd0) rfl hdX1_allFree rfl cwX1_369 rfl ⟨Nat.le_of_ble_eq_true rfl, Nat.le_of_ble_eq_true rfl⟩ (Nat.le_of_ble_eq_true rfl) dX1_share_25 28 rfl ⟨Nat.le_refl _, Nat.le_refl _⟩ ?_
  refine je_istore_n C dX1_share_28 29 rfl (Nat.le_of_ble_eq_true rfl) [(3, .int t25), (0, .ref (G.2.1 + 0)), (1, .int v1), (2, .int v2)] rfl ?_
  refine je_iload_n C dX1_share_29 30 rfl 3 rfl ?_
  refine je_if_ge C 40 dX1_share_30 33 rfl rfl h (fun h => ?_) (fun h => ?_)
  · refine je_iconst C (0) dX1_share_40 41 rfl ic_0 ?_
    refine je_istore C dX1_share_41 43 rfl (Nat.le_of_ble_eq_true rfl) [(4, .int (0 : Int32)), (3, .int t25), (0, .ref (G.2.1 + 0)), (1, .int v1), (2, .int v2)] rfl ?_
    refine je_iconst C (0) dX1_share_43 44 rfl ic_0 ?_
    refine je_istore C dX1_share_44 46 rfl (Nat.le_of_ble_eq_true rfl) [(5, .int (0 : Int32)), (4, .int (0 : Int32)), (3, .int t25), (0, .ref (G.2.1 + 0)), (1, .int v1), (2, .int v2)] rfl ?_
    refine je_sub [3, 4, 5, 2, 1, 0] [(0, .ref (G.2.1 + 0)), (1, .int v1), (2, .int v2), (3, .int t25), (4, .int (0 : Int32)), (5, .int (0 : Int32))] rfl ?_
    exact wX1_share_46 C hH F k21 v1 v2 t25 (0 : Int32) (0 : Int32) h
  refine je_aload_n C dX1_share_33 34 rfl 1 rfl ?_
  refine gX1_81 C dX1_share_34 37 rfl ?_
  refine je_iload_n C dX1_share_37 38 rfl 0 rfl ?_
  refine jk_iald C kd62 dX1_share_38 39 rfl h (fun h => ?_)
  cases h
  exact je_iret C dX1_share_39
set_option maxHeartbeats 4000000 in
theorem metX1_share {l : Launch} {G : je_G} {dyn : Nat → Option je_E} {sz : Nat} {F : Nat} {hb : Nat} {hu : hd_T} {κ : kp_K} {v1 : Int32} {v2 : Int32} {r9 : Int32 × kp_K} (hH : HouseRep G dyn hb hu) (h : pX1_share F hb hu κ v1 v2 = some r9) : MetS l G yX1_share cX1_share 6 (some .int) 7 197 0 0 [.ref (G.2.1 + 0), .int v1, .int v2] (en2 G κ dyn) sz (some (.int r9.1)) (en2 G r9.2 dyn) sz := by
  refine je_met "MinistryDesks" rfl (by decide +kernel) (Nat.le_of_ble_eq_true rfl) [(0, .ref (G.2.1 + 0)), (1, .int v1), (2, .int v2)] rfl (fun p e s m args below meth c C => ?_)
  unfold pX1_share at h
  refine je_iload_n C dX1_share_0 1 rfl 2 rfl ?_
  refine je_iconst C (-1) dX1_share_1 2 rfl ic_m1 ?_
  refine je_icmp_lt C 17 dX1_share_2 5 rfl rfl h (fun h => ?_) (fun h => ?_)
  · refine je_iconst C (-1) dX1_share_17 18 rfl ic_m1 ?_
    cases h
    exact je_iret C dX1_share_18
  refine je_iload_n C dX1_share_5 6 rfl 2 rfl ?_
  refine je_if_lt C 19 dX1_share_6 9 rfl rfl h (fun h => ?_) (fun h => ?_)
  · exact wX1_share_19 C hH κ v1 v2 h
  refine je_aload_n C dX1_share_9 10 rfl 0 rfl ?_
  refine je_iload_n C dX1_share_10 11 rfl 2 rfl ?_
  obtain ⟨t11, hg, h⟩ := p_cl_inv h
  refine je_callVi (As := [.int v2]) (rest := []) C (metX1_isFact hH hg) (en2_at kd0) rfl hdX1_isFact rfl cwX1_363 rfl ⟨Nat.le_of_ble_eq_true rfl, Nat.le_of_ble_eq_true rfl⟩ (Nat.le_of_ble_eq_true rfl) dX1_share_11 14 rfl ⟨Nat.le_refl _, Nat.le_refl _⟩ ?_
  refine je_if_ne C 19 dX1_share_14 17 rfl rfl h (fun h => ?_) (fun h => ?_)
  · exact wX1_share_19 C hH κ v1 v2 h
  refine je_iconst C (-1) dX1_share_17 18 rfl ic_m1 ?_
  cases h
  exact je_iret C dX1_share_18
theorem mlX1_372 : Cond.methodLink "MinistryDesks" 372 Lib.Math.min.name ∈ lw_all ∧ Cond.static Lib.Math.min.name ∈ lw_all ∧ Cond.initialized "java/lang/Math" ∈ lw_all ∧ Cond.code Lib.Math.min.name Lib.Math.min.code 2 (some .int) ∈ lw_all := ⟨q1489, q631, q173, q632⟩
set_option maxHeartbeats 4000000 in
theorem wX1_fewest_36 {p : Program} {l : Launch} {e : Env} {s : State} {m : MethodId} {args : Array Value} {below : List Frame} {meth : Method} {c : Code} {G : je_G} {dyn : Nat → Option je_E} {sz : Nat} {F : Nat} {hb : Nat} {hu : hd_T} {κ : kp_K} {r9 : Int32} {k13 : kp_K → Int32 → Int32 → Int32 → Option (Int32)} (C : Cx p s m args meth c G "MinistryDesks" cX1_fewest 6 (some .int)) (hH : HouseRep G dyn hb hu) (hk13 : ∀ (q1 : Int32) (q2 : Int32) (q3 : Int32), k13 κ q1 q2 q3 = some r9 → Js p l e ({ frames := 6, cells := 0, slots := 0, locals := 170 } : Room) s m args below meth c G 6 (MQ below (je_Q G (some (.int r9)) (en2 G κ dyn) sz) args s 0 0 (je_A G)) (en2 G κ dyn) sz 0 0 13 [(0, .ref (G.2.1 + 0)), (1, .int q1), (2, .int q2), (3, .int q3)] []) : ∀ (n : Nat) (v1 : Int32) (v2 : Int32) (v3 : Int32) (v4 : Int32) (v5 : Int32), bX1_fewest_36 F hb hu k13 n κ v1 v2 v3 v4 v5 = some r9 → Js p l e ({ frames := 6, cells := 0, slots := 0, locals := 170 } : Room) s m args below meth c G 6 (MQ below (je_Q G (some (.int r9)) (en2 G κ dyn) sz) args s 0 0 (je_A G)) (en2 G κ dyn) sz 0 0 36 [(0, .ref (G.2.1 + 0)), (1, .int v1), (2, .int v2), (3, .int v3), (4, .int v4), (5, .int v5)] [] := by
  intro n
  induction n with
  | zero =>
    intro v1 v2 v3 v4 v5 h
    cases h
  | succ n ih =>
    intro v1 v2 v3 v4 v5 h
    rw [bX1_fewest_36] at h
    refine je_iload C dX1_fewest_36 38 rfl 5 rfl ?_
    refine je_iload_n C dX1_fewest_38 39 rfl 2 rfl ?_
    refine je_icmp_ge C 78 dX1_fewest_39 42 rfl rfl h (fun h => ?_) (fun h => ?_)
    · refine je_iload_n C dX1_fewest_78 79 rfl 1 rfl ?_
      refine je_aload_n C dX1_fewest_79 80 rfl 0 rfl ?_
      refine je_iload_n C dX1_fewest_80 81 rfl 3 rfl ?_
      obtain ⟨t81, hg, h⟩ := p_cl_inv h
      refine je_callVi (As := [.int v3]) (rest := [.int v1]) C (metX1_worth hH hg) (en2_at kd0) rfl hdX1_worth rfl cwX1_314 rfl ⟨Nat.le_of_ble_eq_true rfl, Nat.le_of_ble_eq_true rfl⟩ (Nat.le_of_ble_eq_true rfl) dX1_fewest_81 84 rfl ⟨Nat.le_refl _, Nat.le_refl _⟩ ?_
      refine je_if_le C 92 dX1_fewest_84 87 rfl rfl h (fun h => ?_) (fun h => ?_)
      · refine je_iconst C (0) dX1_fewest_92 93 rfl ic_0 ?_
        refine je_iadd C dX1_fewest_93 94 rfl ?_
        refine je_lti h (fun t94 h => ?_)
        refine je_istore_n C dX1_fewest_94 95 rfl (Nat.le_of_ble_eq_true rfl) [(1, .int t94), (0, .ref (G.2.1 + 0)), (2, .int v2), (3, .int v3), (4, .int v4), (5, .int v5)] rfl ?_
        refine je_iinc C (1) dX1_fewest_95 98 rfl 3 rfl ic_1 (Nat.le_of_ble_eq_true rfl) [(3, .int (v3 + (1 : Int32))), (1, .int t94), (0, .ref (G.2.1 + 0)), (2, .int v2), (4, .int v4), (5, .int v5)] rfl ?_
        refine je_goto C 13 dX1_fewest_98 rfl ?_
        refine je_sub [2, 1, 3, 0] [(0, .ref (G.2.1 + 0)), (1, .int t94), (2, .int v2), (3, .int (v3 + (1 : Int32)))] rfl ?_
        exact hk13 t94 v2 (v3 + (1 : Int32)) h
      refine je_iload C dX1_fewest_87 89 rfl 4 rfl ?_
      refine je_goto C 93 dX1_fewest_89 rfl ?_
      refine je_iadd C dX1_fewest_93 94 rfl ?_
      refine je_lti h (fun t94_3 h => ?_)
      refine je_istore_n C dX1_fewest_94 95 rfl (Nat.le_of_ble_eq_true rfl) [(1, .int t94_3), (0, .ref (G.2.1 + 0)), (2, .int v2), (3, .int v3), (4, .int v4), (5, .int v5)] rfl ?_
      refine je_iinc C (1) dX1_fewest_95 98 rfl 3 rfl ic_1 (Nat.le_of_ble_eq_true rfl) [(3, .int (v3 + (1 : Int32))), (1, .int t94_3), (0, .ref (G.2.1 + 0)), (2, .int v2), (4, .int v4), (5, .int v5)] rfl ?_
      refine je_goto C 13 dX1_fewest_98 rfl ?_
      refine je_sub [2, 1, 3, 0] [(0, .ref (G.2.1 + 0)), (1, .int t94_3), (2, .int v2), (3, .int (v3 + (1 : Int32)))] rfl ?_
      exact hk13 t94_3 v2 (v3 + (1 : Int32)) h
    refine je_aload_n C dX1_fewest_42 43 rfl 0 rfl ?_
    refine je_iload_n C dX1_fewest_43 44 rfl 3 rfl ?_
    refine je_iload C dX1_fewest_44 46 rfl 5 rfl ?_
    refine je_iconst C (0) dX1_fewest_46 47 rfl ic_0 ?_
    obtain ⟨t47, hg, h⟩ := p_cl_inv h
    refine je_callVi (As := [.int v3, .int v5, .int (0 : Int32)]) (rest := []) C (metX1_shareOf hH hg) (en2_at kd0) rfl hdX1_shareOf rfl cwX1_352 rfl ⟨Nat.le_of_ble_eq_true rfl, Nat.le_of_ble_eq_true rfl⟩ (Nat.le_of_ble_eq_true rfl) dX1_fewest_47 50 rfl ⟨Nat.le_refl _, Nat.le_refl _⟩ ?_
    refine je_aload_n C dX1_fewest_50 51 rfl 0 rfl ?_
    refine je_iload_n C dX1_fewest_51 52 rfl 3 rfl ?_
    refine je_iload_n C dX1_fewest_52 53 rfl 2 rfl ?_
    refine je_iconst C (0) dX1_fewest_53 54 rfl ic_0 ?_
    obtain ⟨t54, hg, h⟩ := p_cl_inv h
    refine je_callVi (As := [.int v3, .int v2, .int (0 : Int32)]) (rest := [.int t47]) C (metX1_shareOf hH hg) (en2_at kd0) rfl hdX1_shareOf rfl cwX1_352 rfl ⟨Nat.le_of_ble_eq_true rfl, Nat.le_of_ble_eq_true rfl⟩ (Nat.le_of_ble_eq_true rfl) dX1_fewest_54 57 rfl ⟨Nat.le_refl _, Nat.le_refl _⟩ ?_
    refine je_icmp_ne C 72 dX1_fewest_57 60 rfl rfl h (fun h => ?_) (fun h => ?_)
    · refine je_iinc C (1) dX1_fewest_72 75 rfl 5 rfl ic_1 (Nat.le_of_ble_eq_true rfl) [(5, .int (v5 + (1 : Int32))), (0, .ref (G.2.1 + 0)), (1, .int v1), (2, .int v2), (3, .int v3), (4, .int v4)] rfl ?_
      refine je_goto C 36 dX1_fewest_75 rfl ?_
      refine je_sub [1, 2, 3, 4, 5, 0] [(0, .ref (G.2.1 + 0)), (1, .int v1), (2, .int v2), (3, .int v3), (4, .int v4), (5, .int (v5 + (1 : Int32)))] rfl ?_
      exact ih v1 v2 v3 v4 (v5 + (1 : Int32)) h
    refine je_iload C dX1_fewest_60 62 rfl 4 rfl ?_
    refine je_iload C dX1_fewest_62 64 rfl 5 rfl ?_
    obtain ⟨t64, hg, h⟩ := p_cl_inv h
    refine je_callSi (As := [.int v5]) (rest := [.int v4]) C (metJ19_bitCount hg) hdJ19_bitCount cwX1_283 rfl ⟨Nat.le_of_ble_eq_true rfl, Nat.le_of_ble_eq_true rfl⟩ (Nat.le_of_ble_eq_true rfl) dX1_fewest_64 67 rfl ⟨Nat.le_refl _, Nat.le_refl _⟩ ?_
    refine je_mmin C ⟨Nat.le_of_ble_eq_true rfl, Nat.le_of_ble_eq_true rfl⟩ (Nat.le_of_ble_eq_true rfl) mlX1_372 dX1_fewest_67 70 rfl ⟨Nat.le_refl _, Nat.le_refl _⟩ ?_
    refine je_lti h (fun t70 h => ?_)
    refine je_istore C dX1_fewest_70 72 rfl (Nat.le_of_ble_eq_true rfl) [(4, .int t70), (0, .ref (G.2.1 + 0)), (1, .int v1), (2, .int v2), (3, .int v3), (5, .int v5)] rfl ?_
    refine je_iinc C (1) dX1_fewest_72 75 rfl 5 rfl ic_1 (Nat.le_of_ble_eq_true rfl) [(5, .int (v5 + (1 : Int32))), (4, .int t70), (0, .ref (G.2.1 + 0)), (1, .int v1), (2, .int v2), (3, .int v3)] rfl ?_
    refine je_goto C 36 dX1_fewest_75 rfl ?_
    refine je_sub [2, 3, 4, 5, 1, 0] [(0, .ref (G.2.1 + 0)), (1, .int v1), (2, .int v2), (3, .int v3), (4, .int t70), (5, .int (v5 + (1 : Int32)))] rfl ?_
    exact ih v1 v2 v3 t70 (v5 + (1 : Int32)) h
set_option maxHeartbeats 4000000 in
theorem wX1_fewest_13 {p : Program} {l : Launch} {e : Env} {s : State} {m : MethodId} {args : Array Value} {below : List Frame} {meth : Method} {c : Code} {G : je_G} {dyn : Nat → Option je_E} {sz : Nat} {F : Nat} {hb : Nat} {hu : hd_T} {κ : kp_K} {r9 : Int32} (C : Cx p s m args meth c G "MinistryDesks" cX1_fewest 6 (some .int)) (hH : HouseRep G dyn hb hu) : ∀ (n : Nat) (v1 : Int32) (v2 : Int32) (v3 : Int32), bX1_fewest_13 F hb hu n κ v1 v2 v3 = some r9 → Js p l e ({ frames := 6, cells := 0, slots := 0, locals := 170 } : Room) s m args below meth c G 6 (MQ below (je_Q G (some (.int r9)) (en2 G κ dyn) sz) args s 0 0 (je_A G)) (en2 G κ dyn) sz 0 0 13 [(0, .ref (G.2.1 + 0)), (1, .int v1), (2, .int v2), (3, .int v3)] [] := by
  intro n
  induction n with
  | zero =>
    intro v1 v2 v3 h
    cases h
  | succ n ih =>
    intro v1 v2 v3 h
    rw [bX1_fewest_13] at h
    refine je_iload_n C dX1_fewest_13 14 rfl 3 rfl ?_
    refine je_aload_n C dX1_fewest_14 15 rfl 0 rfl ?_
    obtain ⟨hx, h⟩ := p_hs_inv h
    refine gX1_22 C hx dX1_fewest_15 18 rfl ?_
    refine jh_listN C hH (t := 1) (by decide) q249 rfl dX1_fewest_18 21 rfl ?_
    refine jh_size (t := 1) (rest := [.int v3]) C hH (by decide) cwX1_160 ⟨Nat.le_of_ble_eq_true rfl, Nat.le_of_ble_eq_true rfl⟩ (Nat.le_of_ble_eq_true rfl) dX1_fewest_21 24 rfl ⟨Nat.le_refl _, Nat.le_refl _⟩ ?_
    refine je_icmp_ge C 101 dX1_fewest_24 27 rfl rfl h (fun h => ?_) (fun h => ?_)
    · refine je_iload_n C dX1_fewest_101 102 rfl 1 rfl ?_
      cases h
      exact je_iret C dX1_fewest_102
    refine je_iload_n C dX1_fewest_27 28 rfl 2 rfl ?_
    obtain ⟨t28, hg, h⟩ := p_cl_inv h
    refine je_callSi (As := [.int v2]) (rest := []) C (metJ19_bitCount hg) hdJ19_bitCount cwX1_283 rfl ⟨Nat.le_of_ble_eq_true rfl, Nat.le_of_ble_eq_true rfl⟩ (Nat.le_of_ble_eq_true rfl) dX1_fewest_28 31 rfl ⟨Nat.le_refl _, Nat.le_refl _⟩ ?_
    refine je_istore C dX1_fewest_31 33 rfl (Nat.le_of_ble_eq_true rfl) [(4, .int t28), (0, .ref (G.2.1 + 0)), (1, .int v1), (2, .int v2), (3, .int v3)] rfl ?_
    refine je_iconst C (0) dX1_fewest_33 34 rfl ic_0 ?_
    refine je_istore C dX1_fewest_34 36 rfl (Nat.le_of_ble_eq_true rfl) [(5, .int (0 : Int32)), (4, .int t28), (0, .ref (G.2.1 + 0)), (1, .int v1), (2, .int v2), (3, .int v3)] rfl ?_
    refine je_sub [2, 3, 4, 5, 1, 0] [(0, .ref (G.2.1 + 0)), (1, .int v1), (2, .int v2), (3, .int v3), (4, .int t28), (5, .int (0 : Int32))] rfl ?_
    exact wX1_fewest_36 C hH ih F v1 v2 v3 t28 (0 : Int32) h
set_option maxHeartbeats 4000000 in
theorem metX1_fewest {l : Launch} {G : je_G} {dyn : Nat → Option je_E} {sz : Nat} {F : Nat} {hb : Nat} {hu : hd_T} {κ : kp_K}  {r9 : Int32} (hH : HouseRep G dyn hb hu) (h : pX1_fewest F hb hu κ = some r9) : MetS l G yX1_fewest cX1_fewest 6 (some .int) 6 170 0 0 [.ref (G.2.1 + 0)] (en2 G κ dyn) sz (some (.int r9)) (en2 G κ dyn) sz := by
  refine je_met "MinistryDesks" rfl (by decide +kernel) (Nat.le_of_ble_eq_true rfl) [(0, .ref (G.2.1 + 0))] rfl (fun p e s m args below meth c C => ?_)
  unfold pX1_fewest at h
  refine je_iconst C (0) dX1_fewest_0 1 rfl ic_0 ?_
  refine je_istore_n C dX1_fewest_1 2 rfl (Nat.le_of_ble_eq_true rfl) [(1, .int (0 : Int32)), (0, .ref (G.2.1 + 0))] rfl ?_
  refine je_iconst C (1) dX1_fewest_2 3 rfl ic_1 ?_
  refine je_aload_n C dX1_fewest_3 4 rfl 1 rfl ?_
  obtain ⟨t4, hg, h⟩ := p_cl_inv h
  refine je_callVi (As := []) (rest := [.int (1 : Int32)]) C (metX1_desks hH hg) (en2_at kd0) rfl hdX1_desks rfl cwX1_166 rfl ⟨Nat.le_of_ble_eq_true rfl, Nat.le_of_ble_eq_true rfl⟩ (Nat.le_of_ble_eq_true rfl) dX1_fewest_4 7 rfl ⟨Nat.le_refl _, Nat.le_refl _⟩ ?_
  refine je_ishl C dX1_fewest_7 8 rfl ?_
  refine je_iconst C (1) dX1_fewest_8 9 rfl ic_1 ?_
  refine je_isub C dX1_fewest_9 10 rfl ?_
  refine je_lti h (fun t10 h => ?_)
  refine je_istore_n C dX1_fewest_10 11 rfl (Nat.le_of_ble_eq_true rfl) [(2, .int t10), (1, .int (0 : Int32)), (0, .ref (G.2.1 + 0))] rfl ?_
  refine je_iconst C (0) dX1_fewest_11 12 rfl ic_0 ?_
  refine je_istore_n C dX1_fewest_12 13 rfl (Nat.le_of_ble_eq_true rfl) [(3, .int (0 : Int32)), (2, .int t10), (1, .int (0 : Int32)), (0, .ref (G.2.1 + 0))] rfl ?_
  refine je_sub [3, 2, 1, 0] [(0, .ref (G.2.1 + 0)), (1, .int (0 : Int32)), (2, .int t10), (3, .int (0 : Int32))] rfl ?_
  exact wX1_fewest_13 C hH F (0 : Int32) t10 (0 : Int32) h
set_option maxHeartbeats 4000000 in
theorem metX1_code {l : Launch} {G : je_G} {σ : Nat → Option je_E} {sz : Nat} {v0 : Int64} {v2 : Int32} {r9 : Int32} (h : pX1_code v0 v2 = some r9) : MetS l G yX1_code cX1_code 3 (some .int) 0 0 0 0 [.long v0, .int v2] σ sz (some (.int r9)) σ sz := by
  refine je_met "MinistryDesks" rfl (by decide +kernel) (Nat.le_of_ble_eq_true rfl) [(0, .long v0), (2, .int v2)] rfl (fun p e s m args below meth c C => ?_)
  unfold pX1_code at h
  refine je_lload_n C dX1_code_0 1 rfl 0 rfl ?_
  refine je_bipush C (8) dX1_code_1 3 rfl bp_8 ?_
  refine je_iload_n C dX1_code_3 4 rfl 1 rfl ?_
  refine je_imul C dX1_code_4 5 rfl ?_
  refine je_lshr C dX1_code_5 6 rfl ?_
  refine je_ldc2 C q1501 dX1_code_6 9 rfl ?_
  refine je_land C dX1_code_9 10 rfl ?_
  refine je_l2i C dX1_code_10 11 rfl ?_
  cases h
  exact je_iret C dX1_code_11
theorem hdX1_code : je_hd yX1_code 2 := ⟨by decide +kernel, by decide +kernel, by decide +kernel⟩
theorem cwX1_377 : GoodIn lw_all (va_wsS "MinistryDesks" 377 yX1_code (ws_ yX1_code cX1_code 3 (some .int))) := lw_S q1498 q1499 q161 q1500
set_option maxHeartbeats 4000000 in
theorem wX1_areCodes_15 {p : Program} {l : Launch} {e : Env} {s : State} {m : MethodId} {args : Array Value} {below : List Frame} {meth : Method} {c : Code} {G : je_G} {dyn : Nat → Option je_E} {sz : Nat} {F : Nat} {hb : Nat} {hu : hd_T} {κ : kp_K} {r9 : Int32} (C : Cx p s m args meth c G "MinistryDesks" cX1_areCodes 5 (some .boolean)) (hH : HouseRep G dyn hb hu) : ∀ (n : Nat) (v1 : Int32) (v2 : Int64) (v4 : Int32), bX1_areCodes_15 F hb hu n κ v1 v2 v4 = some r9 → Js p l e ({ frames := 4, cells := 0, slots := 0, locals := 120 } : Room) s m args below meth c G 5 (MQ below (je_Q G (some (.int r9)) (en2 G κ dyn) sz) args s 0 0 (je_A G)) (en2 G κ dyn) sz 0 0 15 [(0, .ref (G.2.1 + 0)), (1, .int v1), (2, .long v2), (4, .int v4)] [] := by
  intro n
  induction n with
  | zero =>
    intro v1 v2 v4 h
    cases h
  | succ n ih =>
    intro v1 v2 v4 h
    rw [bX1_areCodes_15] at h
    refine je_iload C dX1_areCodes_15 17 rfl 3 rfl ?_
    refine je_iload_n C dX1_areCodes_17 18 rfl 1 rfl ?_
    refine je_icmp_ge C 49 dX1_areCodes_18 21 rfl rfl h (fun h => ?_) (fun h => ?_)
    · refine je_iconst C (1) dX1_areCodes_49 50 rfl ic_1 ?_
      cases h
      exact je_zret C dX1_areCodes_50 (Or.inr rfl)
    refine je_lload_n C dX1_areCodes_21 22 rfl 2 rfl ?_
    refine je_iload C dX1_areCodes_22 24 rfl 3 rfl ?_
    obtain ⟨t24, hg, h⟩ := p_cl_inv h
    refine je_callSi (As := [.long v2, .int v4]) (rest := []) C (metX1_code hg) hdX1_code cwX1_377 rfl ⟨Nat.le_of_ble_eq_true rfl, Nat.le_of_ble_eq_true rfl⟩ (Nat.le_of_ble_eq_true rfl) dX1_areCodes_24 27 rfl ⟨Nat.le_refl _, Nat.le_refl _⟩ ?_
    refine je_aload_n C dX1_areCodes_27 28 rfl 0 rfl ?_
    obtain ⟨hx, h⟩ := p_hs_inv h
    refine gX1_22 C hx dX1_areCodes_28 31 rfl ?_
    refine jh_listN C hH (t := 1) (by decide) q249 rfl dX1_areCodes_31 34 rfl ?_
    refine jh_size (t := 1) (rest := [.int t24]) C hH (by decide) cwX1_160 ⟨Nat.le_of_ble_eq_true rfl, Nat.le_of_ble_eq_true rfl⟩ (Nat.le_of_ble_eq_true rfl) dX1_areCodes_34 37 rfl ⟨Nat.le_refl _, Nat.le_refl _⟩ ?_
    refine je_ishr C dX1_areCodes_37 38 rfl ?_
    refine je_if_eq C 43 dX1_areCodes_38 41 rfl rfl h (fun h => ?_) (fun h => ?_)
    · refine je_iinc C (1) dX1_areCodes_43 46 rfl 3 rfl ic_1 (Nat.le_of_ble_eq_true rfl) [(4, .int (v4 + (1 : Int32))), (0, .ref (G.2.1 + 0)), (1, .int v1), (2, .long v2)] rfl ?_
      refine je_goto C 15 dX1_areCodes_46 rfl ?_
      refine je_sub [1, 2, 3, 0] [(0, .ref (G.2.1 + 0)), (1, .int v1), (2, .long v2), (4, .int (v4 + (1 : Int32)))] rfl ?_
      exact ih v1 v2 (v4 + (1 : Int32)) h
    refine je_iconst C (0) dX1_areCodes_41 42 rfl ic_0 ?_
    cases h
    exact je_zret C dX1_areCodes_42 (Or.inl rfl)
set_option maxHeartbeats 4000000 in
theorem metX1_areCodes {l : Launch} {G : je_G} {dyn : Nat → Option je_E} {sz : Nat} {F : Nat} {hb : Nat} {hu : hd_T} {κ : kp_K} {v1 : Int32} {v2 : Int64} {r9 : Int32} (hH : HouseRep G dyn hb hu) (h : pX1_areCodes F hb hu κ v1 v2 = some r9) : MetS l G yX1_areCodes cX1_areCodes 5 (some .boolean) 4 120 0 0 [.ref (G.2.1 + 0), .int v1, .long v2] (en2 G κ dyn) sz (some (.int r9)) (en2 G κ dyn) sz := by
  refine je_met "MinistryDesks" rfl (by decide +kernel) (Nat.le_of_ble_eq_true rfl) [(0, .ref (G.2.1 + 0)), (1, .int v1), (2, .long v2)] rfl (fun p e s m args below meth c C => ?_)
  unfold pX1_areCodes at h
  refine je_iload_n C dX1_areCodes_0 1 rfl 1 rfl ?_
  refine je_iconst C (0) dX1_areCodes_1 2 rfl ic_0 ?_
  refine je_bipush C (7) dX1_areCodes_2 4 rfl bp_7 ?_
  obtain ⟨t4, hg, h⟩ := p_cl_inv h
  refine je_callSi (As := [.int v1, .int (0 : Int32), .int (7 : Int32)]) (rest := []) C (metX1_isIn hg) hdX1_isIn cwX1_107 rfl ⟨Nat.le_of_ble_eq_true rfl, Nat.le_of_ble_eq_true rfl⟩ (Nat.le_of_ble_eq_true rfl) dX1_areCodes_4 7 rfl ⟨Nat.le_refl _, Nat.le_refl _⟩ ?_
  refine je_if_ne C 12 dX1_areCodes_7 10 rfl rfl h (fun h => ?_) (fun h => ?_)
  · refine je_iconst C (0) dX1_areCodes_12 13 rfl ic_0 ?_
    refine je_istore C dX1_areCodes_13 15 rfl (Nat.le_of_ble_eq_true rfl) [(4, .int (0 : Int32)), (0, .ref (G.2.1 + 0)), (1, .int v1), (2, .long v2)] rfl ?_
    refine je_sub [1, 2, 3, 0] [(0, .ref (G.2.1 + 0)), (1, .int v1), (2, .long v2), (4, .int (0 : Int32))] rfl ?_
    exact wX1_areCodes_15 C hH F v1 v2 (0 : Int32) h
  refine je_iconst C (0) dX1_areCodes_10 11 rfl ic_0 ?_
  cases h
  exact je_zret C dX1_areCodes_11 (Or.inl rfl)
set_option maxHeartbeats 4000000 in
theorem wX1_makes_17 {p : Program} {l : Launch} {e : Env} {s : State} {m : MethodId} {args : Array Value} {below : List Frame} {meth : Method} {c : Code} {G : je_G} {σ : Nat → Option je_E} {sz : Nat} {F : Nat} {r9 : Int32} {k3 : Int32 → Int64 → Int32 → Int32 → Option (Int32)} (C : Cx p s m args meth c G "MinistryDesks" cX1_makes 7 (some .int)) (hk3 : ∀ (q0 : Int32) (q1 : Int64) (q3 : Int32) (q4 : Int32), k3 q0 q1 q3 q4 = some r9 → Js p l e ({ frames := 1, cells := 0, slots := 0, locals := 22 } : Room) s m args below meth c G 7 (MQ below (je_Q G (some (.int r9)) σ sz) args s 0 0 (je_A G)) σ sz 0 0 3 [(0, .int q0), (1, .long q1), (3, .int q3), (4, .int q4)] []) : ∀ (n : Nat) (v0 : Int32) (v1 : Int64) (v3 : Int32) (v4 : Int32) (v5 : Int32) (v6 : Int32), bX1_makes_17 F k3 n v0 v1 v3 v4 v5 v6 = some r9 → Js p l e ({ frames := 1, cells := 0, slots := 0, locals := 22 } : Room) s m args below meth c G 7 (MQ below (je_Q G (some (.int r9)) σ sz) args s 0 0 (je_A G)) σ sz 0 0 17 [(0, .int v0), (1, .long v1), (3, .int v3), (4, .int v4), (5, .int v5), (6, .int v6)] [] := by
  intro n
  induction n with
  | zero =>
    intro v0 v1 v3 v4 v5 v6 h
    cases h
  | succ n ih =>
    intro v0 v1 v3 v4 v5 v6 h
    rw [bX1_makes_17] at h
    refine je_iload C dX1_makes_17 19 rfl 5 rfl ?_
    refine je_iload_n C dX1_makes_19 20 rfl 0 rfl ?_
    refine je_icmp_ge C 50 dX1_makes_20 23 rfl rfl h (fun h => ?_) (fun h => ?_)
    · refine je_iload C dX1_makes_50 52 rfl 4 rfl ?_
      refine je_iconst C (1) dX1_makes_52 53 rfl ic_1 ?_
      refine je_iload_n C dX1_makes_53 54 rfl 2 rfl ?_
      refine je_ishl C dX1_makes_54 55 rfl ?_
      refine je_icmp_ne C 61 dX1_makes_55 58 rfl rfl h (fun h => ?_) (fun h => ?_)
      · refine je_iinc C (1) dX1_makes_61 64 rfl 3 rfl ic_1 (Nat.le_of_ble_eq_true rfl) [(4, .int (v4 + (1 : Int32))), (0, .int v0), (1, .long v1), (3, .int v3), (5, .int v5), (6, .int v6)] rfl ?_
        refine je_goto C 3 dX1_makes_64 rfl ?_
        refine je_sub [1, 2, 3, 0] [(0, .int v0), (1, .long v1), (3, .int v3), (4, .int (v4 + (1 : Int32)))] rfl ?_
        exact hk3 v0 v1 v3 (v4 + (1 : Int32)) h
      refine je_iload C dX1_makes_58 60 rfl 3 rfl ?_
      cases h
      exact je_iret C dX1_makes_60
    refine je_iload C dX1_makes_23 25 rfl 3 rfl ?_
    refine je_iload C dX1_makes_25 27 rfl 5 rfl ?_
    obtain ⟨t27, hg, h⟩ := p_cl_inv h
    refine je_callSi (As := [.int v4, .int v6]) (rest := []) C (metX1_isOf hg) hdX1_isOf cwX1_279 rfl ⟨Nat.le_of_ble_eq_true rfl, Nat.le_of_ble_eq_true rfl⟩ (Nat.le_of_ble_eq_true rfl) dX1_makes_27 30 rfl ⟨Nat.le_refl _, Nat.le_refl _⟩ ?_
    refine je_if_eq C 44 dX1_makes_30 33 rfl rfl h (fun h => ?_) (fun h => ?_)
    · refine je_iinc C (1) dX1_makes_44 47 rfl 5 rfl ic_1 (Nat.le_of_ble_eq_true rfl) [(6, .int (v6 + (1 : Int32))), (0, .int v0), (1, .long v1), (3, .int v3), (4, .int v4), (5, .int v5)] rfl ?_
      refine je_goto C 17 dX1_makes_47 rfl ?_
      refine je_sub [1, 2, 3, 4, 5, 0] [(0, .int v0), (1, .long v1), (3, .int v3), (4, .int v4), (5, .int v5), (6, .int (v6 + (1 : Int32)))] rfl ?_
      exact ih v0 v1 v3 v4 v5 (v6 + (1 : Int32)) h
    refine je_iload C dX1_makes_33 35 rfl 4 rfl ?_
    refine je_lload_n C dX1_makes_35 36 rfl 1 rfl ?_
    refine je_iload C dX1_makes_36 38 rfl 5 rfl ?_
    obtain ⟨t38, hg, h⟩ := p_cl_inv h
    refine je_callSi (As := [.long v1, .int v6]) (rest := [.int v5]) C (metX1_code hg) hdX1_code cwX1_377 rfl ⟨Nat.le_of_ble_eq_true rfl, Nat.le_of_ble_eq_true rfl⟩ (Nat.le_of_ble_eq_true rfl) dX1_makes_38 41 rfl ⟨Nat.le_refl _, Nat.le_refl _⟩ ?_
    refine je_ixor C dX1_makes_41 42 rfl ?_
    refine je_lti h (fun t42 h => ?_)
    refine je_istore C dX1_makes_42 44 rfl (Nat.le_of_ble_eq_true rfl) [(5, .int t42), (0, .int v0), (1, .long v1), (3, .int v3), (4, .int v4), (6, .int v6)] rfl ?_
    refine je_iinc C (1) dX1_makes_44 47 rfl 5 rfl ic_1 (Nat.le_of_ble_eq_true rfl) [(6, .int (v6 + (1 : Int32))), (5, .int t42), (0, .int v0), (1, .long v1), (3, .int v3), (4, .int v4)] rfl ?_
    refine je_goto C 17 dX1_makes_47 rfl ?_
    refine je_sub [2, 3, 4, 5, 1, 0] [(0, .int v0), (1, .long v1), (3, .int v3), (4, .int v4), (5, .int t42), (6, .int (v6 + (1 : Int32)))] rfl ?_
    exact ih v0 v1 v3 v4 t42 (v6 + (1 : Int32)) h
set_option maxHeartbeats 4000000 in
theorem wX1_makes_3 {p : Program} {l : Launch} {e : Env} {s : State} {m : MethodId} {args : Array Value} {below : List Frame} {meth : Method} {c : Code} {G : je_G} {σ : Nat → Option je_E} {sz : Nat} {F : Nat} {r9 : Int32} (C : Cx p s m args meth c G "MinistryDesks" cX1_makes 7 (some .int)) : ∀ (n : Nat) (v0 : Int32) (v1 : Int64) (v3 : Int32) (v4 : Int32), bX1_makes_3 F n v0 v1 v3 v4 = some r9 → Js p l e ({ frames := 1, cells := 0, slots := 0, locals := 22 } : Room) s m args below meth c G 7 (MQ below (je_Q G (some (.int r9)) σ sz) args s 0 0 (je_A G)) σ sz 0 0 3 [(0, .int v0), (1, .long v1), (3, .int v3), (4, .int v4)] [] := by
  intro n
  induction n with
  | zero =>
    intro v0 v1 v3 v4 h
    cases h
  | succ n ih =>
    intro v0 v1 v3 v4 h
    rw [bX1_makes_3] at h
    refine je_iload C dX1_makes_3 5 rfl 3 rfl ?_
    refine je_iconst C (1) dX1_makes_5 6 rfl ic_1 ?_
    refine je_iload_n C dX1_makes_6 7 rfl 0 rfl ?_
    refine je_ishl C dX1_makes_7 8 rfl ?_
    refine je_icmp_ge C 67 dX1_makes_8 11 rfl rfl h (fun h => ?_) (fun h => ?_)
    · refine je_iconst C (-1) dX1_makes_67 68 rfl ic_m1 ?_
      cases h
      exact je_iret C dX1_makes_68
    refine je_iconst C (0) dX1_makes_11 12 rfl ic_0 ?_
    refine je_istore C dX1_makes_12 14 rfl (Nat.le_of_ble_eq_true rfl) [(5, .int (0 : Int32)), (0, .int v0), (1, .long v1), (3, .int v3), (4, .int v4)] rfl ?_
    refine je_iconst C (0) dX1_makes_14 15 rfl ic_0 ?_
    refine je_istore C dX1_makes_15 17 rfl (Nat.le_of_ble_eq_true rfl) [(6, .int (0 : Int32)), (5, .int (0 : Int32)), (0, .int v0), (1, .long v1), (3, .int v3), (4, .int v4)] rfl ?_
    refine je_sub [2, 3, 4, 5, 1, 0] [(0, .int v0), (1, .long v1), (3, .int v3), (4, .int v4), (5, .int (0 : Int32)), (6, .int (0 : Int32))] rfl ?_
    exact wX1_makes_17 C ih F v0 v1 v3 v4 (0 : Int32) (0 : Int32) h
set_option maxHeartbeats 4000000 in
theorem metX1_makes {l : Launch} {G : je_G} {σ : Nat → Option je_E} {sz : Nat} {F : Nat} {v0 : Int32} {v1 : Int64} {v3 : Int32} {r9 : Int32} (h : pX1_makes F v0 v1 v3 = some r9) : MetS l G yX1_makes cX1_makes 7 (some .int) 1 22 0 0 [.int v0, .long v1, .int v3] σ sz (some (.int r9)) σ sz := by
  refine je_met "MinistryDesks" rfl (by decide +kernel) (Nat.le_of_ble_eq_true rfl) [(0, .int v0), (1, .long v1), (3, .int v3)] rfl (fun p e s m args below meth c C => ?_)
  unfold pX1_makes at h
  refine je_iconst C (1) dX1_makes_0 1 rfl ic_1 ?_
  refine je_istore C dX1_makes_1 3 rfl (Nat.le_of_ble_eq_true rfl) [(4, .int (1 : Int32)), (0, .int v0), (1, .long v1), (3, .int v3)] rfl ?_
  refine je_sub [1, 2, 3, 0] [(0, .int v0), (1, .long v1), (3, .int v3), (4, .int (1 : Int32))] rfl ?_
  exact wX1_makes_3 C F v0 v1 v3 (1 : Int32) h
theorem hdX1_areCodes : je_hd yX1_areCodes 2 := ⟨by decide +kernel, by decide +kernel, by decide +kernel⟩
theorem hdX1_makes : je_hd yX1_makes 3 := ⟨by decide +kernel, by decide +kernel, by decide +kernel⟩
theorem cwX1_381 : GoodIn lw_all (wsV "MinistryDesks" 381 "MinistryDesks" yX1_areCodes (ws_ yX1_areCodes cX1_areCodes 5 (some .boolean))) := lw_V q1494 q1496 qs70 q161 q1497
theorem cwX1_385 : GoodIn lw_all (va_wsS "MinistryDesks" 385 yX1_makes (ws_ yX1_makes cX1_makes 7 (some .int))) := lw_S q1502 q1503 q161 q1504
set_option maxHeartbeats 4000000 in
theorem wX1_gives_17 {p : Program} {l : Launch} {e : Env} {s : State} {m : MethodId} {args : Array Value} {below : List Frame} {meth : Method} {c : Code} {G : je_G} {dyn : Nat → Option je_E} {sz : Nat} {F : Nat} {hb : Nat} {hu : hd_T} {κ : kp_K} {r9 : Int32} (C : Cx p s m args meth c G "MinistryDesks" cX1_gives 6 (some .int)) (hH : HouseRep G dyn hb hu) : ∀ (n : Nat) (v1 : Int32) (v2 : Int64) (v4 : Int32) (v5 : Int32), bX1_gives_17 F hb hu n κ v1 v2 v4 v5 = some r9 → Js p l e ({ frames := 5, cells := 0, slots := 0, locals := 144 } : Room) s m args below meth c G 6 (MQ below (je_Q G (some (.int r9)) (en2 G κ dyn) sz) args s 0 0 (je_A G)) (en2 G κ dyn) sz 0 0 17 [(0, .ref (G.2.1 + 0)), (1, .int v1), (2, .long v2), (4, .int v4), (5, .int v5)] [] := by
  intro n
  induction n with
  | zero =>
    intro v1 v2 v4 v5 h
    cases h
  | succ n ih =>
    intro v1 v2 v4 v5 h
    rw [bX1_gives_17] at h
    refine je_iload C dX1_gives_17 19 rfl 4 rfl ?_
    refine je_aload_n C dX1_gives_19 20 rfl 0 rfl ?_
    obtain ⟨hx, h⟩ := p_hs_inv h
    refine gX1_22 C hx dX1_gives_20 23 rfl ?_
    refine jh_listN C hH (t := 1) (by decide) q249 rfl dX1_gives_23 26 rfl ?_
    refine jh_size (t := 1) (rest := [.int v5]) C hH (by decide) cwX1_160 ⟨Nat.le_of_ble_eq_true rfl, Nat.le_of_ble_eq_true rfl⟩ (Nat.le_of_ble_eq_true rfl) dX1_gives_26 29 rfl ⟨Nat.le_refl _, Nat.le_refl _⟩ ?_
    refine je_icmp_ge C 61 dX1_gives_29 32 rfl rfl h (fun h => ?_) (fun h => ?_)
    · refine je_iload C dX1_gives_61 63 rfl 3 rfl ?_
      cases h
      exact je_iret C dX1_gives_63
    refine je_iload C dX1_gives_32 34 rfl 3 rfl ?_
    refine je_iload_n C dX1_gives_34 35 rfl 1 rfl ?_
    refine je_lload_n C dX1_gives_35 36 rfl 2 rfl ?_
    refine je_iload C dX1_gives_36 38 rfl 4 rfl ?_
    obtain ⟨t38, hg, h⟩ := p_cl_inv h
    refine je_callSi (As := [.int v1, .long v2, .int v5]) (rest := [.int v4]) C (metX1_makes hg) hdX1_makes cwX1_385 rfl ⟨Nat.le_of_ble_eq_true rfl, Nat.le_of_ble_eq_true rfl⟩ (Nat.le_of_ble_eq_true rfl) dX1_gives_38 41 rfl ⟨Nat.le_refl _, Nat.le_refl _⟩ ?_
    refine je_if_le C 51 dX1_gives_41 44 rfl rfl h (fun h => ?_) (fun h => ?_)
    · refine je_iconst C (0) dX1_gives_51 52 rfl ic_0 ?_
      refine je_ior C dX1_gives_52 53 rfl ?_
      refine je_lti h (fun t53 h => ?_)
      refine je_istore C dX1_gives_53 55 rfl (Nat.le_of_ble_eq_true rfl) [(4, .int t53), (0, .ref (G.2.1 + 0)), (1, .int v1), (2, .long v2), (5, .int v5)] rfl ?_
      refine je_iinc C (1) dX1_gives_55 58 rfl 4 rfl ic_1 (Nat.le_of_ble_eq_true rfl) [(5, .int (v5 + (1 : Int32))), (4, .int t53), (0, .ref (G.2.1 + 0)), (1, .int v1), (2, .long v2)] rfl ?_
      refine je_goto C 17 dX1_gives_58 rfl ?_
      refine je_sub [2, 3, 4, 1, 0] [(0, .ref (G.2.1 + 0)), (1, .int v1), (2, .long v2), (4, .int t53), (5, .int (v5 + (1 : Int32)))] rfl ?_
      exact ih v1 v2 t53 (v5 + (1 : Int32)) h
    refine je_iconst C (1) dX1_gives_44 45 rfl ic_1 ?_
    refine je_iload C dX1_gives_45 47 rfl 4 rfl ?_
    refine je_ishl C dX1_gives_47 48 rfl ?_
    refine je_goto C 52 dX1_gives_48 rfl ?_
    refine je_ior C dX1_gives_52 53 rfl ?_
    refine je_lti h (fun t53_3 h => ?_)
    refine je_istore C dX1_gives_53 55 rfl (Nat.le_of_ble_eq_true rfl) [(4, .int t53_3), (0, .ref (G.2.1 + 0)), (1, .int v1), (2, .long v2), (5, .int v5)] rfl ?_
    refine je_iinc C (1) dX1_gives_55 58 rfl 4 rfl ic_1 (Nat.le_of_ble_eq_true rfl) [(5, .int (v5 + (1 : Int32))), (4, .int t53_3), (0, .ref (G.2.1 + 0)), (1, .int v1), (2, .long v2)] rfl ?_
    refine je_goto C 17 dX1_gives_58 rfl ?_
    refine je_sub [2, 3, 4, 1, 0] [(0, .ref (G.2.1 + 0)), (1, .int v1), (2, .long v2), (4, .int t53_3), (5, .int (v5 + (1 : Int32)))] rfl ?_
    exact ih v1 v2 t53_3 (v5 + (1 : Int32)) h
set_option maxHeartbeats 4000000 in
theorem metX1_gives {l : Launch} {G : je_G} {dyn : Nat → Option je_E} {sz : Nat} {F : Nat} {hb : Nat} {hu : hd_T} {κ : kp_K} {v1 : Int32} {v2 : Int64} {r9 : Int32} (hH : HouseRep G dyn hb hu) (h : pX1_gives F hb hu κ v1 v2 = some r9) : MetS l G yX1_gives cX1_gives 6 (some .int) 5 144 0 0 [.ref (G.2.1 + 0), .int v1, .long v2] (en2 G κ dyn) sz (some (.int r9)) (en2 G κ dyn) sz := by
  refine je_met "MinistryDesks" rfl (by decide +kernel) (Nat.le_of_ble_eq_true rfl) [(0, .ref (G.2.1 + 0)), (1, .int v1), (2, .long v2)] rfl (fun p e s m args below meth c C => ?_)
  unfold pX1_gives at h
  refine je_aload_n C dX1_gives_0 1 rfl 0 rfl ?_
  refine je_iload_n C dX1_gives_1 2 rfl 1 rfl ?_
  refine je_lload_n C dX1_gives_2 3 rfl 2 rfl ?_
  obtain ⟨t3, hg, h⟩ := p_cl_inv h
  refine je_callVi (As := [.int v1, .long v2]) (rest := []) C (metX1_areCodes hH hg) (en2_at kd0) rfl hdX1_areCodes rfl cwX1_381 rfl ⟨Nat.le_of_ble_eq_true rfl, Nat.le_of_ble_eq_true rfl⟩ (Nat.le_of_ble_eq_true rfl) dX1_gives_3 6 rfl ⟨Nat.le_refl _, Nat.le_refl _⟩ ?_
  refine je_if_ne C 11 dX1_gives_6 9 rfl rfl h (fun h => ?_) (fun h => ?_)
  · refine je_iconst C (0) dX1_gives_11 12 rfl ic_0 ?_
    refine je_istore C dX1_gives_12 14 rfl (Nat.le_of_ble_eq_true rfl) [(4, .int (0 : Int32)), (0, .ref (G.2.1 + 0)), (1, .int v1), (2, .long v2)] rfl ?_
    refine je_iconst C (0) dX1_gives_14 15 rfl ic_0 ?_
    refine je_istore C dX1_gives_15 17 rfl (Nat.le_of_ble_eq_true rfl) [(5, .int (0 : Int32)), (4, .int (0 : Int32)), (0, .ref (G.2.1 + 0)), (1, .int v1), (2, .long v2)] rfl ?_
    refine je_sub [2, 3, 4, 1, 0] [(0, .ref (G.2.1 + 0)), (1, .int v1), (2, .long v2), (4, .int (0 : Int32)), (5, .int (0 : Int32))] rfl ?_
    exact wX1_gives_17 C hH F v1 v2 (0 : Int32) (0 : Int32) h
  refine je_iconst C (-1) dX1_gives_9 10 rfl ic_m1 ?_
  cases h
  exact je_iret C dX1_gives_10
set_option maxHeartbeats 4000000 in
theorem metX1_shows {l : Launch} {G : je_G} {dyn : Nat → Option je_E} {sz : Nat} {F : Nat} {hb : Nat} {hu : hd_T} {κ : kp_K} {v1 : Int32} {v2 : Int64} {v4 : Int32} {r9 : Int32} (hH : HouseRep G dyn hb hu) (h : pX1_shows F hb hu κ v1 v2 v4 = some r9) : MetS l G yX1_shows cX1_shows 6 (some .int) 5 144 0 0 [.ref (G.2.1 + 0), .int v1, .long v2, .int v4] (en2 G κ dyn) sz (some (.int r9)) (en2 G κ dyn) sz := by
  refine je_met "MinistryDesks" rfl (by decide +kernel) (Nat.le_of_ble_eq_true rfl) [(0, .ref (G.2.1 + 0)), (1, .int v1), (2, .long v2), (4, .int v4)] rfl (fun p e s m args below meth c C => ?_)
  unfold pX1_shows at h
  refine je_aload_n C dX1_shows_0 1 rfl 0 rfl ?_
  refine je_iload_n C dX1_shows_1 2 rfl 1 rfl ?_
  refine je_lload_n C dX1_shows_2 3 rfl 2 rfl ?_
  obtain ⟨t3, hg, h⟩ := p_cl_inv h
  refine je_callVi (As := [.int v1, .long v2]) (rest := []) C (metX1_areCodes hH hg) (en2_at kd0) rfl hdX1_areCodes rfl cwX1_381 rfl ⟨Nat.le_of_ble_eq_true rfl, Nat.le_of_ble_eq_true rfl⟩ (Nat.le_of_ble_eq_true rfl) dX1_shows_3 6 rfl ⟨Nat.le_refl _, Nat.le_refl _⟩ ?_
  refine je_if_eq C 18 dX1_shows_6 9 rfl rfl h (fun h => ?_) (fun h => ?_)
  · refine je_iconst C (-1) dX1_shows_18 19 rfl ic_m1 ?_
    cases h
    exact je_iret C dX1_shows_19
  refine je_aload_n C dX1_shows_9 10 rfl 0 rfl ?_
  refine je_iload C dX1_shows_10 12 rfl 3 rfl ?_
  obtain ⟨t12, hg, h⟩ := p_cl_inv h
  refine je_callVi (As := [.int v4]) (rest := []) C (metX1_isFact hH hg) (en2_at kd0) rfl hdX1_isFact rfl cwX1_363 rfl ⟨Nat.le_of_ble_eq_true rfl, Nat.le_of_ble_eq_true rfl⟩ (Nat.le_of_ble_eq_true rfl) dX1_shows_12 15 rfl ⟨Nat.le_refl _, Nat.le_refl _⟩ ?_
  refine je_if_ne C 20 dX1_shows_15 18 rfl rfl h (fun h => ?_) (fun h => ?_)
  · refine je_iload_n C dX1_shows_20 21 rfl 1 rfl ?_
    refine je_lload_n C dX1_shows_21 22 rfl 2 rfl ?_
    refine je_iload C dX1_shows_22 24 rfl 3 rfl ?_
    obtain ⟨t24, hg, h⟩ := p_cl_inv h
    refine je_callSi (As := [.int v1, .long v2, .int v4]) (rest := []) C (metX1_makes hg) hdX1_makes cwX1_385 rfl ⟨Nat.le_of_ble_eq_true rfl, Nat.le_of_ble_eq_true rfl⟩ (Nat.le_of_ble_eq_true rfl) dX1_shows_24 27 rfl ⟨Nat.le_refl _, Nat.le_refl _⟩ ?_
    refine je_istore C dX1_shows_27 29 rfl (Nat.le_of_ble_eq_true rfl) [(5, .int t24), (0, .ref (G.2.1 + 0)), (1, .int v1), (2, .long v2), (4, .int v4)] rfl ?_
    refine je_iload C dX1_shows_29 31 rfl 0 rfl ?_
    refine je_if_ge C 39 dX1_shows_31 34 rfl rfl h (fun h => ?_) (fun h => ?_)
    · refine je_iload C dX1_shows_39 41 rfl 0 rfl ?_
      cases h
      exact je_iret C dX1_shows_41
    refine je_bipush C (-2) dX1_shows_34 36 rfl bp_m2 ?_
    refine je_goto C 41 dX1_shows_36 rfl ?_
    cases h
    exact je_iret C dX1_shows_41
  refine je_iconst C (-1) dX1_shows_18 19 rfl ic_m1 ?_
  cases h
  exact je_iret C dX1_shows_19
set_option maxHeartbeats 4000000 in
theorem metX1_asks {l : Launch} {G : je_G} {dyn : Nat → Option je_E} {sz : Nat} {hb : Nat} {hu : hd_T} {κ : kp_K} {v1 : Int32} {r9 : Int32} (hH : HouseRep G dyn hb hu) (h : pX1_asks hb hu κ v1 = some r9) : MetS l G yX1_asks cX1_asks 2 (some .int) 4 120 0 0 [.ref (G.2.1 + 0), .int v1] (en2 G κ dyn) sz (some (.int r9)) (en2 G κ dyn) sz := by
  refine je_met "MinistryDesks" rfl (by decide +kernel) (Nat.le_of_ble_eq_true rfl) [(0, .ref (G.2.1 + 0)), (1, .int v1)] rfl (fun p e s m args below meth c C => ?_)
  unfold pX1_asks at h
  refine je_aload_n C dX1_asks_0 1 rfl 0 rfl ?_
  obtain ⟨hx, h⟩ := p_hs_inv h
  refine gX1_22 C hx dX1_asks_1 4 rfl ?_
  refine jh_listN C hH (t := 0) (by decide) q246 rfl dX1_asks_4 7 rfl ?_
  refine je_iload_n C dX1_asks_7 8 rfl 1 rfl ?_
  obtain ⟨hin0_v1, h⟩ := p_ck_inv h
  refine jh_get (t := 0) (rest := []) C hH (by decide) hin0_v1 cwX1_171 ⟨Nat.le_of_ble_eq_true rfl, Nat.le_of_ble_eq_true rfl⟩ (Nat.le_of_ble_eq_true rfl) dX1_asks_8 11 rfl ⟨Nat.le_refl _, Nat.le_refl _⟩ ?_
  refine jh_cast0 C hH hin0_v1 q1422 dX1_asks_11 14 rfl ?_
  refine jh_item0N C hH hin0_v1 (k := 2) (by decide) q857 rfl dX1_asks_14 17 rfl ?_
  cases h
  exact je_iret C dX1_asks_17
theorem hdX1_asks : je_hd yX1_asks 1 := ⟨by decide +kernel, by decide +kernel, by decide +kernel⟩
theorem cwX1_389 : GoodIn lw_all (wsV "MinistryDesks" 389 "MinistryDesks" yX1_asks (ws_ yX1_asks cX1_asks 2 (some .int))) := lw_V q1517 q1519 qs72 q161 q1520
set_option maxHeartbeats 4000000 in
theorem wX1_noons_5 {p : Program} {l : Launch} {e : Env} {s : State} {m : MethodId} {args : Array Value} {below : List Frame} {meth : Method} {c : Code} {G : je_G} {dyn : Nat → Option je_E} {sz : Nat} {F : Nat} {hb : Nat} {hu : hd_T} {κ : kp_K} {r9 : Int32} (C : Cx p s m args meth c G "MinistryDesks" cX1_noons 5 (some .int)) (hH : HouseRep G dyn hb hu) : ∀ (n : Nat) (v1 : Int32) (v3 : Int32) (v4 : Int32), bX1_noons_5 F hb hu n κ v1 v3 v4 = some r9 → Js p l e ({ frames := 5, cells := 0, slots := 0, locals := 141 } : Room) s m args below meth c G 5 (MQ below (je_Q G (some (.int r9)) (en2 G κ dyn) sz) args s 0 0 (je_A G)) (en2 G κ dyn) sz 0 0 5 [(0, .ref (G.2.1 + 0)), (1, .int v1), (3, .int v3), (4, .int v4)] [] := by
  intro n
  induction n with
  | zero =>
    intro v1 v3 v4 h
    cases h
  | succ n ih =>
    intro v1 v3 v4 h
    rw [bX1_noons_5] at h
    refine je_iload C dX1_noons_5 7 rfl 3 rfl ?_
    refine je_aload_n C dX1_noons_7 8 rfl 0 rfl ?_
    obtain ⟨t8, hg, h⟩ := p_cl_inv h
    refine je_callVi (As := []) (rest := [.int v4]) C (metX1_desks hH hg) (en2_at kd0) rfl hdX1_desks rfl cwX1_166 rfl ⟨Nat.le_of_ble_eq_true rfl, Nat.le_of_ble_eq_true rfl⟩ (Nat.le_of_ble_eq_true rfl) dX1_noons_8 11 rfl ⟨Nat.le_refl _, Nat.le_refl _⟩ ?_
    refine je_icmp_gt C 38 dX1_noons_11 14 rfl rfl h (fun h => ?_) (fun h => ?_)
    · refine je_iconst C (-1) dX1_noons_38 39 rfl ic_m1 ?_
      cases h
      exact je_iret C dX1_noons_39
    refine je_iload_n C dX1_noons_14 15 rfl 2 rfl ?_
    refine je_if_lt C 38 dX1_noons_15 18 rfl rfl h (fun h => ?_) (fun h => ?_)
    · refine je_iconst C (-1) dX1_noons_38 39 rfl ic_m1 ?_
      cases h
      exact je_iret C dX1_noons_39
    refine je_iload_n C dX1_noons_18 19 rfl 2 rfl ?_
    refine je_iload_n C dX1_noons_19 20 rfl 1 rfl ?_
    refine je_icmp_ne C 26 dX1_noons_20 23 rfl rfl h (fun h => ?_) (fun h => ?_)
    · refine je_aload_n C dX1_noons_26 27 rfl 0 rfl ?_
      refine je_iload_n C dX1_noons_27 28 rfl 2 rfl ?_
      obtain ⟨t28, hg, h⟩ := p_cl_inv h
      refine je_callVi (As := [.int v3]) (rest := []) C (metX1_asks hH hg) (en2_at kd0) rfl hdX1_asks rfl cwX1_389 rfl ⟨Nat.le_of_ble_eq_true rfl, Nat.le_of_ble_eq_true rfl⟩ (Nat.le_of_ble_eq_true rfl) dX1_noons_28 31 rfl ⟨Nat.le_refl _, Nat.le_refl _⟩ ?_
      refine je_istore_n C dX1_noons_31 32 rfl (Nat.le_of_ble_eq_true rfl) [(3, .int t28), (0, .ref (G.2.1 + 0)), (1, .int v1), (4, .int v4)] rfl ?_
      refine je_iinc C (1) dX1_noons_32 35 rfl 3 rfl ic_1 (Nat.le_of_ble_eq_true rfl) [(4, .int (v4 + (1 : Int32))), (3, .int t28), (0, .ref (G.2.1 + 0)), (1, .int v1)] rfl ?_
      refine je_goto C 5 dX1_noons_35 rfl ?_
      refine je_sub [2, 3, 1, 0] [(0, .ref (G.2.1 + 0)), (1, .int v1), (3, .int t28), (4, .int (v4 + (1 : Int32)))] rfl ?_
      exact ih v1 t28 (v4 + (1 : Int32)) h
    refine je_iload C dX1_noons_23 25 rfl 3 rfl ?_
    cases h
    exact je_iret C dX1_noons_25
set_option maxHeartbeats 4000000 in
theorem metX1_noons {l : Launch} {G : je_G} {dyn : Nat → Option je_E} {sz : Nat} {F : Nat} {hb : Nat} {hu : hd_T} {κ : kp_K} {v1 : Int32} {v2 : Int32} {r9 : Int32} (hH : HouseRep G dyn hb hu) (h : pX1_noons F hb hu κ v1 v2 = some r9) : MetS l G yX1_noons cX1_noons 5 (some .int) 5 141 0 0 [.ref (G.2.1 + 0), .int v1, .int v2] (en2 G κ dyn) sz (some (.int r9)) (en2 G κ dyn) sz := by
  refine je_met "MinistryDesks" rfl (by decide +kernel) (Nat.le_of_ble_eq_true rfl) [(0, .ref (G.2.1 + 0)), (1, .int v1), (2, .int v2)] rfl (fun p e s m args below meth c C => ?_)
  unfold pX1_noons at h
  refine je_iload_n C dX1_noons_0 1 rfl 2 rfl ?_
  refine je_istore_n C dX1_noons_1 2 rfl (Nat.le_of_ble_eq_true rfl) [(3, .int v2), (0, .ref (G.2.1 + 0)), (1, .int v1), (2, .int v2)] rfl ?_
  refine je_iconst C (0) dX1_noons_2 3 rfl ic_0 ?_
  refine je_istore C dX1_noons_3 5 rfl (Nat.le_of_ble_eq_true rfl) [(4, .int (0 : Int32)), (3, .int v2), (0, .ref (G.2.1 + 0)), (1, .int v1), (2, .int v2)] rfl ?_
  refine je_sub [2, 3, 1, 0] [(0, .ref (G.2.1 + 0)), (1, .int v1), (3, .int v2), (4, .int (0 : Int32))] rfl ?_
  exact wX1_noons_5 C hH F v1 v2 (0 : Int32) h
theorem hdX1_noons : je_hd yX1_noons 2 := ⟨by decide +kernel, by decide +kernel, by decide +kernel⟩
theorem cwX1_391 : GoodIn lw_all (wsV "MinistryDesks" 391 "MinistryDesks" yX1_noons (ws_ yX1_noons cX1_noons 5 (some .int))) := lw_V q1513 q1515 qs71 q161 q1516
set_option maxHeartbeats 4000000 in
theorem metX1_rumour {l : Launch} {G : je_G} {dyn : Nat → Option je_E} {sz : Nat} {F : Nat} {hb : Nat} {hu : hd_T} {κ : kp_K} {v1 : Int32} {v2 : Int32} {r9 : Int32} (hH : HouseRep G dyn hb hu) (h : pX1_rumour F hb hu κ v1 v2 = some r9) : MetS l G yX1_rumour cX1_rumour 4 (some .int) 6 165 0 0 [.ref (G.2.1 + 0), .int v1, .int v2] (en2 G κ dyn) sz (some (.int r9)) (en2 G κ dyn) sz := by
  refine je_met "MinistryDesks" rfl (by decide +kernel) (Nat.le_of_ble_eq_true rfl) [(0, .ref (G.2.1 + 0)), (1, .int v1), (2, .int v2)] rfl (fun p e s m args below meth c C => ?_)
  unfold pX1_rumour at h
  refine je_aload_n C dX1_rumour_0 1 rfl 0 rfl ?_
  refine je_iload_n C dX1_rumour_1 2 rfl 1 rfl ?_
  obtain ⟨t2, hg, h⟩ := p_cl_inv h
  refine je_callVi (As := [.int v1]) (rest := []) C (metX1_isDesk hH hg) (en2_at kd0) rfl hdX1_isDesk rfl cwX1_198 rfl ⟨Nat.le_of_ble_eq_true rfl, Nat.le_of_ble_eq_true rfl⟩ (Nat.le_of_ble_eq_true rfl) dX1_rumour_2 5 rfl ⟨Nat.le_refl _, Nat.le_refl _⟩ ?_
  refine je_if_eq C 16 dX1_rumour_5 8 rfl rfl h (fun h => ?_) (fun h => ?_)
  · refine je_iconst C (-1) dX1_rumour_16 17 rfl ic_m1 ?_
    cases h
    exact je_iret C dX1_rumour_17
  refine je_aload_n C dX1_rumour_8 9 rfl 0 rfl ?_
  refine je_iload_n C dX1_rumour_9 10 rfl 2 rfl ?_
  obtain ⟨t10, hg, h⟩ := p_cl_inv h
  refine je_callVi (As := [.int v2]) (rest := []) C (metX1_isDesk hH hg) (en2_at kd0) rfl hdX1_isDesk rfl cwX1_198 rfl ⟨Nat.le_of_ble_eq_true rfl, Nat.le_of_ble_eq_true rfl⟩ (Nat.le_of_ble_eq_true rfl) dX1_rumour_10 13 rfl ⟨Nat.le_refl _, Nat.le_refl _⟩ ?_
  refine je_if_ne C 18 dX1_rumour_13 16 rfl rfl h (fun h => ?_) (fun h => ?_)
  · refine je_aload_n C dX1_rumour_18 19 rfl 0 rfl ?_
    refine je_iload_n C dX1_rumour_19 20 rfl 1 rfl ?_
    refine je_iload_n C dX1_rumour_20 21 rfl 2 rfl ?_
    obtain ⟨t21, hg, h⟩ := p_cl_inv h
    refine je_callVi (As := [.int v1, .int v2]) (rest := []) C (metX1_noons hH hg) (en2_at kd0) rfl hdX1_noons rfl cwX1_391 rfl ⟨Nat.le_of_ble_eq_true rfl, Nat.le_of_ble_eq_true rfl⟩ (Nat.le_of_ble_eq_true rfl) dX1_rumour_21 24 rfl ⟨Nat.le_refl _, Nat.le_refl _⟩ ?_
    refine je_istore_n C dX1_rumour_24 25 rfl (Nat.le_of_ble_eq_true rfl) [(3, .int t21), (0, .ref (G.2.1 + 0)), (1, .int v1), (2, .int v2)] rfl ?_
    refine je_iload_n C dX1_rumour_25 26 rfl 0 rfl ?_
    refine je_if_ge C 34 dX1_rumour_26 29 rfl rfl h (fun h => ?_) (fun h => ?_)
    · refine je_iload_n C dX1_rumour_34 35 rfl 0 rfl ?_
      cases h
      exact je_iret C dX1_rumour_35
    refine je_bipush C (-2) dX1_rumour_29 31 rfl bp_m2 ?_
    refine je_goto C 35 dX1_rumour_31 rfl ?_
    cases h
    exact je_iret C dX1_rumour_35
  refine je_iconst C (-1) dX1_rumour_16 17 rfl ic_m1 ?_
  cases h
  exact je_iret C dX1_rumour_17
set_option maxHeartbeats 4000000 in
theorem wX1_holds_30 {p : Program} {l : Launch} {e : Env} {s : State} {m : MethodId} {args : Array Value} {below : List Frame} {meth : Method} {c : Code} {G : je_G} {dyn : Nat → Option je_E} {sz : Nat} {F : Nat} {hb : Nat} {hu : hd_T} {κ : kp_K} {r9 : Int32} (C : Cx p s m args meth c G "MinistryDesks" cX1_holds 6 (some .int)) (hH : HouseRep G dyn hb hu) (v1 : Int32) (v2 : Int32) (v4 : Int32) (v5 : Int32) (h : bX1_holds_30 F hb hu κ v1 v2 v4 v5 = some r9) : Js p l e ({ frames := 6, cells := 0, slots := 0, locals := 165 } : Room) s m args below meth c G 6 (MQ below (je_Q G (some (.int r9)) (en2 G κ dyn) sz) args s 0 0 (je_A G)) (en2 G κ dyn) sz 0 0 30 [(0, .ref (G.2.1 + 0)), (1, .int v1), (2, .int v2), (4, .int v4), (5, .int v5)] [] := by
  unfold bX1_holds_30 at h
  refine je_iload C dX1_holds_30 32 rfl 4 rfl ?_
  refine je_if_lt C 47 dX1_holds_32 35 rfl rfl h (fun h => ?_) (fun h => ?_)
  · refine je_iload_n C dX1_holds_47 48 rfl 1 rfl ?_
    refine je_goto C 52 dX1_holds_48 rfl ?_
    cases h
    exact je_iret C dX1_holds_52
  refine je_iload C dX1_holds_35 37 rfl 3 rfl ?_
  refine je_if_lt C 51 dX1_holds_37 40 rfl rfl h (fun h => ?_) (fun h => ?_)
  · refine je_iload_n C dX1_holds_51 52 rfl 2 rfl ?_
    cases h
    exact je_iret C dX1_holds_52
  refine je_iload C dX1_holds_40 42 rfl 3 rfl ?_
  refine je_iload C dX1_holds_42 44 rfl 4 rfl ?_
  refine je_icmp_gt C 51 dX1_holds_44 47 rfl rfl h (fun h => ?_) (fun h => ?_)
  · refine je_iload_n C dX1_holds_51 52 rfl 2 rfl ?_
    cases h
    exact je_iret C dX1_holds_52
  refine je_iload_n C dX1_holds_47 48 rfl 1 rfl ?_
  refine je_goto C 52 dX1_holds_48 rfl ?_
  cases h
  exact je_iret C dX1_holds_52
set_option maxHeartbeats 4000000 in
theorem metX1_holds {l : Launch} {G : je_G} {dyn : Nat → Option je_E} {sz : Nat} {F : Nat} {hb : Nat} {hu : hd_T} {κ : kp_K} {v1 : Int32} {v2 : Int32} {v3 : Int32} {r9 : Int32} (hH : HouseRep G dyn hb hu) (h : pX1_holds F hb hu κ v1 v2 v3 = some r9) : MetS l G yX1_holds cX1_holds 6 (some .int) 6 165 0 0 [.ref (G.2.1 + 0), .int v1, .int v2, .int v3] (en2 G κ dyn) sz (some (.int r9)) (en2 G κ dyn) sz := by
  refine je_met "MinistryDesks" rfl (by decide +kernel) (Nat.le_of_ble_eq_true rfl) [(0, .ref (G.2.1 + 0)), (1, .int v1), (2, .int v2), (3, .int v3)] rfl (fun p e s m args below meth c C => ?_)
  unfold pX1_holds at h
  refine je_aload_n C dX1_holds_0 1 rfl 0 rfl ?_
  refine je_iload_n C dX1_holds_1 2 rfl 1 rfl ?_
  refine je_iload_n C dX1_holds_2 3 rfl 3 rfl ?_
  obtain ⟨t3, hg, h⟩ := p_cl_inv h
  refine je_callVi (As := [.int v1, .int v3]) (rest := []) C (metX1_noons hH hg) (en2_at kd0) rfl hdX1_noons rfl cwX1_391 rfl ⟨Nat.le_of_ble_eq_true rfl, Nat.le_of_ble_eq_true rfl⟩ (Nat.le_of_ble_eq_true rfl) dX1_holds_3 6 rfl ⟨Nat.le_refl _, Nat.le_refl _⟩ ?_
  refine je_istore C dX1_holds_6 8 rfl (Nat.le_of_ble_eq_true rfl) [(4, .int t3), (0, .ref (G.2.1 + 0)), (1, .int v1), (2, .int v2), (3, .int v3)] rfl ?_
  refine je_aload_n C dX1_holds_8 9 rfl 1 rfl ?_
  refine je_iload_n C dX1_holds_9 10 rfl 3 rfl ?_
  refine je_iload_n C dX1_holds_10 11 rfl 4 rfl ?_
  obtain ⟨t11, hg, h⟩ := p_cl_inv h
  refine je_callVi (As := [.int v2, .int v3]) (rest := []) C (metX1_noons hH hg) (en2_at kd0) rfl hdX1_noons rfl cwX1_391 rfl ⟨Nat.le_of_ble_eq_true rfl, Nat.le_of_ble_eq_true rfl⟩ (Nat.le_of_ble_eq_true rfl) dX1_holds_11 14 rfl ⟨Nat.le_refl _, Nat.le_refl _⟩ ?_
  refine je_istore C dX1_holds_14 16 rfl (Nat.le_of_ble_eq_true rfl) [(5, .int t11), (4, .int t3), (0, .ref (G.2.1 + 0)), (1, .int v1), (2, .int v2), (3, .int v3)] rfl ?_
  refine je_iload C dX1_holds_16 18 rfl 1 rfl ?_
  refine je_if_ge C 30 dX1_holds_18 21 rfl rfl h (fun h => ?_) (fun h => ?_)
  · refine je_sub [2, 3, 4, 1, 0] [(0, .ref (G.2.1 + 0)), (1, .int v1), (2, .int v2), (4, .int t3), (5, .int t11)] rfl ?_
    exact wX1_holds_30 C hH v1 v2 t3 t11 h
  refine je_iload C dX1_holds_21 23 rfl 0 rfl ?_
  refine je_if_ge C 30 dX1_holds_23 26 rfl rfl h (fun h => ?_) (fun h => ?_)
  · refine je_sub [2, 3, 4, 1, 0] [(0, .ref (G.2.1 + 0)), (1, .int v1), (2, .int v2), (4, .int t3), (5, .int t11)] rfl ?_
    exact wX1_holds_30 C hH v1 v2 t3 t11 h
  refine je_iconst C (-1) dX1_holds_26 27 rfl ic_m1 ?_
  refine je_goto C 52 dX1_holds_27 rfl ?_
  cases h
  exact je_iret C dX1_holds_52
theorem hdX1_holds : je_hd yX1_holds 3 := ⟨by decide +kernel, by decide +kernel, by decide +kernel⟩
theorem cwX1_394 : GoodIn lw_all (wsV "MinistryDesks" 394 "MinistryDesks" yX1_holds (ws_ yX1_holds cX1_holds 6 (some .int))) := lw_V q1525 q1527 qs73 q161 q1528
set_option maxHeartbeats 4000000 in
theorem wX1_differ_35 {p : Program} {l : Launch} {e : Env} {s : State} {m : MethodId} {args : Array Value} {below : List Frame} {meth : Method} {c : Code} {G : je_G} {dyn : Nat → Option je_E} {sz : Nat} {F : Nat} {hb : Nat} {hu : hd_T} {κ : kp_K} {r9 : Int32} (C : Cx p s m args meth c G "MinistryDesks" cX1_differ 7 (some .int)) (hH : HouseRep G dyn hb hu) : ∀ (n : Nat) (v1 : Int32) (v2 : Int32) (v3 : Int32) (v4 : Int32), bX1_differ_35 F hb hu n κ v1 v2 v3 v4 = some r9 → Js p l e ({ frames := 7, cells := 0, slots := 0, locals := 190 } : Room) s m args below meth c G 7 (MQ below (je_Q G (some (.int r9)) (en2 G κ dyn) sz) args s 0 0 (je_A G)) (en2 G κ dyn) sz 0 0 35 [(0, .ref (G.2.1 + 0)), (1, .int v1), (2, .int v2), (3, .int v3), (4, .int v4)] [] := by
  intro n
  induction n with
  | zero =>
    intro v1 v2 v3 v4 h
    cases h
  | succ n ih =>
    intro v1 v2 v3 v4 h
    rw [bX1_differ_35] at h
    refine je_iload C dX1_differ_35 37 rfl 4 rfl ?_
    refine je_aload_n C dX1_differ_37 38 rfl 0 rfl ?_
    obtain ⟨t38, hg, h⟩ := p_cl_inv h
    refine je_callVi (As := []) (rest := [.int v4]) C (metX1_desks hH hg) (en2_at kd0) rfl hdX1_desks rfl cwX1_166 rfl ⟨Nat.le_of_ble_eq_true rfl, Nat.le_of_ble_eq_true rfl⟩ (Nat.le_of_ble_eq_true rfl) dX1_differ_38 41 rfl ⟨Nat.le_refl _, Nat.le_refl _⟩ ?_
    refine je_icmp_ge C 119 dX1_differ_41 44 rfl rfl h (fun h => ?_) (fun h => ?_)
    · refine je_bipush C (-2) dX1_differ_119 121 rfl bp_m2 ?_
      cases h
      exact je_iret C dX1_differ_121
    refine je_aload_n C dX1_differ_44 45 rfl 0 rfl ?_
    refine je_iload C dX1_differ_45 47 rfl 4 rfl ?_
    obtain ⟨t47, hg, h⟩ := p_cl_inv h
    refine je_callVi (As := [.int v4]) (rest := []) C (metX1_asks hH hg) (en2_at kd0) rfl hdX1_asks rfl cwX1_389 rfl ⟨Nat.le_of_ble_eq_true rfl, Nat.le_of_ble_eq_true rfl⟩ (Nat.le_of_ble_eq_true rfl) dX1_differ_47 50 rfl ⟨Nat.le_refl _, Nat.le_refl _⟩ ?_
    refine je_if_ge C 56 dX1_differ_50 53 rfl rfl h (fun h => ?_) (fun h => ?_)
    · refine je_aload_n C dX1_differ_56 57 rfl 0 rfl ?_
      refine je_iload_n C dX1_differ_57 58 rfl 1 rfl ?_
      refine je_iload_n C dX1_differ_58 59 rfl 2 rfl ?_
      refine je_iload C dX1_differ_59 61 rfl 4 rfl ?_
      obtain ⟨t61, hg, h⟩ := p_cl_inv h
      refine je_callVi (As := [.int v1, .int v2, .int v4]) (rest := []) C (metX1_holds hH hg) (en2_at kd0) rfl hdX1_holds rfl cwX1_394 rfl ⟨Nat.le_of_ble_eq_true rfl, Nat.le_of_ble_eq_true rfl⟩ (Nat.le_of_ble_eq_true rfl) dX1_differ_61 64 rfl ⟨Nat.le_refl _, Nat.le_refl _⟩ ?_
      refine je_istore C dX1_differ_64 66 rfl (Nat.le_of_ble_eq_true rfl) [(5, .int t61), (0, .ref (G.2.1 + 0)), (1, .int v1), (2, .int v2), (3, .int v3), (4, .int v4)] rfl ?_
      refine je_aload_n C dX1_differ_66 67 rfl 1 rfl ?_
      refine je_iload_n C dX1_differ_67 68 rfl 2 rfl ?_
      refine je_iload_n C dX1_differ_68 69 rfl 3 rfl ?_
      refine je_aload_n C dX1_differ_69 70 rfl 1 rfl ?_
      refine je_iload C dX1_differ_70 72 rfl 5 rfl ?_
      obtain ⟨t72, hg, h⟩ := p_cl_inv h
      refine je_callVi (As := [.int v4]) (rest := [.int v2, .int v1, .ref (G.2.1 + 0)]) C (metX1_asks hH hg) (en2_at kd0) rfl hdX1_asks rfl cwX1_389 rfl ⟨Nat.le_of_ble_eq_true rfl, Nat.le_of_ble_eq_true rfl⟩ (Nat.le_of_ble_eq_true rfl) dX1_differ_72 75 rfl ⟨Nat.le_refl _, Nat.le_refl _⟩ ?_
      obtain ⟨t75, hg, h⟩ := p_cl_inv h
      refine je_callVi (As := [.int v1, .int v2, .int t72]) (rest := []) C (metX1_holds hH hg) (en2_at kd0) rfl hdX1_holds rfl cwX1_394 rfl ⟨Nat.le_of_ble_eq_true rfl, Nat.le_of_ble_eq_true rfl⟩ (Nat.le_of_ble_eq_true rfl) dX1_differ_75 78 rfl ⟨Nat.le_refl _, Nat.le_refl _⟩ ?_
      refine je_istore C dX1_differ_78 80 rfl (Nat.le_of_ble_eq_true rfl) [(6, .int t75), (5, .int t61), (0, .ref (G.2.1 + 0)), (1, .int v1), (2, .int v2), (3, .int v3), (4, .int v4)] rfl ?_
      refine je_iload C dX1_differ_80 82 rfl 1 rfl ?_
      refine je_if_lt C 113 dX1_differ_82 85 rfl rfl h (fun h => ?_) (fun h => ?_)
      · refine je_iinc C (1) dX1_differ_113 116 rfl 6 rfl ic_1 (Nat.le_of_ble_eq_true rfl) [(4, .int (v4 + (1 : Int32))), (6, .int t75), (5, .int t61), (0, .ref (G.2.1 + 0)), (1, .int v1), (2, .int v2), (3, .int v3)] rfl ?_
        refine je_goto C 35 dX1_differ_116 rfl ?_
        refine je_sub [3, 4, 5, 6, 0] [(0, .ref (G.2.1 + 0)), (1, .int v1), (2, .int v2), (3, .int v3), (4, .int (v4 + (1 : Int32)))] rfl ?_
        exact ih v1 v2 v3 (v4 + (1 : Int32)) h
      refine je_iload C dX1_differ_85 87 rfl 0 rfl ?_
      refine je_if_lt C 113 dX1_differ_87 90 rfl rfl h (fun h => ?_) (fun h => ?_)
      · refine je_iinc C (1) dX1_differ_113 116 rfl 6 rfl ic_1 (Nat.le_of_ble_eq_true rfl) [(4, .int (v4 + (1 : Int32))), (6, .int t75), (5, .int t61), (0, .ref (G.2.1 + 0)), (1, .int v1), (2, .int v2), (3, .int v3)] rfl ?_
        refine je_goto C 35 dX1_differ_116 rfl ?_
        refine je_sub [3, 4, 5, 6, 0] [(0, .ref (G.2.1 + 0)), (1, .int v1), (2, .int v2), (3, .int v3), (4, .int (v4 + (1 : Int32)))] rfl ?_
        exact ih v1 v2 v3 (v4 + (1 : Int32)) h
      refine je_iload C dX1_differ_90 92 rfl 1 rfl ?_
      refine je_iload C dX1_differ_92 94 rfl 0 rfl ?_
      refine je_icmp_eq C 113 dX1_differ_94 97 rfl rfl h (fun h => ?_) (fun h => ?_)
      · refine je_iinc C (1) dX1_differ_113 116 rfl 6 rfl ic_1 (Nat.le_of_ble_eq_true rfl) [(4, .int (v4 + (1 : Int32))), (6, .int t75), (5, .int t61), (0, .ref (G.2.1 + 0)), (1, .int v1), (2, .int v2), (3, .int v3)] rfl ?_
        refine je_goto C 35 dX1_differ_116 rfl ?_
        refine je_sub [3, 4, 5, 6, 0] [(0, .ref (G.2.1 + 0)), (1, .int v1), (2, .int v2), (3, .int v3), (4, .int (v4 + (1 : Int32)))] rfl ?_
        exact ih v1 v2 v3 (v4 + (1 : Int32)) h
      refine je_iload_n C dX1_differ_97 98 rfl 5 rfl ?_
      refine je_if_ne C 106 dX1_differ_98 101 rfl rfl h (fun h => ?_) (fun h => ?_)
      · refine je_aload_n C dX1_differ_106 107 rfl 2 rfl ?_
        refine je_iload C dX1_differ_107 109 rfl 6 rfl ?_
        obtain ⟨t109, hg, h⟩ := p_cl_inv h
        refine je_callVi (As := [.int v4]) (rest := []) C (metX1_asks hH hg) (en2_at kd0) rfl hdX1_asks rfl cwX1_389 rfl ⟨Nat.le_of_ble_eq_true rfl, Nat.le_of_ble_eq_true rfl⟩ (Nat.le_of_ble_eq_true rfl) dX1_differ_109 112 rfl ⟨Nat.le_refl _, Nat.le_refl _⟩ ?_
        cases h
        exact je_iret C dX1_differ_112
      refine je_iload C dX1_differ_101 103 rfl 6 rfl ?_
      refine je_goto C 112 dX1_differ_103 rfl ?_
      cases h
      exact je_iret C dX1_differ_112
    refine je_goto C 113 dX1_differ_53 rfl ?_
    refine je_iinc C (1) dX1_differ_113 116 rfl 4 rfl ic_1 (Nat.le_of_ble_eq_true rfl) [(4, .int (v4 + (1 : Int32))), (0, .ref (G.2.1 + 0)), (1, .int v1), (2, .int v2), (3, .int v3)] rfl ?_
    refine je_goto C 35 dX1_differ_116 rfl ?_
    refine je_sub [1, 2, 3, 4, 0] [(0, .ref (G.2.1 + 0)), (1, .int v1), (2, .int v2), (3, .int v3), (4, .int (v4 + (1 : Int32)))] rfl ?_
    exact ih v1 v2 v3 (v4 + (1 : Int32)) h
set_option maxHeartbeats 4000000 in
theorem metX1_differ {l : Launch} {G : je_G} {dyn : Nat → Option je_E} {sz : Nat} {F : Nat} {hb : Nat} {hu : hd_T} {κ : kp_K} {v1 : Int32} {v2 : Int32} {v3 : Int32} {r9 : Int32} (hH : HouseRep G dyn hb hu) (h : pX1_differ F hb hu κ v1 v2 v3 = some r9) : MetS l G yX1_differ cX1_differ 7 (some .int) 7 190 0 0 [.ref (G.2.1 + 0), .int v1, .int v2, .int v3] (en2 G κ dyn) sz (some (.int r9)) (en2 G κ dyn) sz := by
  refine je_met "MinistryDesks" rfl (by decide +kernel) (Nat.le_of_ble_eq_true rfl) [(0, .ref (G.2.1 + 0)), (1, .int v1), (2, .int v2), (3, .int v3)] rfl (fun p e s m args below meth c C => ?_)
  unfold pX1_differ at h
  refine je_aload_n C dX1_differ_0 1 rfl 0 rfl ?_
  refine je_iload_n C dX1_differ_1 2 rfl 1 rfl ?_
  obtain ⟨t2, hg, h⟩ := p_cl_inv h
  refine je_callVi (As := [.int v1]) (rest := []) C (metX1_isDesk hH hg) (en2_at kd0) rfl hdX1_isDesk rfl cwX1_198 rfl ⟨Nat.le_of_ble_eq_true rfl, Nat.le_of_ble_eq_true rfl⟩ (Nat.le_of_ble_eq_true rfl) dX1_differ_2 5 rfl ⟨Nat.le_refl _, Nat.le_refl _⟩ ?_
  refine je_if_eq C 30 dX1_differ_5 8 rfl rfl h (fun h => ?_) (fun h => ?_)
  · refine je_iconst C (-1) dX1_differ_30 31 rfl ic_m1 ?_
    cases h
    exact je_iret C dX1_differ_31
  refine je_aload_n C dX1_differ_8 9 rfl 0 rfl ?_
  refine je_iload_n C dX1_differ_9 10 rfl 2 rfl ?_
  obtain ⟨t10, hg, h⟩ := p_cl_inv h
  refine je_callVi (As := [.int v2]) (rest := []) C (metX1_isDesk hH hg) (en2_at kd0) rfl hdX1_isDesk rfl cwX1_198 rfl ⟨Nat.le_of_ble_eq_true rfl, Nat.le_of_ble_eq_true rfl⟩ (Nat.le_of_ble_eq_true rfl) dX1_differ_10 13 rfl ⟨Nat.le_refl _, Nat.le_refl _⟩ ?_
  refine je_if_eq C 30 dX1_differ_13 16 rfl rfl h (fun h => ?_) (fun h => ?_)
  · refine je_iconst C (-1) dX1_differ_30 31 rfl ic_m1 ?_
    cases h
    exact je_iret C dX1_differ_31
  refine je_iload_n C dX1_differ_16 17 rfl 1 rfl ?_
  refine je_iload_n C dX1_differ_17 18 rfl 2 rfl ?_
  refine je_icmp_eq C 30 dX1_differ_18 21 rfl rfl h (fun h => ?_) (fun h => ?_)
  · refine je_iconst C (-1) dX1_differ_30 31 rfl ic_m1 ?_
    cases h
    exact je_iret C dX1_differ_31
  refine je_iload_n C dX1_differ_21 22 rfl 3 rfl ?_
  refine je_iconst C (0) dX1_differ_22 23 rfl ic_0 ?_
  refine je_iconst C (1) dX1_differ_23 24 rfl ic_1 ?_
  obtain ⟨t24, hg, h⟩ := p_cl_inv h
  refine je_callSi (As := [.int v3, .int (0 : Int32), .int (1 : Int32)]) (rest := []) C (metX1_isIn hg) hdX1_isIn cwX1_107 rfl ⟨Nat.le_of_ble_eq_true rfl, Nat.le_of_ble_eq_true rfl⟩ (Nat.le_of_ble_eq_true rfl) dX1_differ_24 27 rfl ⟨Nat.le_refl _, Nat.le_refl _⟩ ?_
  refine je_if_ne C 32 dX1_differ_27 30 rfl rfl h (fun h => ?_) (fun h => ?_)
  · refine je_iconst C (0) dX1_differ_32 33 rfl ic_0 ?_
    refine je_istore C dX1_differ_33 35 rfl (Nat.le_of_ble_eq_true rfl) [(4, .int (0 : Int32)), (0, .ref (G.2.1 + 0)), (1, .int v1), (2, .int v2), (3, .int v3)] rfl ?_
    refine je_sub [1, 2, 3, 4, 0] [(0, .ref (G.2.1 + 0)), (1, .int v1), (2, .int v2), (3, .int v3), (4, .int (0 : Int32))] rfl ?_
    exact wX1_differ_35 C hH F v1 v2 v3 (0 : Int32) h
  refine je_iconst C (-1) dX1_differ_30 31 rfl ic_m1 ?_
  cases h
  exact je_iret C dX1_differ_31
theorem cwX1_397 : GoodIn lw_all (wsV "MinistryDesks" 397 "MinistryDesks$Run" yX5_lineOf (ws_ yX5_lineOf cX5_lineOf 4 (some .int))) := lw_V q1533 q1288 q1289 q168 q1290
set_option maxHeartbeats 4000000 in
theorem wX1_ignorant_69 {p : Program} {l : Launch} {e : Env} {s : State} {m : MethodId} {args : Array Value} {below : List Frame} {meth : Method} {c : Code} {G : je_G} {dyn : Nat → Option je_E} {sz : Nat} {F : Nat} {hb : Nat} {hu : hd_T} {κ : kp_K} {r9 : Int32} {k14 : kp_K → Int32 → Int32 → Int32 → Option (Int32)} (C : Cx p s m args meth c G "MinistryDesks" cX1_ignorant 6 (some .int)) (hH : HouseRep G dyn hb hu) (hk14 : ∀ (q1 : Int32) (q2 : Int32) (q3 : Int32), k14 κ q1 q2 q3 = some r9 → Js p l e ({ frames := 5, cells := 0, slots := 0, locals := 141 } : Room) s m args below meth c G 6 (MQ below (je_Q G (some (.int r9)) (en2 G κ dyn) sz) args s 0 0 (je_A G)) (en2 G κ dyn) sz 0 0 14 [(0, .ref (G.2.1 + 0)), (1, .int q1), (2, .int q2), (3, .int q3)] []) (v1 : Int32) (v2 : Int32) (v3 : Int32) (v4 : Int32) (h : bX1_ignorant_69 F hb hu k14 κ v1 v2 v3 v4 = some r9) : Js p l e ({ frames := 5, cells := 0, slots := 0, locals := 141 } : Room) s m args below meth c G 6 (MQ below (je_Q G (some (.int r9)) (en2 G κ dyn) sz) args s 0 0 (je_A G)) (en2 G κ dyn) sz 0 0 69 [(0, .ref (G.2.1 + 0)), (1, .int v1), (2, .int v2), (3, .int v3), (4, .int v4)] [] := by
  unfold bX1_ignorant_69 at h
  refine je_iload_n C dX1_ignorant_69 70 rfl 2 rfl ?_
  refine je_iload C dX1_ignorant_70 72 rfl 4 rfl ?_
  refine je_if_lt C 88 dX1_ignorant_72 75 rfl rfl h (fun h => ?_) (fun h => ?_)
  · refine je_iconst C (1) dX1_ignorant_88 89 rfl ic_1 ?_
    refine je_iload_n C dX1_ignorant_89 90 rfl 3 rfl ?_
    refine je_ishl C dX1_ignorant_90 91 rfl ?_
    refine je_goto C 95 dX1_ignorant_91 rfl ?_
    refine je_ior C dX1_ignorant_95 96 rfl ?_
    refine je_lti h (fun t96 h => ?_)
    refine je_istore_n C dX1_ignorant_96 97 rfl (Nat.le_of_ble_eq_true rfl) [(2, .int t96), (0, .ref (G.2.1 + 0)), (1, .int v1), (3, .int v3), (4, .int v4)] rfl ?_
    refine je_iinc C (1) dX1_ignorant_97 100 rfl 3 rfl ic_1 (Nat.le_of_ble_eq_true rfl) [(3, .int (v3 + (1 : Int32))), (2, .int t96), (0, .ref (G.2.1 + 0)), (1, .int v1), (4, .int v4)] rfl ?_
    refine je_goto C 14 dX1_ignorant_100 rfl ?_
    refine je_sub [2, 3, 1, 0] [(0, .ref (G.2.1 + 0)), (1, .int v1), (2, .int t96), (3, .int (v3 + (1 : Int32)))] rfl ?_
    exact hk14 v1 t96 (v3 + (1 : Int32)) h
  refine je_aload_n C dX1_ignorant_75 76 rfl 0 rfl ?_
  refine gX1_48 C dX1_ignorant_76 79 rfl ?_
  refine je_iload C dX1_ignorant_79 81 rfl 4 rfl ?_
  refine je_iload_n C dX1_ignorant_81 82 rfl 1 rfl ?_
  obtain ⟨t82, hg, h⟩ := p_cl_inv h
  refine je_callVi (As := [.int v4, .int v1]) (rest := [.int v2]) C (metX5_lineOf (by decide : 0 < 3) hg) (en2_at kd13) rfl hdX5_lineOf rfl cwX1_397 rfl ⟨Nat.le_of_ble_eq_true rfl, Nat.le_of_ble_eq_true rfl⟩ (Nat.le_of_ble_eq_true rfl) dX1_ignorant_82 85 rfl ⟨Nat.le_refl _, Nat.le_refl _⟩ ?_
  refine je_if_ge C 94 dX1_ignorant_85 88 rfl rfl h (fun h => ?_) (fun h => ?_)
  · refine je_iconst C (0) dX1_ignorant_94 95 rfl ic_0 ?_
    refine je_ior C dX1_ignorant_95 96 rfl ?_
    refine je_lti h (fun t96_3 h => ?_)
    refine je_istore_n C dX1_ignorant_96 97 rfl (Nat.le_of_ble_eq_true rfl) [(2, .int t96_3), (0, .ref (G.2.1 + 0)), (1, .int v1), (3, .int v3), (4, .int v4)] rfl ?_
    refine je_iinc C (1) dX1_ignorant_97 100 rfl 3 rfl ic_1 (Nat.le_of_ble_eq_true rfl) [(3, .int (v3 + (1 : Int32))), (2, .int t96_3), (0, .ref (G.2.1 + 0)), (1, .int v1), (4, .int v4)] rfl ?_
    refine je_goto C 14 dX1_ignorant_100 rfl ?_
    refine je_sub [2, 3, 1, 0] [(0, .ref (G.2.1 + 0)), (1, .int v1), (2, .int t96_3), (3, .int (v3 + (1 : Int32)))] rfl ?_
    exact hk14 v1 t96_3 (v3 + (1 : Int32)) h
  refine je_iconst C (1) dX1_ignorant_88 89 rfl ic_1 ?_
  refine je_iload_n C dX1_ignorant_89 90 rfl 3 rfl ?_
  refine je_ishl C dX1_ignorant_90 91 rfl ?_
  refine je_goto C 95 dX1_ignorant_91 rfl ?_
  refine je_ior C dX1_ignorant_95 96 rfl ?_
  refine je_lti h (fun t96_4 h => ?_)
  refine je_istore_n C dX1_ignorant_96 97 rfl (Nat.le_of_ble_eq_true rfl) [(2, .int t96_4), (0, .ref (G.2.1 + 0)), (1, .int v1), (3, .int v3), (4, .int v4)] rfl ?_
  refine je_iinc C (1) dX1_ignorant_97 100 rfl 3 rfl ic_1 (Nat.le_of_ble_eq_true rfl) [(3, .int (v3 + (1 : Int32))), (2, .int t96_4), (0, .ref (G.2.1 + 0)), (1, .int v1), (4, .int v4)] rfl ?_
  refine je_goto C 14 dX1_ignorant_100 rfl ?_
  refine je_sub [2, 3, 1, 0] [(0, .ref (G.2.1 + 0)), (1, .int v1), (2, .int t96_4), (3, .int (v3 + (1 : Int32)))] rfl ?_
  exact hk14 v1 t96_4 (v3 + (1 : Int32)) h
set_option maxHeartbeats 4000000 in
theorem wX1_ignorant_28 {p : Program} {l : Launch} {e : Env} {s : State} {m : MethodId} {args : Array Value} {below : List Frame} {meth : Method} {c : Code} {G : je_G} {dyn : Nat → Option je_E} {sz : Nat} {F : Nat} {hb : Nat} {hu : hd_T} {κ : kp_K} {r9 : Int32} {k14 : kp_K → Int32 → Int32 → Int32 → Option (Int32)} (C : Cx p s m args meth c G "MinistryDesks" cX1_ignorant 6 (some .int)) (hH : HouseRep G dyn hb hu) (hk14 : ∀ (q1 : Int32) (q2 : Int32) (q3 : Int32), k14 κ q1 q2 q3 = some r9 → Js p l e ({ frames := 5, cells := 0, slots := 0, locals := 141 } : Room) s m args below meth c G 6 (MQ below (je_Q G (some (.int r9)) (en2 G κ dyn) sz) args s 0 0 (je_A G)) (en2 G κ dyn) sz 0 0 14 [(0, .ref (G.2.1 + 0)), (1, .int q1), (2, .int q2), (3, .int q3)] []) : ∀ (n : Nat) (v1 : Int32) (v2 : Int32) (v3 : Int32) (v4 : Int32) (v5 : Int32), bX1_ignorant_28 F hb hu k14 n κ v1 v2 v3 v4 v5 = some r9 → Js p l e ({ frames := 5, cells := 0, slots := 0, locals := 141 } : Room) s m args below meth c G 6 (MQ below (je_Q G (some (.int r9)) (en2 G κ dyn) sz) args s 0 0 (je_A G)) (en2 G κ dyn) sz 0 0 28 [(0, .ref (G.2.1 + 0)), (1, .int v1), (2, .int v2), (3, .int v3), (4, .int v4), (5, .int v5)] [] := by
  intro n
  induction n with
  | zero =>
    intro v1 v2 v3 v4 v5 h
    cases h
  | succ n ih =>
    intro v1 v2 v3 v4 v5 h
    rw [bX1_ignorant_28] at h
    refine je_iload C dX1_ignorant_28 30 rfl 5 rfl ?_
    refine je_aload_n C dX1_ignorant_30 31 rfl 0 rfl ?_
    obtain ⟨t31, hg, h⟩ := p_cl_inv h
    refine je_callVi (As := []) (rest := [.int v5]) C (metX1_desks hH hg) (en2_at kd0) rfl hdX1_desks rfl cwX1_166 rfl ⟨Nat.le_of_ble_eq_true rfl, Nat.le_of_ble_eq_true rfl⟩ (Nat.le_of_ble_eq_true rfl) dX1_ignorant_31 34 rfl ⟨Nat.le_refl _, Nat.le_refl _⟩ ?_
    refine je_icmp_ge C 69 dX1_ignorant_34 37 rfl rfl h (fun h => ?_) (fun h => ?_)
    · refine je_sub [0, 1, 2, 3, 4] [(0, .ref (G.2.1 + 0)), (1, .int v1), (2, .int v2), (3, .int v3), (4, .int v4)] rfl ?_
      exact wX1_ignorant_69 C hH hk14 v1 v2 v3 v4 h
    refine je_iload C dX1_ignorant_37 39 rfl 4 rfl ?_
    refine je_if_lt C 69 dX1_ignorant_39 42 rfl rfl h (fun h => ?_) (fun h => ?_)
    · refine je_sub [0, 1, 2, 3, 4] [(0, .ref (G.2.1 + 0)), (1, .int v1), (2, .int v2), (3, .int v3), (4, .int v4)] rfl ?_
      exact wX1_ignorant_69 C hH hk14 v1 v2 v3 v4 h
    refine je_aload_n C dX1_ignorant_42 43 rfl 0 rfl ?_
    refine gX1_48 C dX1_ignorant_43 46 rfl ?_
    refine je_iload C dX1_ignorant_46 48 rfl 4 rfl ?_
    refine je_iload_n C dX1_ignorant_48 49 rfl 1 rfl ?_
    obtain ⟨t49, hg, h⟩ := p_cl_inv h
    refine je_callVi (As := [.int v4, .int v1]) (rest := []) C (metX5_lineOf (by decide : 0 < 3) hg) (en2_at kd13) rfl hdX5_lineOf rfl cwX1_397 rfl ⟨Nat.le_of_ble_eq_true rfl, Nat.le_of_ble_eq_true rfl⟩ (Nat.le_of_ble_eq_true rfl) dX1_ignorant_49 52 rfl ⟨Nat.le_refl _, Nat.le_refl _⟩ ?_
    refine je_if_ge C 69 dX1_ignorant_52 55 rfl rfl h (fun h => ?_) (fun h => ?_)
    · refine je_sub [0, 1, 2, 3, 4] [(0, .ref (G.2.1 + 0)), (1, .int v1), (2, .int v2), (3, .int v3), (4, .int v4)] rfl ?_
      exact wX1_ignorant_69 C hH hk14 v1 v2 v3 v4 h
    refine je_aload_n C dX1_ignorant_55 56 rfl 0 rfl ?_
    refine je_iload C dX1_ignorant_56 58 rfl 4 rfl ?_
    obtain ⟨t58, hg, h⟩ := p_cl_inv h
    refine je_callVi (As := [.int v4]) (rest := []) C (metX1_asks hH hg) (en2_at kd0) rfl hdX1_asks rfl cwX1_389 rfl ⟨Nat.le_of_ble_eq_true rfl, Nat.le_of_ble_eq_true rfl⟩ (Nat.le_of_ble_eq_true rfl) dX1_ignorant_58 61 rfl ⟨Nat.le_refl _, Nat.le_refl _⟩ ?_
    refine je_istore C dX1_ignorant_61 63 rfl (Nat.le_of_ble_eq_true rfl) [(4, .int t58), (0, .ref (G.2.1 + 0)), (1, .int v1), (2, .int v2), (3, .int v3), (5, .int v5)] rfl ?_
    refine je_iinc C (1) dX1_ignorant_63 66 rfl 5 rfl ic_1 (Nat.le_of_ble_eq_true rfl) [(5, .int (v5 + (1 : Int32))), (4, .int t58), (0, .ref (G.2.1 + 0)), (1, .int v1), (2, .int v2), (3, .int v3)] rfl ?_
    refine je_goto C 28 dX1_ignorant_66 rfl ?_
    refine je_sub [2, 3, 4, 5, 1, 0] [(0, .ref (G.2.1 + 0)), (1, .int v1), (2, .int v2), (3, .int v3), (4, .int t58), (5, .int (v5 + (1 : Int32)))] rfl ?_
    exact ih v1 v2 v3 t58 (v5 + (1 : Int32)) h
set_option maxHeartbeats 4000000 in
theorem wX1_ignorant_14 {p : Program} {l : Launch} {e : Env} {s : State} {m : MethodId} {args : Array Value} {below : List Frame} {meth : Method} {c : Code} {G : je_G} {dyn : Nat → Option je_E} {sz : Nat} {F : Nat} {hb : Nat} {hu : hd_T} {κ : kp_K} {r9 : Int32} (C : Cx p s m args meth c G "MinistryDesks" cX1_ignorant 6 (some .int)) (hH : HouseRep G dyn hb hu) : ∀ (n : Nat) (v1 : Int32) (v2 : Int32) (v3 : Int32), bX1_ignorant_14 F hb hu n κ v1 v2 v3 = some r9 → Js p l e ({ frames := 5, cells := 0, slots := 0, locals := 141 } : Room) s m args below meth c G 6 (MQ below (je_Q G (some (.int r9)) (en2 G κ dyn) sz) args s 0 0 (je_A G)) (en2 G κ dyn) sz 0 0 14 [(0, .ref (G.2.1 + 0)), (1, .int v1), (2, .int v2), (3, .int v3)] [] := by
  intro n
  induction n with
  | zero =>
    intro v1 v2 v3 h
    cases h
  | succ n ih =>
    intro v1 v2 v3 h
    rw [bX1_ignorant_14] at h
    refine je_iload_n C dX1_ignorant_14 15 rfl 3 rfl ?_
    refine je_aload_n C dX1_ignorant_15 16 rfl 0 rfl ?_
    obtain ⟨t16, hg, h⟩ := p_cl_inv h
    refine je_callVi (As := []) (rest := [.int v3]) C (metX1_desks hH hg) (en2_at kd0) rfl hdX1_desks rfl cwX1_166 rfl ⟨Nat.le_of_ble_eq_true rfl, Nat.le_of_ble_eq_true rfl⟩ (Nat.le_of_ble_eq_true rfl) dX1_ignorant_16 19 rfl ⟨Nat.le_refl _, Nat.le_refl _⟩ ?_
    refine je_icmp_ge C 103 dX1_ignorant_19 22 rfl rfl h (fun h => ?_) (fun h => ?_)
    · refine je_iload_n C dX1_ignorant_103 104 rfl 2 rfl ?_
      cases h
      exact je_iret C dX1_ignorant_104
    refine je_iload_n C dX1_ignorant_22 23 rfl 3 rfl ?_
    refine je_istore C dX1_ignorant_23 25 rfl (Nat.le_of_ble_eq_true rfl) [(4, .int v3), (0, .ref (G.2.1 + 0)), (1, .int v1), (2, .int v2), (3, .int v3)] rfl ?_
    refine je_iconst C (0) dX1_ignorant_25 26 rfl ic_0 ?_
    refine je_istore C dX1_ignorant_26 28 rfl (Nat.le_of_ble_eq_true rfl) [(5, .int (0 : Int32)), (4, .int v3), (0, .ref (G.2.1 + 0)), (1, .int v1), (2, .int v2), (3, .int v3)] rfl ?_
    refine je_sub [2, 3, 4, 5, 1, 0] [(0, .ref (G.2.1 + 0)), (1, .int v1), (2, .int v2), (3, .int v3), (4, .int v3), (5, .int (0 : Int32))] rfl ?_
    exact wX1_ignorant_28 C hH ih F v1 v2 v3 v3 (0 : Int32) h
set_option maxHeartbeats 4000000 in
theorem metX1_ignorant {l : Launch} {G : je_G} {dyn : Nat → Option je_E} {sz : Nat} {F : Nat} {hb : Nat} {hu : hd_T} {κ : kp_K} {v1 : Int32} {r9 : Int32} (hH : HouseRep G dyn hb hu) (h : pX1_ignorant F hb hu κ v1 = some r9) : MetS l G yX1_ignorant cX1_ignorant 6 (some .int) 5 141 0 0 [.ref (G.2.1 + 0), .int v1] (en2 G κ dyn) sz (some (.int r9)) (en2 G κ dyn) sz := by
  refine je_met "MinistryDesks" rfl (by decide +kernel) (Nat.le_of_ble_eq_true rfl) [(0, .ref (G.2.1 + 0)), (1, .int v1)] rfl (fun p e s m args below meth c C => ?_)
  unfold pX1_ignorant at h
  refine je_aload_n C dX1_ignorant_0 1 rfl 0 rfl ?_
  refine je_iload_n C dX1_ignorant_1 2 rfl 1 rfl ?_
  obtain ⟨t2, hg, h⟩ := p_cl_inv h
  refine je_callVi (As := [.int v1]) (rest := []) C (metX1_isFact hH hg) (en2_at kd0) rfl hdX1_isFact rfl cwX1_363 rfl ⟨Nat.le_of_ble_eq_true rfl, Nat.le_of_ble_eq_true rfl⟩ (Nat.le_of_ble_eq_true rfl) dX1_ignorant_2 5 rfl ⟨Nat.le_refl _, Nat.le_refl _⟩ ?_
  refine je_if_ne C 10 dX1_ignorant_5 8 rfl rfl h (fun h => ?_) (fun h => ?_)
  · refine je_iconst C (0) dX1_ignorant_10 11 rfl ic_0 ?_
    refine je_istore_n C dX1_ignorant_11 12 rfl (Nat.le_of_ble_eq_true rfl) [(2, .int (0 : Int32)), (0, .ref (G.2.1 + 0)), (1, .int v1)] rfl ?_
    refine je_iconst C (0) dX1_ignorant_12 13 rfl ic_0 ?_
    refine je_istore_n C dX1_ignorant_13 14 rfl (Nat.le_of_ble_eq_true rfl) [(3, .int (0 : Int32)), (2, .int (0 : Int32)), (0, .ref (G.2.1 + 0)), (1, .int v1)] rfl ?_
    refine je_sub [2, 3, 1, 0] [(0, .ref (G.2.1 + 0)), (1, .int v1), (2, .int (0 : Int32)), (3, .int (0 : Int32))] rfl ?_
    exact wX1_ignorant_14 C hH F v1 (0 : Int32) (0 : Int32) h
  refine je_iconst C (-1) dX1_ignorant_8 9 rfl ic_m1 ?_
  cases h
  exact je_iret C dX1_ignorant_9
set_option maxHeartbeats 4000000 in
theorem wX1_spy_64 {p : Program} {l : Launch} {e : Env} {s : State} {m : MethodId} {args : Array Value} {below : List Frame} {meth : Method} {c : Code} {G : je_G} {dyn : Nat → Option je_E} {sz : Nat} {F : Nat} {hb : Nat} {hu : hd_T} {κ : kp_K} {r9 : Int32} {k28 : kp_K → Int32 → Int32 → Int32 → Int32 → Option (Int32)} (C : Cx p s m args meth c G "MinistryDesks" cX1_spy 5 (some .int)) (hH : HouseRep G dyn hb hu) (hk28 : ∀ (q1 : Int32) (q2 : Int32) (q3 : Int32) (q4 : Int32), k28 κ q1 q2 q3 q4 = some r9 → Js p l e ({ frames := 5, cells := 0, slots := 0, locals := 141 } : Room) s m args below meth c G 5 (MQ below (je_Q G (some (.int r9)) (en2 G κ dyn) sz) args s 0 0 (je_A G)) (en2 G κ dyn) sz 0 0 28 [(0, .ref (G.2.1 + 0)), (1, .int q1), (2, .int q2), (3, .int q3), (4, .int q4)] []) (v1 : Int32) (v2 : Int32) (v4 : Int32) (s0 : Int32) (h : bX1_spy_64 F hb hu k28 κ v1 v2 v4 s0 = some r9) : Js p l e ({ frames := 5, cells := 0, slots := 0, locals := 141 } : Room) s m args below meth c G 5 (MQ below (je_Q G (some (.int r9)) (en2 G κ dyn) sz) args s 0 0 (je_A G)) (en2 G κ dyn) sz 0 0 64 [(0, .ref (G.2.1 + 0)), (1, .int v1), (2, .int v2), (4, .int v4)] [.int s0] := by
  unfold bX1_spy_64 at h
  refine je_iconst C (0) dX1_spy_64 65 rfl ic_0 ?_
  refine je_iadd C dX1_spy_65 66 rfl ?_
  refine je_lti h (fun t66 h => ?_)
  refine je_istore_n C dX1_spy_66 67 rfl (Nat.le_of_ble_eq_true rfl) [(3, .int t66), (0, .ref (G.2.1 + 0)), (1, .int v1), (2, .int v2), (4, .int v4)] rfl ?_
  refine je_iinc C (1) dX1_spy_67 70 rfl 4 rfl ic_1 (Nat.le_of_ble_eq_true rfl) [(4, .int (v4 + (1 : Int32))), (3, .int t66), (0, .ref (G.2.1 + 0)), (1, .int v1), (2, .int v2)] rfl ?_
  refine je_goto C 28 dX1_spy_70 rfl ?_
  refine je_sub [2, 3, 4, 1, 0] [(0, .ref (G.2.1 + 0)), (1, .int v1), (2, .int v2), (3, .int t66), (4, .int (v4 + (1 : Int32)))] rfl ?_
  exact hk28 v1 v2 t66 (v4 + (1 : Int32)) h
set_option maxHeartbeats 4000000 in
theorem wX1_spy_28 {p : Program} {l : Launch} {e : Env} {s : State} {m : MethodId} {args : Array Value} {below : List Frame} {meth : Method} {c : Code} {G : je_G} {dyn : Nat → Option je_E} {sz : Nat} {F : Nat} {hb : Nat} {hu : hd_T} {κ : kp_K} {r9 : Int32} (C : Cx p s m args meth c G "MinistryDesks" cX1_spy 5 (some .int)) (hH : HouseRep G dyn hb hu) : ∀ (n : Nat) (v1 : Int32) (v2 : Int32) (v3 : Int32) (v4 : Int32), bX1_spy_28 F hb hu n κ v1 v2 v3 v4 = some r9 → Js p l e ({ frames := 5, cells := 0, slots := 0, locals := 141 } : Room) s m args below meth c G 5 (MQ below (je_Q G (some (.int r9)) (en2 G κ dyn) sz) args s 0 0 (je_A G)) (en2 G κ dyn) sz 0 0 28 [(0, .ref (G.2.1 + 0)), (1, .int v1), (2, .int v2), (3, .int v3), (4, .int v4)] [] := by
  intro n
  induction n with
  | zero =>
    intro v1 v2 v3 v4 h
    cases h
  | succ n ih =>
    intro v1 v2 v3 v4 h
    rw [bX1_spy_28] at h
    refine je_iload C dX1_spy_28 30 rfl 4 rfl ?_
    refine je_aload_n C dX1_spy_30 31 rfl 0 rfl ?_
    obtain ⟨t31, hg, h⟩ := p_cl_inv h
    refine je_callVi (As := []) (rest := [.int v4]) C (metX1_desks hH hg) (en2_at kd0) rfl hdX1_desks rfl cwX1_166 rfl ⟨Nat.le_of_ble_eq_true rfl, Nat.le_of_ble_eq_true rfl⟩ (Nat.le_of_ble_eq_true rfl) dX1_spy_31 34 rfl ⟨Nat.le_refl _, Nat.le_refl _⟩ ?_
    refine je_icmp_ge C 73 dX1_spy_34 37 rfl rfl h (fun h => ?_) (fun h => ?_)
    · refine je_iload_n C dX1_spy_73 74 rfl 3 rfl ?_
      cases h
      exact je_iret C dX1_spy_74
    refine je_iload_n C dX1_spy_37 38 rfl 3 rfl ?_
    refine je_iload_n C dX1_spy_38 39 rfl 1 rfl ?_
    refine je_iload C dX1_spy_39 41 rfl 4 rfl ?_
    obtain ⟨t41, hg, h⟩ := p_cl_inv h
    refine je_callSi (As := [.int v1, .int v4]) (rest := [.int v3]) C (metX1_isOf hg) hdX1_isOf cwX1_279 rfl ⟨Nat.le_of_ble_eq_true rfl, Nat.le_of_ble_eq_true rfl⟩ (Nat.le_of_ble_eq_true rfl) dX1_spy_41 44 rfl ⟨Nat.le_refl _, Nat.le_refl _⟩ ?_
    refine je_if_eq C 64 dX1_spy_44 47 rfl rfl h (fun h => ?_) (fun h => ?_)
    · refine je_sub [0, 1, 2, 4] [(0, .ref (G.2.1 + 0)), (1, .int v1), (2, .int v2), (4, .int v4)] rfl ?_
      exact wX1_spy_64 C hH ih v1 v2 v4 v3 h
    refine je_aload_n C dX1_spy_47 48 rfl 0 rfl ?_
    refine gX1_48 C dX1_spy_48 51 rfl ?_
    refine je_iload C dX1_spy_51 53 rfl 4 rfl ?_
    refine je_iload_n C dX1_spy_53 54 rfl 2 rfl ?_
    obtain ⟨t54, hg, h⟩ := p_cl_inv h
    refine je_callVi (As := [.int v4, .int v2]) (rest := [.int v3]) C (metX5_lineOf (by decide : 0 < 3) hg) (en2_at kd13) rfl hdX5_lineOf rfl cwX1_397 rfl ⟨Nat.le_of_ble_eq_true rfl, Nat.le_of_ble_eq_true rfl⟩ (Nat.le_of_ble_eq_true rfl) dX1_spy_54 57 rfl ⟨Nat.le_refl _, Nat.le_refl _⟩ ?_
    refine je_if_lt C 64 dX1_spy_57 60 rfl rfl h (fun h => ?_) (fun h => ?_)
    · refine je_sub [0, 1, 2, 4] [(0, .ref (G.2.1 + 0)), (1, .int v1), (2, .int v2), (4, .int v4)] rfl ?_
      exact wX1_spy_64 C hH ih v1 v2 v4 v3 h
    refine je_iconst C (1) dX1_spy_60 61 rfl ic_1 ?_
    refine je_goto C 65 dX1_spy_61 rfl ?_
    refine je_iadd C dX1_spy_65 66 rfl ?_
    refine je_lti h (fun t66 h => ?_)
    refine je_istore_n C dX1_spy_66 67 rfl (Nat.le_of_ble_eq_true rfl) [(3, .int t66), (0, .ref (G.2.1 + 0)), (1, .int v1), (2, .int v2), (4, .int v4)] rfl ?_
    refine je_iinc C (1) dX1_spy_67 70 rfl 4 rfl ic_1 (Nat.le_of_ble_eq_true rfl) [(4, .int (v4 + (1 : Int32))), (3, .int t66), (0, .ref (G.2.1 + 0)), (1, .int v1), (2, .int v2)] rfl ?_
    refine je_goto C 28 dX1_spy_70 rfl ?_
    refine je_sub [2, 3, 4, 1, 0] [(0, .ref (G.2.1 + 0)), (1, .int v1), (2, .int v2), (3, .int t66), (4, .int (v4 + (1 : Int32)))] rfl ?_
    exact ih v1 v2 t66 (v4 + (1 : Int32)) h
set_option maxHeartbeats 4000000 in
theorem metX1_spy {l : Launch} {G : je_G} {dyn : Nat → Option je_E} {sz : Nat} {F : Nat} {hb : Nat} {hu : hd_T} {κ : kp_K} {v1 : Int32} {v2 : Int32} {r9 : Int32} (hH : HouseRep G dyn hb hu) (h : pX1_spy F hb hu κ v1 v2 = some r9) : MetS l G yX1_spy cX1_spy 5 (some .int) 5 141 0 0 [.ref (G.2.1 + 0), .int v1, .int v2] (en2 G κ dyn) sz (some (.int r9)) (en2 G κ dyn) sz := by
  refine je_met "MinistryDesks" rfl (by decide +kernel) (Nat.le_of_ble_eq_true rfl) [(0, .ref (G.2.1 + 0)), (1, .int v1), (2, .int v2)] rfl (fun p e s m args below meth c C => ?_)
  unfold pX1_spy at h
  refine je_iload_n C dX1_spy_0 1 rfl 1 rfl ?_
  refine je_if_lt C 21 dX1_spy_1 4 rfl rfl h (fun h => ?_) (fun h => ?_)
  · refine je_iconst C (-1) dX1_spy_21 22 rfl ic_m1 ?_
    cases h
    exact je_iret C dX1_spy_22
  refine je_iload_n C dX1_spy_4 5 rfl 1 rfl ?_
  refine je_aload_n C dX1_spy_5 6 rfl 0 rfl ?_
  obtain ⟨t6, hg, h⟩ := p_cl_inv h
  refine je_callVi (As := []) (rest := [.int v1]) C (metX1_desks hH hg) (en2_at kd0) rfl hdX1_desks rfl cwX1_166 rfl ⟨Nat.le_of_ble_eq_true rfl, Nat.le_of_ble_eq_true rfl⟩ (Nat.le_of_ble_eq_true rfl) dX1_spy_6 9 rfl ⟨Nat.le_refl _, Nat.le_refl _⟩ ?_
  refine je_ishr C dX1_spy_9 10 rfl ?_
  refine je_if_ne C 21 dX1_spy_10 13 rfl rfl h (fun h => ?_) (fun h => ?_)
  · refine je_iconst C (-1) dX1_spy_21 22 rfl ic_m1 ?_
    cases h
    exact je_iret C dX1_spy_22
  refine je_aload_n C dX1_spy_13 14 rfl 0 rfl ?_
  refine je_iload_n C dX1_spy_14 15 rfl 2 rfl ?_
  obtain ⟨t15, hg, h⟩ := p_cl_inv h
  refine je_callVi (As := [.int v2]) (rest := []) C (metX1_isFact hH hg) (en2_at kd0) rfl hdX1_isFact rfl cwX1_363 rfl ⟨Nat.le_of_ble_eq_true rfl, Nat.le_of_ble_eq_true rfl⟩ (Nat.le_of_ble_eq_true rfl) dX1_spy_15 18 rfl ⟨Nat.le_refl _, Nat.le_refl _⟩ ?_
  refine je_if_ne C 23 dX1_spy_18 21 rfl rfl h (fun h => ?_) (fun h => ?_)
  · refine je_iconst C (0) dX1_spy_23 24 rfl ic_0 ?_
    refine je_istore_n C dX1_spy_24 25 rfl (Nat.le_of_ble_eq_true rfl) [(3, .int (0 : Int32)), (0, .ref (G.2.1 + 0)), (1, .int v1), (2, .int v2)] rfl ?_
    refine je_iconst C (0) dX1_spy_25 26 rfl ic_0 ?_
    refine je_istore C dX1_spy_26 28 rfl (Nat.le_of_ble_eq_true rfl) [(4, .int (0 : Int32)), (3, .int (0 : Int32)), (0, .ref (G.2.1 + 0)), (1, .int v1), (2, .int v2)] rfl ?_
    refine je_sub [2, 3, 4, 1, 0] [(0, .ref (G.2.1 + 0)), (1, .int v1), (2, .int v2), (3, .int (0 : Int32)), (4, .int (0 : Int32))] rfl ?_
    exact wX1_spy_28 C hH F v1 v2 (0 : Int32) (0 : Int32) h
  refine je_iconst C (-1) dX1_spy_21 22 rfl ic_m1 ?_
  cases h
  exact je_iret C dX1_spy_22
theorem gX1_136 {p : Program} {l : Launch} {e : Env} {R : Room} {s : State} {m : MethodId} {args : Array Value} {below : List Frame} {meth : Method} {c : Code} {Q : State → Prop} {G : je_G} {cc : ByteArray} {nL : Nat} {rt : Option FieldType} {sz cells slots pc : Nat} {L : List (Nat × Value)} {st : List Value} {κ : kp_K} {dyn : Nat → Option je_E} (C : Cx p s m args meth c G "MinistryDesks" cc nL rt) (d : decode cc pc = .ok (.getfield 136, 3)) (n : Nat) (hn : pc + 3 = n) (kk : Js p l e R s m args below meth c G nL Q (en2 G κ dyn) sz cells slots n L (.int (κ.1 0 25) :: st)) : Js p l e R s m args below meth c G nL Q (en2 G κ dyn) sz cells slots pc L (.ref (G.2.1 + 0) :: st) := jk_getI (k := 25) C kd0 rfl in_X1 rfl (by decide) q467 rfl d n hn kk
theorem gX1_84 {p : Program} {l : Launch} {e : Env} {R : Room} {s : State} {m : MethodId} {args : Array Value} {below : List Frame} {meth : Method} {c : Code} {Q : State → Prop} {G : je_G} {cc : ByteArray} {nL : Nat} {rt : Option FieldType} {sz cells slots pc : Nat} {L : List (Nat × Value)} {st : List Value} {κ : kp_K} {dyn : Nat → Option je_E} (C : Cx p s m args meth c G "MinistryDesks" cc nL rt) (d : decode cc pc = .ok (.getfield 84, 3)) (n : Nat) (hn : pc + 3 = n) (kk : Js p l e R s m args below meth c G nL Q (en2 G κ dyn) sz cells slots n L (.ref (G.2.1 + 63) :: st)) : Js p l e R s m args below meth c G nL Q (en2 G κ dyn) sz cells slots pc L (.ref (G.2.1 + 0) :: st) := jk_getR (k := 22) (z := 0) C kd0 rfl in_X1 63 rfl (by decide) q464 rfl d n hn kk
theorem gX1_87 {p : Program} {l : Launch} {e : Env} {R : Room} {s : State} {m : MethodId} {args : Array Value} {below : List Frame} {meth : Method} {c : Code} {Q : State → Prop} {G : je_G} {cc : ByteArray} {nL : Nat} {rt : Option FieldType} {sz cells slots pc : Nat} {L : List (Nat × Value)} {st : List Value} {κ : kp_K} {dyn : Nat → Option je_E} (C : Cx p s m args meth c G "MinistryDesks" cc nL rt) (d : decode cc pc = .ok (.getfield 87, 3)) (n : Nat) (hn : pc + 3 = n) (kk : Js p l e R s m args below meth c G nL Q (en2 G κ dyn) sz cells slots n L (.ref (G.2.1 + 64) :: st)) : Js p l e R s m args below meth c G nL Q (en2 G κ dyn) sz cells slots pc L (.ref (G.2.1 + 0) :: st) := jk_getR (k := 23) (z := 0) C kd0 rfl in_X1 64 rfl (by decide) q465 rfl d n hn kk
theorem sX1_136 {p : Program} {l : Launch} {e : Env} {R : Room} {s : State} {m : MethodId} {args : Array Value} {below : List Frame} {meth : Method} {c : Code} {Q : State → Prop} {G : je_G} {cc : ByteArray} {nL : Nat} {rt : Option FieldType} {sz cells slots pc : Nat} {L : List (Nat × Value)} {st : List Value} {κ : kp_K} {dyn : Nat → Option je_E} (C : Cx p s m args meth c G "MinistryDesks" cc nL rt) {v : Int32} (d : decode cc pc = .ok (.putfield 136, 3)) (n : Nat) (hn : pc + 3 = n) (kk : Js p l e R s m args below meth c G nL Q (en2 G (s_i κ 0 25 v) dyn) sz cells slots n L st) : Js p l e R s m args below meth c G nL Q (en2 G κ dyn) sz cells slots pc L (.int v :: .ref (G.2.1 + 0) :: st) := jk_putI (k := 25) C kd0 rfl in_X1 tyX1 tyX1_ok nmX1 rfl (by decide) q467 rfl rfl rfl d n hn kk
set_option maxHeartbeats 4000000 in
theorem metX1_hears {l : Launch} {G : je_G} {dyn : Nat → Option je_E} {sz : Nat} {κ : kp_K} {v1 : Int32} {v2 : Int32} {r9 : Int32 × kp_K} (h : pX1_hears κ v1 v2 = some r9) : MetS l G yX1_hears cX1_hears 3 (some .int) 0 0 0 0 [.ref (G.2.1 + 0), .int v1, .int v2] (en2 G κ dyn) sz (some (.int r9.1)) (en2 G r9.2 dyn) sz := by
  refine je_met "MinistryDesks" rfl (by decide +kernel) (Nat.le_of_ble_eq_true rfl) [(0, .ref (G.2.1 + 0)), (1, .int v1), (2, .int v2)] rfl (fun p e s m args below meth c C => ?_)
  unfold pX1_hears at h
  refine je_aload_n C dX1_hears_0 1 rfl 0 rfl ?_
  refine gX1_84 C dX1_hears_1 4 rfl ?_
  refine je_aload_n C dX1_hears_4 5 rfl 0 rfl ?_
  refine gX1_136 C dX1_hears_5 8 rfl ?_
  refine je_iload_n C dX1_hears_8 9 rfl 1 rfl ?_
  refine jk_iast C kd63 dX1_hears_9 10 rfl h (fun h => ?_)
  refine jk_lt h (fun k9 h => ?_)
  refine je_aload_n C dX1_hears_10 11 rfl 0 rfl ?_
  refine gX1_87 C dX1_hears_11 14 rfl ?_
  refine je_aload_n C dX1_hears_14 15 rfl 0 rfl ?_
  refine gX1_136 C dX1_hears_15 18 rfl ?_
  refine je_iload_n C dX1_hears_18 19 rfl 2 rfl ?_
  refine jk_iast C kd64 dX1_hears_19 20 rfl h (fun h => ?_)
  refine jk_lt h (fun k19 h => ?_)
  refine je_aload_n C dX1_hears_20 21 rfl 0 rfl ?_
  refine je_dup C dX1_hears_21 22 rfl rfl ?_
  refine gX1_136 C dX1_hears_22 25 rfl ?_
  refine je_iconst C (1) dX1_hears_25 26 rfl ic_1 ?_
  refine je_iadd C dX1_hears_26 27 rfl ?_
  refine sX1_136 C dX1_hears_27 30 rfl ?_
  refine jk_lt h (fun k27 h => ?_)
  refine je_aload_n C dX1_hears_30 31 rfl 0 rfl ?_
  refine gX1_136 C dX1_hears_31 34 rfl ?_
  refine je_iconst C (1) dX1_hears_34 35 rfl ic_1 ?_
  refine je_isub C dX1_hears_35 36 rfl ?_
  cases h
  exact je_iret C dX1_hears_36
theorem hdX1_hears : je_hd yX1_hears 2 := ⟨by decide +kernel, by decide +kernel, by decide +kernel⟩
theorem cwX1_400 : GoodIn lw_all (wsV "MinistryDesks" 400 "MinistryDesks" yX1_hears (ws_ yX1_hears cX1_hears 3 (some .int))) := lw_V q1542 q1544 qs74 q161 q1545
set_option maxHeartbeats 4000000 in
theorem metX1_hear {l : Launch} {G : je_G} {dyn : Nat → Option je_E} {sz : Nat} {hb : Nat} {hu : hd_T} {κ : kp_K} {v1 : Int32} {v2 : Int32} {r9 : Int32 × kp_K} (hH : HouseRep G dyn hb hu) (h : pX1_hear hb hu κ v1 v2 = some r9) : MetS l G yX1_hear cX1_hear 3 (some .int) 4 120 0 0 [.ref (G.2.1 + 0), .int v1, .int v2] (en2 G κ dyn) sz (some (.int r9.1)) (en2 G r9.2 dyn) sz := by
  refine je_met "MinistryDesks" rfl (by decide +kernel) (Nat.le_of_ble_eq_true rfl) [(0, .ref (G.2.1 + 0)), (1, .int v1), (2, .int v2)] rfl (fun p e s m args below meth c C => ?_)
  unfold pX1_hear at h
  refine je_aload_n C dX1_hear_0 1 rfl 0 rfl ?_
  refine gX1_136 C dX1_hear_1 4 rfl ?_
  refine je_bipush C (24) dX1_hear_4 6 rfl bp_24 ?_
  refine je_icmp_ge C 47 dX1_hear_6 9 rfl rfl h (fun h => ?_) (fun h => ?_)
  · refine je_iconst C (-1) dX1_hear_47 48 rfl ic_m1 ?_
    cases h
    exact je_iret C dX1_hear_48
  refine je_iload_n C dX1_hear_9 10 rfl 1 rfl ?_
  refine je_iconst C (0) dX1_hear_10 11 rfl ic_0 ?_
  refine je_aload_n C dX1_hear_11 12 rfl 0 rfl ?_
  obtain ⟨hx, h⟩ := p_hs_inv h
  refine gX1_22 C hx dX1_hear_12 15 rfl ?_
  refine jh_listN C hH (t := 3) (by decide) q257 rfl dX1_hear_15 18 rfl ?_
  refine jh_size (t := 3) (rest := [.int (0 : Int32), .int v1]) C hH (by decide) cwX1_160 ⟨Nat.le_of_ble_eq_true rfl, Nat.le_of_ble_eq_true rfl⟩ (Nat.le_of_ble_eq_true rfl) dX1_hear_18 21 rfl ⟨Nat.le_refl _, Nat.le_refl _⟩ ?_
  refine je_iconst C (1) dX1_hear_21 22 rfl ic_1 ?_
  refine je_isub C dX1_hear_22 23 rfl ?_
  obtain ⟨t23, hg, h⟩ := p_cl_inv h
  refine je_callSi (As := [.int v1, .int (0 : Int32), .int ((Int32.ofNat (hu.2.1 3)) - (1 : Int32))]) (rest := []) C (metX1_isIn hg) hdX1_isIn cwX1_107 rfl ⟨Nat.le_of_ble_eq_true rfl, Nat.le_of_ble_eq_true rfl⟩ (Nat.le_of_ble_eq_true rfl) dX1_hear_23 26 rfl ⟨Nat.le_refl _, Nat.le_refl _⟩ ?_
  refine je_if_eq C 47 dX1_hear_26 29 rfl rfl h (fun h => ?_) (fun h => ?_)
  · refine je_iconst C (-1) dX1_hear_47 48 rfl ic_m1 ?_
    cases h
    exact je_iret C dX1_hear_48
  refine je_iload_n C dX1_hear_29 30 rfl 2 rfl ?_
  refine je_iconst C (0) dX1_hear_30 31 rfl ic_0 ?_
  refine je_iconst C (2) dX1_hear_31 32 rfl ic_2 ?_
  obtain ⟨t32, hg, h⟩ := p_cl_inv h
  refine je_callSi (As := [.int v2, .int (0 : Int32), .int (2 : Int32)]) (rest := []) C (metX1_isIn hg) hdX1_isIn cwX1_107 rfl ⟨Nat.le_of_ble_eq_true rfl, Nat.le_of_ble_eq_true rfl⟩ (Nat.le_of_ble_eq_true rfl) dX1_hear_32 35 rfl ⟨Nat.le_refl _, Nat.le_refl _⟩ ?_
  refine je_if_eq C 47 dX1_hear_35 38 rfl rfl h (fun h => ?_) (fun h => ?_)
  · refine je_iconst C (-1) dX1_hear_47 48 rfl ic_m1 ?_
    cases h
    exact je_iret C dX1_hear_48
  refine je_aload_n C dX1_hear_38 39 rfl 0 rfl ?_
  refine je_iload_n C dX1_hear_39 40 rfl 1 rfl ?_
  refine je_iload_n C dX1_hear_40 41 rfl 2 rfl ?_
  obtain ⟨q41, hg, h⟩ := p_cl_inv h
  refine je_callVi (As := [.int v1, .int v2]) (rest := []) C (metX1_hears hg) (en2_at kd0) rfl hdX1_hears rfl cwX1_400 rfl ⟨Nat.le_of_ble_eq_true rfl, Nat.le_of_ble_eq_true rfl⟩ (Nat.le_of_ble_eq_true rfl) dX1_hear_41 44 rfl ⟨Nat.le_refl _, Nat.le_refl _⟩ ?_
  refine je_lti h (fun t41 h => ?_)
  refine jk_lt h (fun k41 h => ?_)
  refine je_goto C 48 dX1_hear_44 rfl ?_
  cases h
  exact je_iret C dX1_hear_48
set_option maxHeartbeats 4000000 in
theorem metX1_strike {l : Launch} {G : je_G} {dyn : Nat → Option je_E} {sz : Nat} {κ : kp_K} {v1 : Int32} {r9 : Int32 × kp_K} (h : pX1_strike κ v1 = some r9) : MetS l G yX1_strike cX1_strike 2 (some .int) 1 22 0 0 [.ref (G.2.1 + 0), .int v1] (en2 G κ dyn) sz (some (.int r9.1)) (en2 G r9.2 dyn) sz := by
  refine je_met "MinistryDesks" rfl (by decide +kernel) (Nat.le_of_ble_eq_true rfl) [(0, .ref (G.2.1 + 0)), (1, .int v1)] rfl (fun p e s m args below meth c C => ?_)
  unfold pX1_strike at h
  refine je_aload_n C dX1_strike_0 1 rfl 0 rfl ?_
  refine gX1_136 C dX1_strike_1 4 rfl ?_
  refine je_bipush C (24) dX1_strike_4 6 rfl bp_24 ?_
  refine je_icmp_ge C 32 dX1_strike_6 9 rfl rfl h (fun h => ?_) (fun h => ?_)
  · refine je_iconst C (-1) dX1_strike_32 33 rfl ic_m1 ?_
    cases h
    exact je_iret C dX1_strike_33
  refine je_iload_n C dX1_strike_9 10 rfl 1 rfl ?_
  refine je_iconst C (0) dX1_strike_10 11 rfl ic_0 ?_
  refine je_aload_n C dX1_strike_11 12 rfl 0 rfl ?_
  refine gX1_136 C dX1_strike_12 15 rfl ?_
  refine je_iconst C (1) dX1_strike_15 16 rfl ic_1 ?_
  refine je_isub C dX1_strike_16 17 rfl ?_
  obtain ⟨t17, hg, h⟩ := p_cl_inv h
  refine je_callSi (As := [.int v1, .int (0 : Int32), .int ((κ.1 0 25) - (1 : Int32))]) (rest := []) C (metX1_isIn hg) hdX1_isIn cwX1_107 rfl ⟨Nat.le_of_ble_eq_true rfl, Nat.le_of_ble_eq_true rfl⟩ (Nat.le_of_ble_eq_true rfl) dX1_strike_17 20 rfl ⟨Nat.le_refl _, Nat.le_refl _⟩ ?_
  refine je_if_eq C 32 dX1_strike_20 23 rfl rfl h (fun h => ?_) (fun h => ?_)
  · refine je_iconst C (-1) dX1_strike_32 33 rfl ic_m1 ?_
    cases h
    exact je_iret C dX1_strike_33
  refine je_aload_n C dX1_strike_23 24 rfl 0 rfl ?_
  refine je_iconst C (-1) dX1_strike_24 25 rfl ic_m1 ?_
  refine je_iload_n C dX1_strike_25 26 rfl 1 rfl ?_
  obtain ⟨q26, hg, h⟩ := p_cl_inv h
  refine je_callVi (As := [.int (-1 : Int32), .int v1]) (rest := []) C (metX1_hears hg) (en2_at kd0) rfl hdX1_hears rfl cwX1_400 rfl ⟨Nat.le_of_ble_eq_true rfl, Nat.le_of_ble_eq_true rfl⟩ (Nat.le_of_ble_eq_true rfl) dX1_strike_26 29 rfl ⟨Nat.le_refl _, Nat.le_refl _⟩ ?_
  refine je_lti h (fun t26 h => ?_)
  refine jk_lt h (fun k26 h => ?_)
  refine je_goto C 33 dX1_strike_29 rfl ?_
  cases h
  exact je_iret C dX1_strike_33
theorem sX1_93 {p : Program} {l : Launch} {e : Env} {R : Room} {s : State} {m : MethodId} {args : Array Value} {below : List Frame} {meth : Method} {c : Code} {Q : State → Prop} {G : je_G} {cc : ByteArray} {nL : Nat} {rt : Option FieldType} {sz cells slots pc : Nat} {L : List (Nat × Value)} {st : List Value} {κ : kp_K} {dyn : Nat → Option je_E} (C : Cx p s m args meth c G "MinistryDesks" cc nL rt) {v : Int32} (d : decode cc pc = .ok (.putfield 93, 3)) (n : Nat) (hn : pc + 3 = n) (kk : Js p l e R s m args below meth c G nL Q (en2 G (s_i κ 0 26 v) dyn) sz cells slots n L st) : Js p l e R s m args below meth c G nL Q (en2 G κ dyn) sz cells slots pc L (.int v :: .ref (G.2.1 + 0) :: st) := jk_putI (k := 26) C kd0 rfl in_X1 tyX1 tyX1_ok nmX1 rfl (by decide) q468 rfl rfl rfl d n hn kk
set_option maxHeartbeats 4000000 in
theorem metX1_known {l : Launch} {G : je_G} {dyn : Nat → Option je_E} {sz : Nat} {κ : kp_K} {v1 : Int32} {r9 : Int32 × kp_K} (h : pX1_known κ v1 = some r9) : MetS l G yX1_known cX1_known 2 (some .boolean) 1 22 0 0 [.ref (G.2.1 + 0), .int v1] (en2 G κ dyn) sz (some (.int r9.1)) (en2 G r9.2 dyn) sz := by
  refine je_met "MinistryDesks" rfl (by decide +kernel) (Nat.le_of_ble_eq_true rfl) [(0, .ref (G.2.1 + 0)), (1, .int v1)] rfl (fun p e s m args below meth c C => ?_)
  unfold pX1_known at h
  refine je_iload_n C dX1_known_0 1 rfl 1 rfl ?_
  refine je_iconst C (-1) dX1_known_1 2 rfl ic_m1 ?_
  refine je_aload_n C dX1_known_2 3 rfl 0 rfl ?_
  refine gX1_136 C dX1_known_3 6 rfl ?_
  obtain ⟨t6, hg, h⟩ := p_cl_inv h
  refine je_callSi (As := [.int v1, .int (-1 : Int32), .int (κ.1 0 25)]) (rest := []) C (metX1_isIn hg) hdX1_isIn cwX1_107 rfl ⟨Nat.le_of_ble_eq_true rfl, Nat.le_of_ble_eq_true rfl⟩ (Nat.le_of_ble_eq_true rfl) dX1_known_6 9 rfl ⟨Nat.le_refl _, Nat.le_refl _⟩ ?_
  refine je_if_ne C 14 dX1_known_9 12 rfl rfl h (fun h => ?_) (fun h => ?_)
  · refine je_aload_n C dX1_known_14 15 rfl 0 rfl ?_
    refine je_iload_n C dX1_known_15 16 rfl 1 rfl ?_
    refine sX1_93 C dX1_known_16 19 rfl ?_
    refine jk_lt h (fun k16 h => ?_)
    refine je_iconst C (1) dX1_known_19 20 rfl ic_1 ?_
    cases h
    exact je_zret C dX1_known_20 (Or.inr rfl)
  refine je_iconst C (0) dX1_known_12 13 rfl ic_0 ?_
  cases h
  exact je_zret C dX1_known_13 (Or.inl rfl)
theorem gX1_93 {p : Program} {l : Launch} {e : Env} {R : Room} {s : State} {m : MethodId} {args : Array Value} {below : List Frame} {meth : Method} {c : Code} {Q : State → Prop} {G : je_G} {cc : ByteArray} {nL : Nat} {rt : Option FieldType} {sz cells slots pc : Nat} {L : List (Nat × Value)} {st : List Value} {κ : kp_K} {dyn : Nat → Option je_E} (C : Cx p s m args meth c G "MinistryDesks" cc nL rt) (d : decode cc pc = .ok (.getfield 93, 3)) (n : Nat) (hn : pc + 3 = n) (kk : Js p l e R s m args below meth c G nL Q (en2 G κ dyn) sz cells slots n L (.int (κ.1 0 26) :: st)) : Js p l e R s m args below meth c G nL Q (en2 G κ dyn) sz cells slots pc L (.ref (G.2.1 + 0) :: st) := jk_getI (k := 26) C kd0 rfl in_X1 rfl (by decide) q468 rfl d n hn kk
set_option maxHeartbeats 4000000 in
theorem metX1_knownBy {l : Launch} {G : je_G} {dyn : Nat → Option je_E} {sz : Nat} {κ : kp_K}  {r9 : Int32} (h : pX1_knownBy κ = some r9) : MetS l G yX1_knownBy cX1_knownBy 1 (some .int) 0 0 0 0 [.ref (G.2.1 + 0)] (en2 G κ dyn) sz (some (.int r9)) (en2 G κ dyn) sz := by
  refine je_met "MinistryDesks" rfl (by decide +kernel) (Nat.le_of_ble_eq_true rfl) [(0, .ref (G.2.1 + 0))] rfl (fun p e s m args below meth c C => ?_)
  unfold pX1_knownBy at h
  refine je_aload_n C dX1_knownBy_0 1 rfl 0 rfl ?_
  refine gX1_93 C dX1_knownBy_1 4 rfl ?_
  refine je_if_ge C 14 dX1_knownBy_4 7 rfl rfl h (fun h => ?_) (fun h => ?_)
  · refine je_aload_n C dX1_knownBy_14 15 rfl 0 rfl ?_
    refine gX1_93 C dX1_knownBy_15 18 rfl ?_
    cases h
    exact je_iret C dX1_knownBy_18
  refine je_aload_n C dX1_knownBy_7 8 rfl 0 rfl ?_
  refine gX1_136 C dX1_knownBy_8 11 rfl ?_
  refine je_goto C 18 dX1_knownBy_11 rfl ?_
  cases h
  exact je_iret C dX1_knownBy_18
theorem sX4_chg_15 {p : Program} {l : Launch} {e : Env} {R : Room} {s : State} {m : MethodId} {args : Array Value} {below : List Frame} {meth : Method} {c : Code} {Q : State → Prop} {G : je_G} {cc : ByteArray} {nL : Nat} {rt : Option FieldType} {sz cells slots pc : Nat} {L : List (Nat × Value)} {st : List Value} {κ : kp_K} {dyn : Nat → Option je_E} (C : Cx p s m args meth c G "MinistryDesks$Change" cc nL rt) {a : Nat} (ha : a = 11 ∨ a = 12) {v : Int32} (d : decode cc pc = .ok (.putfield 15, 3)) (n : Nat) (hn : pc + 3 = n) (kk : Js p l e R s m args below meth c G nL Q (en2 G (s_i κ a 6 v) dyn) sz cells slots n L st) : Js p l e R s m args below meth c G nL Q (en2 G κ dyn) sz cells slots pc L (.int v :: .ref (G.2.1 + a) :: st) := jk_putI (k := 6) C (kdc ha) rfl in_X4 tyX4 tyX4_ok nmX4 rfl (by decide) q344 rfl rfl rfl d n hn kk
theorem sX4_chg_18 {p : Program} {l : Launch} {e : Env} {R : Room} {s : State} {m : MethodId} {args : Array Value} {below : List Frame} {meth : Method} {c : Code} {Q : State → Prop} {G : je_G} {cc : ByteArray} {nL : Nat} {rt : Option FieldType} {sz cells slots pc : Nat} {L : List (Nat × Value)} {st : List Value} {κ : kp_K} {dyn : Nat → Option je_E} (C : Cx p s m args meth c G "MinistryDesks$Change" cc nL rt) {a : Nat} (ha : a = 11 ∨ a = 12) {v : Option Nat} (d : decode cc pc = .ok (.putfield 18, 3)) (n : Nat) (hn : pc + 3 = n) (kk : Js p l e R s m args below meth c G nL Q (en2 G (s_r κ a 0 v) dyn) sz cells slots n L st) : Js p l e R s m args below meth c G nL Q (en2 G κ dyn) sz cells slots pc L (va_rf (Option.map (fun q => G.2.1 + q) v) :: .ref (G.2.1 + a) :: st) := jk_putO (k := 0) C (kdc ha) rfl in_X4 tyX4 tyX4_ok nmX4 rfl (by decide) q326 rfl rfl "MinistryDesks$Node" rfl d n hn kk
theorem sX4_chg_22 {p : Program} {l : Launch} {e : Env} {R : Room} {s : State} {m : MethodId} {args : Array Value} {below : List Frame} {meth : Method} {c : Code} {Q : State → Prop} {G : je_G} {cc : ByteArray} {nL : Nat} {rt : Option FieldType} {sz cells slots pc : Nat} {L : List (Nat × Value)} {st : List Value} {κ : kp_K} {dyn : Nat → Option je_E} (C : Cx p s m args meth c G "MinistryDesks$Change" cc nL rt) {a : Nat} (ha : a = 11 ∨ a = 12) {v : Int32} (hz : v = 0 ∨ v = 1) (d : decode cc pc = .ok (.putfield 22, 3)) (n : Nat) (hn : pc + 3 = n) (kk : Js p l e R s m args below meth c G nL Q (en2 G (s_i κ a 1 v) dyn) sz cells slots n L st) : Js p l e R s m args below meth c G nL Q (en2 G κ dyn) sz cells slots pc L (.int v :: .ref (G.2.1 + a) :: st) := jk_putZ (k := 1) C (kdc ha) rfl in_X4 tyX4 tyX4_ok nmX4 rfl (by decide) q329 rfl rfl rfl hz d n hn kk
theorem sX4_chg_26 {p : Program} {l : Launch} {e : Env} {R : Room} {s : State} {m : MethodId} {args : Array Value} {below : List Frame} {meth : Method} {c : Code} {Q : State → Prop} {G : je_G} {cc : ByteArray} {nL : Nat} {rt : Option FieldType} {sz cells slots pc : Nat} {L : List (Nat × Value)} {st : List Value} {κ : kp_K} {dyn : Nat → Option je_E} (C : Cx p s m args meth c G "MinistryDesks$Change" cc nL rt) {a : Nat} (ha : a = 11 ∨ a = 12) {v : Int32} (hz : v = 0 ∨ v = 1) (d : decode cc pc = .ok (.putfield 26, 3)) (n : Nat) (hn : pc + 3 = n) (kk : Js p l e R s m args below meth c G nL Q (en2 G (s_i κ a 2 v) dyn) sz cells slots n L st) : Js p l e R s m args below meth c G nL Q (en2 G κ dyn) sz cells slots pc L (.int v :: .ref (G.2.1 + a) :: st) := jk_putZ (k := 2) C (kdc ha) rfl in_X4 tyX4 tyX4_ok nmX4 rfl (by decide) q332 rfl rfl rfl hz d n hn kk
theorem sX4_chg_29 {p : Program} {l : Launch} {e : Env} {R : Room} {s : State} {m : MethodId} {args : Array Value} {below : List Frame} {meth : Method} {c : Code} {Q : State → Prop} {G : je_G} {cc : ByteArray} {nL : Nat} {rt : Option FieldType} {sz cells slots pc : Nat} {L : List (Nat × Value)} {st : List Value} {κ : kp_K} {dyn : Nat → Option je_E} (C : Cx p s m args meth c G "MinistryDesks$Change" cc nL rt) {a : Nat} (ha : a = 11 ∨ a = 12) {v : Int32} (hz : v = 0 ∨ v = 1) (d : decode cc pc = .ok (.putfield 29, 3)) (n : Nat) (hn : pc + 3 = n) (kk : Js p l e R s m args below meth c G nL Q (en2 G (s_i κ a 3 v) dyn) sz cells slots n L st) : Js p l e R s m args below meth c G nL Q (en2 G κ dyn) sz cells slots pc L (.int v :: .ref (G.2.1 + a) :: st) := jk_putZ (k := 3) C (kdc ha) rfl in_X4 tyX4 tyX4_ok nmX4 rfl (by decide) q335 rfl rfl rfl hz d n hn kk
theorem sX4_chg_32 {p : Program} {l : Launch} {e : Env} {R : Room} {s : State} {m : MethodId} {args : Array Value} {below : List Frame} {meth : Method} {c : Code} {Q : State → Prop} {G : je_G} {cc : ByteArray} {nL : Nat} {rt : Option FieldType} {sz cells slots pc : Nat} {L : List (Nat × Value)} {st : List Value} {κ : kp_K} {dyn : Nat → Option je_E} (C : Cx p s m args meth c G "MinistryDesks$Change" cc nL rt) {a : Nat} (ha : a = 11 ∨ a = 12) {v : Int32} (hz : v = 0 ∨ v = 1) (d : decode cc pc = .ok (.putfield 32, 3)) (n : Nat) (hn : pc + 3 = n) (kk : Js p l e R s m args below meth c G nL Q (en2 G (s_i κ a 4 v) dyn) sz cells slots n L st) : Js p l e R s m args below meth c G nL Q (en2 G κ dyn) sz cells slots pc L (.int v :: .ref (G.2.1 + a) :: st) := jk_putZ (k := 4) C (kdc ha) rfl in_X4 tyX4 tyX4_ok nmX4 rfl (by decide) q338 rfl rfl rfl hz d n hn kk
theorem sX4_chg_9 {p : Program} {l : Launch} {e : Env} {R : Room} {s : State} {m : MethodId} {args : Array Value} {below : List Frame} {meth : Method} {c : Code} {Q : State → Prop} {G : je_G} {cc : ByteArray} {nL : Nat} {rt : Option FieldType} {sz cells slots pc : Nat} {L : List (Nat × Value)} {st : List Value} {κ : kp_K} {dyn : Nat → Option je_E} (C : Cx p s m args meth c G "MinistryDesks$Change" cc nL rt) {a : Nat} (ha : a = 11 ∨ a = 12) {v : Int32} (d : decode cc pc = .ok (.putfield 9, 3)) (n : Nat) (hn : pc + 3 = n) (kk : Js p l e R s m args below meth c G nL Q (en2 G (s_i κ a 5 v) dyn) sz cells slots n L st) : Js p l e R s m args below meth c G nL Q (en2 G κ dyn) sz cells slots pc L (.int v :: .ref (G.2.1 + a) :: st) := jk_putI (k := 5) C (kdc ha) rfl in_X4 tyX4 tyX4_ok nmX4 rfl (by decide) q341 rfl rfl rfl d n hn kk
set_option maxHeartbeats 4000000 in
theorem metX4_clear {l : Launch} {G : je_G} {dyn : Nat → Option je_E} {sz : Nat} {ch : Nat} {κ : kp_K} {o1 : Option Nat} {r9 : kp_K} (hch : ch = 11 ∨ ch = 12) (h : pX4_clear ch κ o1 = some r9) : MetS l G yX4_clear cX4_clear 2 (some (.object "MinistryDesks$Change")) 0 0 0 0 [.ref (G.2.1 + ch), va_rf (Option.map (fun q => G.2.1 + q) o1)] (en2 G κ dyn) sz (some (.ref (G.2.1 + ch))) (en2 G r9 dyn) sz := by
  refine je_met "MinistryDesks$Change" rfl (by decide +kernel) (by cases o1 <;> exact Nat.le_of_ble_eq_true rfl) [(0, .ref (G.2.1 + ch)), (1, va_rf (Option.map (fun q => G.2.1 + q) o1))] (by cases o1 <;> rfl) (fun p e s m args below meth c C => ?_)
  unfold pX4_clear at h
  refine je_aload_n C dX4_clear_0 1 rfl 0 rfl ?_
  refine je_aloadR_n C dX4_clear_1 2 rfl 1 rfl ?_
  refine sX4_chg_18 (v := o1) C hch dX4_clear_2 5 rfl ?_
  refine jk_lt h (fun k2 h => ?_)
  refine je_aload_n C dX4_clear_5 6 rfl 0 rfl ?_
  refine je_iconst C (0) dX4_clear_6 7 rfl ic_0 ?_
  refine sX4_chg_22 C hch (Or.inl rfl) dX4_clear_7 10 rfl ?_
  refine jk_lt h (fun k7 h => ?_)
  refine je_aload_n C dX4_clear_10 11 rfl 0 rfl ?_
  refine je_iconst C (0) dX4_clear_11 12 rfl ic_0 ?_
  refine sX4_chg_26 C hch (Or.inl rfl) dX4_clear_12 15 rfl ?_
  refine jk_lt h (fun k12 h => ?_)
  refine je_aload_n C dX4_clear_15 16 rfl 0 rfl ?_
  refine je_iconst C (0) dX4_clear_16 17 rfl ic_0 ?_
  refine sX4_chg_29 C hch (Or.inl rfl) dX4_clear_17 20 rfl ?_
  refine jk_lt h (fun k17 h => ?_)
  refine je_aload_n C dX4_clear_20 21 rfl 0 rfl ?_
  refine je_iconst C (0) dX4_clear_21 22 rfl ic_0 ?_
  refine sX4_chg_32 C hch (Or.inl rfl) dX4_clear_22 25 rfl ?_
  refine jk_lt h (fun k22 h => ?_)
  refine je_aload_n C dX4_clear_25 26 rfl 0 rfl ?_
  refine je_iconst C (-1) dX4_clear_26 27 rfl ic_m1 ?_
  refine sX4_chg_9 C hch dX4_clear_27 30 rfl ?_
  refine jk_lt h (fun k27 h => ?_)
  refine je_aload_n C dX4_clear_30 31 rfl 0 rfl ?_
  refine je_iconst C (-1) dX4_clear_31 32 rfl ic_m1 ?_
  refine sX4_chg_15 C hch dX4_clear_32 35 rfl ?_
  refine jk_lt h (fun k32 h => ?_)
  refine je_aload_n C dX4_clear_35 36 rfl 0 rfl ?_
  cases h
  exact je_aretT C dX4_clear_36
theorem sX5_run_56 {p : Program} {l : Launch} {e : Env} {R : Room} {s : State} {m : MethodId} {args : Array Value} {below : List Frame} {meth : Method} {c : Code} {Q : State → Prop} {G : je_G} {cc : ByteArray} {nL : Nat} {rt : Option FieldType} {sz cells slots pc : Nat} {L : List (Nat × Value)} {st : List Value} {κ : kp_K} {dyn : Nat → Option je_E} (C : Cx p s m args meth c G "MinistryDesks$Run" cc nL rt) {r : Nat} (hr : r < 3) {v : Option Nat} (d : decode cc pc = .ok (.putfield 56, 3)) (n : Nat) (hn : pc + 3 = n) (kk : Js p l e R s m args below meth c G nL Q (en2 G (s_r κ (13 + 14 * r) 0 v) dyn) sz cells slots n L st) : Js p l e R s m args below meth c G nL Q (en2 G κ dyn) sz cells slots pc L (va_rf (Option.map (fun q => G.2.1 + q) v) :: .ref (G.2.1 + (13 + 14 * r)) :: st) := jk_putO (k := 0) C (kro hr) rfl in_X5 tyX5 tyX5_ok nmX5 rfl (by decide) q368 rfl rfl "MinistryDesks$Change" rfl d n hn kk
set_option maxHeartbeats 4000000 in
theorem wX5_begin_63 {p : Program} {l : Launch} {e : Env} {s : State} {m : MethodId} {args : Array Value} {below : List Frame} {meth : Method} {c : Code} {G : je_G} {dyn : Nat → Option je_E} {sz : Nat} {F : Nat} {r : Nat} {r9 : kp_K} (C : Cx p s m args meth c G "MinistryDesks$Run" cX5_begin 3 none) (hr : r < 3) : ∀ (n : Nat) (κ : kp_K) (v2 : Int32), bX5_begin_63 F r n κ v2 = some r9 → Js p l e ({ frames := 0, cells := 0, slots := 0, locals := 0 } : Room) s m args below meth c G 3 (MQ below (je_Q G none (en2 G r9 dyn) sz) args s 0 0 (je_A G)) (en2 G κ dyn) sz 0 0 63 [(0, .ref (G.2.1 + (13 + 14 * r))), (2, .int v2)] [] := by
  intro n
  induction n with
  | zero =>
    intro κ v2 h
    cases h
  | succ n ih =>
    intro κ v2 h
    rw [bX5_begin_63] at h
    refine je_iload_n C dX5_begin_63 64 rfl 1 rfl ?_
    refine je_bipush C (16) dX5_begin_64 66 rfl bp_16 ?_
    refine je_icmp_ge C 83 dX5_begin_66 69 rfl rfl h (fun h => ?_) (fun h => ?_)
    · cases h
      exact je_vret C dX5_begin_83
    refine je_aload_n C dX5_begin_69 70 rfl 0 rfl ?_
    refine gX5_run_50 C hr dX5_begin_70 73 rfl ?_
    refine je_iload_n C dX5_begin_73 74 rfl 1 rfl ?_
    refine je_bipush C (-2) dX5_begin_74 76 rfl bp_m2 ?_
    refine jk_iast C (kr12 hr) dX5_begin_76 77 rfl h (fun h => ?_)
    refine jk_lt h (fun k76 h => ?_)
    refine je_iinc C (1) dX5_begin_77 80 rfl 1 rfl ic_1 (Nat.le_of_ble_eq_true rfl) [(2, .int (v2 + (1 : Int32))), (0, .ref (G.2.1 + (13 + 14 * r)))] rfl ?_
    refine je_goto C 63 dX5_begin_80 rfl ?_
    refine je_sub [1, 0] [(0, .ref (G.2.1 + (13 + 14 * r))), (2, .int (v2 + (1 : Int32)))] rfl ?_
    exact ih k76 (v2 + (1 : Int32)) h
set_option maxHeartbeats 4000000 in
theorem wX5_begin_22 {p : Program} {l : Launch} {e : Env} {s : State} {m : MethodId} {args : Array Value} {below : List Frame} {meth : Method} {c : Code} {G : je_G} {dyn : Nat → Option je_E} {sz : Nat} {F : Nat} {r : Nat} {r9 : kp_K} (C : Cx p s m args meth c G "MinistryDesks$Run" cX5_begin 3 none) (hr : r < 3) : ∀ (n : Nat) (κ : kp_K) (v2 : Int32), bX5_begin_22 F r n κ v2 = some r9 → Js p l e ({ frames := 0, cells := 0, slots := 0, locals := 0 } : Room) s m args below meth c G 3 (MQ below (je_Q G none (en2 G r9 dyn) sz) args s 0 0 (je_A G)) (en2 G κ dyn) sz 0 0 22 [(0, .ref (G.2.1 + (13 + 14 * r))), (2, .int v2)] [] := by
  intro n
  induction n with
  | zero =>
    intro κ v2 h
    cases h
  | succ n ih =>
    intro κ v2 h
    rw [bX5_begin_22] at h
    refine je_iload_n C dX5_begin_22 23 rfl 1 rfl ?_
    refine je_iconst C (4) dX5_begin_23 24 rfl ic_4 ?_
    refine je_icmp_ge C 61 dX5_begin_24 27 rfl rfl h (fun h => ?_) (fun h => ?_)
    · refine je_iconst C (0) dX5_begin_61 62 rfl ic_0 ?_
      refine je_istore_n C dX5_begin_62 63 rfl (Nat.le_of_ble_eq_true rfl) [(2, .int (0 : Int32)), (0, .ref (G.2.1 + (13 + 14 * r)))] rfl ?_
      refine je_sub [1, 0] [(0, .ref (G.2.1 + (13 + 14 * r))), (2, .int (0 : Int32))] rfl ?_
      exact wX5_begin_63 C hr F κ (0 : Int32) h
    refine je_aload_n C dX5_begin_27 28 rfl 0 rfl ?_
    refine gX5_run_15 C hr dX5_begin_28 31 rfl ?_
    refine je_iload_n C dX5_begin_31 32 rfl 1 rfl ?_
    refine je_iconst C (0) dX5_begin_32 33 rfl ic_0 ?_
    refine jk_iast C (kr1 hr) dX5_begin_33 34 rfl h (fun h => ?_)
    refine jk_lt h (fun k33 h => ?_)
    refine je_aload_n C dX5_begin_34 35 rfl 0 rfl ?_
    refine gX5_run_19 C hr dX5_begin_35 38 rfl ?_
    refine je_iload_n C dX5_begin_38 39 rfl 1 rfl ?_
    refine je_iconst C (0) dX5_begin_39 40 rfl ic_0 ?_
    refine jk_iast C (kr2 hr) dX5_begin_40 41 rfl h (fun h => ?_)
    refine jk_lt h (fun k40 h => ?_)
    refine je_aload_n C dX5_begin_41 42 rfl 0 rfl ?_
    refine gX5_run_22 C hr dX5_begin_42 45 rfl ?_
    refine je_iload_n C dX5_begin_45 46 rfl 1 rfl ?_
    refine je_iconst C (-1) dX5_begin_46 47 rfl ic_m1 ?_
    refine jk_iast C (kr3 hr) dX5_begin_47 48 rfl h (fun h => ?_)
    refine jk_lt h (fun k47 h => ?_)
    refine je_aload_n C dX5_begin_48 49 rfl 0 rfl ?_
    refine gX5_run_25 C hr dX5_begin_49 52 rfl ?_
    refine je_iload_n C dX5_begin_52 53 rfl 1 rfl ?_
    refine je_iconst C (0) dX5_begin_53 54 rfl ic_0 ?_
    refine jk_zast C (kr4 hr) dX5_begin_54 55 rfl (Or.inl rfl) h (fun h => ?_)
    refine jk_lt h (fun k54 h => ?_)
    refine je_iinc C (1) dX5_begin_55 58 rfl 1 rfl ic_1 (Nat.le_of_ble_eq_true rfl) [(2, .int (v2 + (1 : Int32))), (0, .ref (G.2.1 + (13 + 14 * r)))] rfl ?_
    refine je_goto C 22 dX5_begin_58 rfl ?_
    refine je_sub [1, 0] [(0, .ref (G.2.1 + (13 + 14 * r))), (2, .int (v2 + (1 : Int32)))] rfl ?_
    exact ih k54 (v2 + (1 : Int32)) h
set_option maxHeartbeats 4000000 in
theorem metX5_begin {l : Launch} {G : je_G} {dyn : Nat → Option je_E} {sz : Nat} {F : Nat} {r : Nat} {κ : kp_K} {a1 : Nat} {r9 : kp_K} (hr : r < 3) (h : pX5_begin F r κ a1 = some r9) : MetS l G yX5_begin cX5_begin 3 none 0 0 0 0 [.ref (G.2.1 + (13 + 14 * r)), .ref (G.2.1 + a1)] (en2 G κ dyn) sz none (en2 G r9 dyn) sz := by
  refine je_met "MinistryDesks$Run" rfl (by decide +kernel) (Nat.le_of_ble_eq_true rfl) [(0, .ref (G.2.1 + (13 + 14 * r))), (1, .ref (G.2.1 + a1))] rfl (fun p e s m args below meth c C => ?_)
  unfold pX5_begin at h
  refine je_aload_n C dX5_begin_0 1 rfl 0 rfl ?_
  refine je_aload_n C dX5_begin_1 2 rfl 1 rfl ?_
  refine sX5_run_56 (v := (some a1)) C hr dX5_begin_2 5 rfl ?_
  refine jk_lt h (fun k2 h => ?_)
  refine je_aload_n C dX5_begin_5 6 rfl 0 rfl ?_
  refine je_iconst C (0) dX5_begin_6 7 rfl ic_0 ?_
  refine sX5_run_60 C hr dX5_begin_7 10 rfl ?_
  refine jk_lt h (fun k7 h => ?_)
  refine je_aload_n C dX5_begin_10 11 rfl 0 rfl ?_
  refine je_iconst C (0) dX5_begin_11 12 rfl ic_0 ?_
  refine sX5_run_64 C hr dX5_begin_12 15 rfl ?_
  refine jk_lt h (fun k12 h => ?_)
  refine je_aload_n C dX5_begin_15 16 rfl 0 rfl ?_
  refine je_iconst C (0) dX5_begin_16 17 rfl ic_0 ?_
  refine sX5_run_67 C hr (Or.inl rfl) dX5_begin_17 20 rfl ?_
  refine jk_lt h (fun k17 h => ?_)
  refine je_iconst C (0) dX5_begin_20 21 rfl ic_0 ?_
  refine je_istore_n C dX5_begin_21 22 rfl (Nat.le_of_ble_eq_true rfl) [(2, .int (0 : Int32)), (0, .ref (G.2.1 + (13 + 14 * r))), (1, .ref (G.2.1 + a1))] rfl ?_
  refine je_sub [1, 0] [(0, .ref (G.2.1 + (13 + 14 * r))), (2, .int (0 : Int32))] rfl ?_
  exact wX5_begin_22 C hr F k17 (0 : Int32) h
theorem hdX1_knownBy : je_hd yX1_knownBy 0 := ⟨by decide +kernel, by decide +kernel, by decide +kernel⟩
theorem hdX4_clear : je_hd yX4_clear 1 := ⟨by decide +kernel, by decide +kernel, by decide +kernel⟩
theorem hdX5_begin : je_hd yX5_begin 1 := ⟨by decide +kernel, by decide +kernel, by decide +kernel⟩
theorem cwX1_403 : GoodIn lw_all (wsV "MinistryDesks" 403 "MinistryDesks$Change" yX4_clear (ws_ yX4_clear cX4_clear 2 (some (.object "MinistryDesks$Change")))) := lw_V q1566 q1567 q1568 q167 q1569
theorem cwX1_407 : GoodIn lw_all (wsV "MinistryDesks" 407 "MinistryDesks" yX1_knownBy (ws_ yX1_knownBy cX1_knownBy 1 (some .int))) := lw_V q1558 q1560 qs75 q161 q1561
theorem cwX1_96 : GoodIn lw_all (wsV "MinistryDesks" 96 "MinistryDesks$Run" yX5_begin (ws_ yX5_begin cX5_begin 3 none)) := lw_V q435 q436 q437 q168 q438
theorem gX1_40 {p : Program} {l : Launch} {e : Env} {R : Room} {s : State} {m : MethodId} {args : Array Value} {below : List Frame} {meth : Method} {c : Code} {Q : State → Prop} {G : je_G} {cc : ByteArray} {nL : Nat} {rt : Option FieldType} {sz cells slots pc : Nat} {L : List (Nat × Value)} {st : List Value} {κ : kp_K} {dyn : Nat → Option je_E} (C : Cx p s m args meth c G "MinistryDesks" cc nL rt) (d : decode cc pc = .ok (.getfield 40, 3)) (n : Nat) (hn : pc + 3 = n) (kk : Js p l e R s m args below meth c G nL Q (en2 G κ dyn) sz cells slots n L (.ref (G.2.1 + 12) :: st)) : Js p l e R s m args below meth c G nL Q (en2 G κ dyn) sz cells slots pc L (.ref (G.2.1 + 0) :: st) := jk_getR (k := 7) (z := 0) C kd0 rfl in_X1 12 rfl (by decide) q449 rfl d n hn kk
theorem gX1_52 {p : Program} {l : Launch} {e : Env} {R : Room} {s : State} {m : MethodId} {args : Array Value} {below : List Frame} {meth : Method} {c : Code} {Q : State → Prop} {G : je_G} {cc : ByteArray} {nL : Nat} {rt : Option FieldType} {sz cells slots pc : Nat} {L : List (Nat × Value)} {st : List Value} {κ : kp_K} {dyn : Nat → Option je_E} (C : Cx p s m args meth c G "MinistryDesks" cc nL rt) (d : decode cc pc = .ok (.getfield 52, 3)) (n : Nat) (hn : pc + 3 = n) (kk : Js p l e R s m args below meth c G nL Q (en2 G κ dyn) sz cells slots n L (.ref (G.2.1 + 27) :: st)) : Js p l e R s m args below meth c G nL Q (en2 G κ dyn) sz cells slots pc L (.ref (G.2.1 + 0) :: st) := jk_getR (k := 9) (z := 0) C kd0 rfl in_X1 27 rfl (by decide) q451 rfl d n hn kk
theorem gX1_90 {p : Program} {l : Launch} {e : Env} {R : Room} {s : State} {m : MethodId} {args : Array Value} {below : List Frame} {meth : Method} {c : Code} {Q : State → Prop} {G : je_G} {cc : ByteArray} {nL : Nat} {rt : Option FieldType} {sz cells slots pc : Nat} {L : List (Nat × Value)} {st : List Value} {κ : kp_K} {dyn : Nat → Option je_E} (C : Cx p s m args meth c G "MinistryDesks" cc nL rt) (d : decode cc pc = .ok (.getfield 90, 3)) (n : Nat) (hn : pc + 3 = n) (kk : Js p l e R s m args below meth c G nL Q (en2 G κ dyn) sz cells slots n L (.ref (G.2.1 + 65) :: st)) : Js p l e R s m args below meth c G nL Q (en2 G κ dyn) sz cells slots pc L (.ref (G.2.1 + 0) :: st) := jk_getR (k := 24) (z := 0) C kd0 rfl in_X1 65 rfl (by decide) q466 rfl d n hn kk
theorem gX1_trial_250 {p : Program} {l : Launch} {e : Env} {R : Room} {s : State} {m : MethodId} {args : Array Value} {below : List Frame} {meth : Method} {c : Code} {Q : State → Prop} {G : je_G} {cc : ByteArray} {nL : Nat} {rt : Option FieldType} {sz cells slots pc : Nat} {L : List (Nat × Value)} {st : List Value} {κ : kp_K} {dyn : Nat → Option je_E} (C : Cx p s m args meth c G "MinistryDesks" cc nL rt) (d : decode cc pc = .ok (.getfield 250, 3)) (n : Nat) (hn : pc + 3 = n) (kk : Js p l e R s m args below meth c G nL Q (en2 G κ dyn) sz cells slots n L (.ref (G.2.1 + 39) :: st)) : Js p l e R s m args below meth c G nL Q (en2 G κ dyn) sz cells slots pc L (.ref (G.2.1 + 27) :: st) := jk_getRN (k := 14) (z := 0) C kd27 rfl in_X5 39 rfl (by decide) q390 rfl d n hn kk
set_option maxHeartbeats 4000000 in
theorem wX1_isFit_27 {p : Program} {l : Launch} {e : Env} {s : State} {m : MethodId} {args : Array Value} {below : List Frame} {meth : Method} {c : Code} {G : je_G} {dyn : Nat → Option je_E} {sz : Nat} {F : Nat} {hb : Nat} {hu : hd_T} {r9 : Int32 × kp_K} (C : Cx p s m args meth c G "MinistryDesks" cX1_isFit 3 (some .boolean)) (hH : HouseRep G dyn hb hu) : ∀ (n : Nat) (κ : kp_K) (v2 : Int32), bX1_isFit_27 F hb hu n κ v2 = some r9 → Js p l e ({ frames := 208, cells := 0, slots := 0, locals := 6176 } : Room) s m args below meth c G 3 (MQ below (je_Q G (some (.int r9.1)) (en2 G r9.2 dyn) sz) args s 0 0 (je_A G)) (en2 G κ dyn) sz 0 0 27 [(0, .ref (G.2.1 + 0)), (2, .int v2)] [] := by
  intro n
  induction n with
  | zero =>
    intro κ v2 h
    cases h
  | succ n ih =>
    intro κ v2 h
    rw [bX1_isFit_27] at h
    refine je_iload_n C dX1_isFit_27 28 rfl 1 rfl ?_
    refine je_aload_n C dX1_isFit_28 29 rfl 0 rfl ?_
    obtain ⟨t29, hg, h⟩ := p_cl_inv h
    refine je_callVi (As := []) (rest := [.int v2]) C (metX1_knownBy hg) (en2_at kd0) rfl hdX1_knownBy rfl cwX1_407 rfl ⟨Nat.le_of_ble_eq_true rfl, Nat.le_of_ble_eq_true rfl⟩ (Nat.le_of_ble_eq_true rfl) dX1_isFit_29 32 rfl ⟨Nat.le_refl _, Nat.le_refl _⟩ ?_
    refine je_icmp_ge C 84 dX1_isFit_32 35 rfl rfl h (fun h => ?_) (fun h => ?_)
    · refine je_iconst C (1) dX1_isFit_84 85 rfl ic_1 ?_
      cases h
      exact je_zret C dX1_isFit_85 (Or.inr rfl)
    refine je_aload_n C dX1_isFit_35 36 rfl 0 rfl ?_
    refine gX1_90 C dX1_isFit_36 39 rfl ?_
    refine je_iload_n C dX1_isFit_39 40 rfl 1 rfl ?_
    refine jk_zald C kd65 dX1_isFit_40 41 rfl h (fun h => ?_)
    refine je_if_ne C 78 dX1_isFit_41 44 rfl rfl h (fun h => ?_) (fun h => ?_)
    · refine je_iinc C (1) dX1_isFit_78 81 rfl 1 rfl ic_1 (Nat.le_of_ble_eq_true rfl) [(2, .int (v2 + (1 : Int32))), (0, .ref (G.2.1 + 0))] rfl ?_
      refine je_goto C 27 dX1_isFit_81 rfl ?_
      refine je_sub [1, 0] [(0, .ref (G.2.1 + 0)), (2, .int (v2 + (1 : Int32)))] rfl ?_
      exact ih κ (v2 + (1 : Int32)) h
    refine je_aload_n C dX1_isFit_44 45 rfl 0 rfl ?_
    refine gX1_84 C dX1_isFit_45 48 rfl ?_
    refine je_iload_n C dX1_isFit_48 49 rfl 1 rfl ?_
    refine jk_iald C kd63 dX1_isFit_49 50 rfl h (fun h => ?_)
    refine je_if_lt C 78 dX1_isFit_50 53 rfl rfl h (fun h => ?_) (fun h => ?_)
    · refine je_iinc C (1) dX1_isFit_78 81 rfl 1 rfl ic_1 (Nat.le_of_ble_eq_true rfl) [(2, .int (v2 + (1 : Int32))), (0, .ref (G.2.1 + 0))] rfl ?_
      refine je_goto C 27 dX1_isFit_81 rfl ?_
      refine je_sub [1, 0] [(0, .ref (G.2.1 + 0)), (2, .int (v2 + (1 : Int32)))] rfl ?_
      exact ih κ (v2 + (1 : Int32)) h
    refine je_aload_n C dX1_isFit_53 54 rfl 0 rfl ?_
    refine gX1_52 C dX1_isFit_54 57 rfl ?_
    refine gX1_trial_250 C dX1_isFit_57 60 rfl ?_
    refine je_aload_n C dX1_isFit_60 61 rfl 0 rfl ?_
    refine gX1_84 C dX1_isFit_61 64 rfl ?_
    refine je_iload_n C dX1_isFit_64 65 rfl 1 rfl ?_
    refine jk_iald C kd63 dX1_isFit_65 66 rfl h (fun h => ?_)
    refine je_lti h (fun i66 h => ?_)
    refine jk_iald C kd39 dX1_isFit_66 67 rfl h (fun h => ?_)
    refine je_aload_n C dX1_isFit_67 68 rfl 0 rfl ?_
    refine gX1_87 C dX1_isFit_68 71 rfl ?_
    refine je_iload_n C dX1_isFit_71 72 rfl 1 rfl ?_
    refine jk_iald C kd64 dX1_isFit_72 73 rfl h (fun h => ?_)
    refine je_icmp_eq C 78 dX1_isFit_73 76 rfl rfl h (fun h => ?_) (fun h => ?_)
    · refine je_iinc C (1) dX1_isFit_78 81 rfl 1 rfl ic_1 (Nat.le_of_ble_eq_true rfl) [(2, .int (v2 + (1 : Int32))), (0, .ref (G.2.1 + 0))] rfl ?_
      refine je_goto C 27 dX1_isFit_81 rfl ?_
      refine je_sub [1, 0] [(0, .ref (G.2.1 + 0)), (2, .int (v2 + (1 : Int32)))] rfl ?_
      exact ih κ (v2 + (1 : Int32)) h
    refine je_iconst C (0) dX1_isFit_76 77 rfl ic_0 ?_
    cases h
    exact je_zret C dX1_isFit_77 (Or.inl rfl)
set_option maxHeartbeats 4000000 in
theorem metX1_isFit {l : Launch} {G : je_G} {dyn : Nat → Option je_E} {sz : Nat} {F : Nat} {hb : Nat} {hu : hd_T} {κ : kp_K} {o1 : Option Nat} {r9 : Int32 × kp_K} (hH : HouseRep G dyn hb hu) (h : pX1_isFit F hb hu κ o1 = some r9) : MetS l G yX1_isFit cX1_isFit 3 (some .boolean) 208 6176 0 0 [.ref (G.2.1 + 0), va_rf (Option.map (fun q => G.2.1 + q) o1)] (en2 G κ dyn) sz (some (.int r9.1)) (en2 G r9.2 dyn) sz := by
  refine je_met "MinistryDesks" rfl (by decide +kernel) (by cases o1 <;> exact Nat.le_of_ble_eq_true rfl) [(0, .ref (G.2.1 + 0)), (1, va_rf (Option.map (fun q => G.2.1 + q) o1))] (by cases o1 <;> rfl) (fun p e s m args below meth c C => ?_)
  unfold pX1_isFit at h
  refine je_aload_n C dX1_isFit_0 1 rfl 0 rfl ?_
  refine gX1_52 C dX1_isFit_1 4 rfl ?_
  refine je_aload_n C dX1_isFit_4 5 rfl 0 rfl ?_
  refine gX1_40 C dX1_isFit_5 8 rfl ?_
  refine je_aloadR_n C dX1_isFit_8 9 rfl 1 rfl ?_
  obtain ⟨k9, hg, h⟩ := p_cl_inv h
  refine je_callVt (As := [va_rf (Option.map (fun q => G.2.1 + q) o1)]) (rest := [.ref (G.2.1 + 27)]) C (metX4_clear (by decide : 12 = 11 ∨ 12 = 12) hg) (en2_at kd12) rfl hdX4_clear rfl cwX1_403 rfl ⟨Nat.le_of_ble_eq_true rfl, Nat.le_of_ble_eq_true rfl⟩ (Nat.le_of_ble_eq_true rfl) dX1_isFit_9 12 rfl ⟨Nat.le_refl _, Nat.le_refl _⟩ ?_
  obtain ⟨k12, hg, h⟩ := p_cl_inv h
  refine je_callVv (As := [.ref (G.2.1 + 12)]) (rest := []) C (metX5_begin (by decide : 1 < 3) hg) (en2_at kd27) rfl hdX5_begin rfl cwX1_96 rfl ⟨Nat.le_of_ble_eq_true rfl, Nat.le_of_ble_eq_true rfl⟩ (Nat.le_of_ble_eq_true rfl) dX1_isFit_12 15 rfl ⟨Nat.le_refl _, Nat.le_refl _⟩ ?_
  refine je_aload_n C dX1_isFit_15 16 rfl 0 rfl ?_
  refine gX1_52 C dX1_isFit_16 19 rfl ?_
  refine je_bipush C (61) dX1_isFit_19 21 rfl bp_61 ?_
  obtain ⟨k21, hg, h⟩ := p_cl_inv h
  refine je_callVt (As := [.int (61 : Int32)]) (rest := []) C (metX5_to hH (by decide : 1 < 3) hg) (en2_at kd27) rfl hdX5_to rfl cwX1_237 rfl ⟨Nat.le_of_ble_eq_true rfl, Nat.le_of_ble_eq_true rfl⟩ (Nat.le_of_ble_eq_true rfl) dX1_isFit_21 24 rfl ⟨Nat.le_refl _, Nat.le_refl _⟩ ?_
  refine je_pop C dX1_isFit_24 25 rfl rfl ?_
  refine je_iconst C (0) dX1_isFit_25 26 rfl ic_0 ?_
  refine je_istore_n C dX1_isFit_26 27 rfl (Nat.le_of_ble_eq_true rfl) [(2, .int (0 : Int32)), (0, .ref (G.2.1 + 0)), (1, va_rf (Option.map (fun q => G.2.1 + q) o1))] (by cases o1 <;> rfl) ?_
  refine je_sub [1, 0] [(0, .ref (G.2.1 + 0)), (2, .int (0 : Int32))] rfl ?_
  exact wX1_isFit_27 C hH F k21 (0 : Int32) h
theorem hdX1_isFit : je_hd yX1_isFit 1 := ⟨by decide +kernel, by decide +kernel, by decide +kernel⟩
theorem cwX1_413 : GoodIn lw_all (wsV "MinistryDesks" 413 "MinistryDesks" yX1_isFit (ws_ yX1_isFit cX1_isFit 3 (some .boolean))) := lw_V q1562 q1564 qs76 q161 q1565
set_option maxHeartbeats 4000000 in
theorem wX1_fits_105 {p : Program} {l : Launch} {e : Env} {s : State} {m : MethodId} {args : Array Value} {below : List Frame} {meth : Method} {c : Code} {G : je_G} {dyn : Nat → Option je_E} {sz : Nat} {F : Nat} {hb : Nat} {hu : hd_T} {r9 : Int32 × kp_K} (C : Cx p s m args meth c G "MinistryDesks" cX1_fits 4 (some .int)) (hH : HouseRep G dyn hb hu) : ∀ (n : Nat) (κ : kp_K) (v1 : Int32) (v2 : Int32) (v3 : Int32), bX1_fits_105 F hb hu n κ v1 v2 v3 = some r9 → Js p l e ({ frames := 209, cells := 0, slots := 0, locals := 6198 } : Room) s m args below meth c G 4 (MQ below (je_Q G (some (.int r9.1)) (en2 G r9.2 dyn) sz) args s 0 0 (je_A G)) (en2 G κ dyn) sz 0 0 105 [(0, .ref (G.2.1 + 0)), (1, .int v1), (2, .int v2), (3, .int v3)] [] := by
  intro n
  induction n with
  | zero =>
    intro κ v1 v2 v3 h
    cases h
  | succ n ih =>
    intro κ v1 v2 v3 h
    rw [bX1_fits_105] at h
    refine je_iload_n C dX1_fits_105 106 rfl 3 rfl ?_
    refine je_iload_n C dX1_fits_106 107 rfl 1 rfl ?_
    refine je_icmp_ge C 150 dX1_fits_107 110 rfl rfl h (fun h => ?_) (fun h => ?_)
    · refine je_iload_n C dX1_fits_150 151 rfl 2 rfl ?_
      cases h
      exact je_iret C dX1_fits_151
    refine je_iload_n C dX1_fits_110 111 rfl 2 rfl ?_
    refine je_aload_n C dX1_fits_111 112 rfl 0 rfl ?_
    refine je_aload_n C dX1_fits_112 113 rfl 0 rfl ?_
    obtain ⟨hx, h⟩ := p_hs_inv h
    refine gX1_22 C hx dX1_fits_113 116 rfl ?_
    refine jh_listN C hH (t := 5) (by decide) q264 rfl dX1_fits_116 119 rfl ?_
    refine je_iload_n C dX1_fits_119 120 rfl 3 rfl ?_
    obtain ⟨hin5_v3, h⟩ := p_ck_inv h
    refine jh_get (t := 5) (rest := [.ref (G.2.1 + 0), .int v2]) C hH (by decide) hin5_v3 cwX1_171 ⟨Nat.le_of_ble_eq_true rfl, Nat.le_of_ble_eq_true rfl⟩ (Nat.le_of_ble_eq_true rfl) dX1_fits_120 123 rfl ⟨Nat.le_refl _, Nat.le_refl _⟩ ?_
    refine jh_cast5 C hH hin5_v3 q1570 dX1_fits_123 126 rfl ?_
    refine jh_sumN C hH hin5_v3 (k := 1) (by decide) q1156 rfl dX1_fits_126 129 rfl rfl ?_
    obtain ⟨q129, hg, h⟩ := p_cl_inv h
    refine je_callVi (As := [va_rf (Option.map (fun q => G.2.1 + q) (hu.2.2.1 (10 + v3.toNatClampNeg)))]) (rest := [.int v2]) C (metX1_isFit hH hg) (en2_at kd0) rfl hdX1_isFit rfl cwX1_413 rfl ⟨Nat.le_of_ble_eq_true rfl, Nat.le_of_ble_eq_true rfl⟩ (Nat.le_of_ble_eq_true rfl) dX1_fits_129 132 rfl ⟨Nat.le_refl _, Nat.le_refl _⟩ ?_
    refine je_lti h (fun t129 h => ?_)
    refine jk_lt h (fun k129 h => ?_)
    refine je_if_eq C 141 dX1_fits_132 135 rfl rfl h (fun h => ?_) (fun h => ?_)
    · refine je_iconst C (0) dX1_fits_141 142 rfl ic_0 ?_
      refine je_ior C dX1_fits_142 143 rfl ?_
      refine je_lti h (fun t143 h => ?_)
      refine je_istore_n C dX1_fits_143 144 rfl (Nat.le_of_ble_eq_true rfl) [(2, .int t143), (0, .ref (G.2.1 + 0)), (1, .int v1), (3, .int v3)] rfl ?_
      refine je_iinc C (1) dX1_fits_144 147 rfl 3 rfl ic_1 (Nat.le_of_ble_eq_true rfl) [(3, .int (v3 + (1 : Int32))), (2, .int t143), (0, .ref (G.2.1 + 0)), (1, .int v1)] rfl ?_
      refine je_goto C 105 dX1_fits_147 rfl ?_
      refine je_sub [2, 3, 1, 0] [(0, .ref (G.2.1 + 0)), (1, .int v1), (2, .int t143), (3, .int (v3 + (1 : Int32)))] rfl ?_
      exact ih k129 v1 t143 (v3 + (1 : Int32)) h
    refine je_iconst C (1) dX1_fits_135 136 rfl ic_1 ?_
    refine je_iload_n C dX1_fits_136 137 rfl 3 rfl ?_
    refine je_ishl C dX1_fits_137 138 rfl ?_
    refine je_goto C 142 dX1_fits_138 rfl ?_
    refine je_ior C dX1_fits_142 143 rfl ?_
    refine je_lti h (fun t143_4 h => ?_)
    refine je_istore_n C dX1_fits_143 144 rfl (Nat.le_of_ble_eq_true rfl) [(2, .int t143_4), (0, .ref (G.2.1 + 0)), (1, .int v1), (3, .int v3)] rfl ?_
    refine je_iinc C (1) dX1_fits_144 147 rfl 3 rfl ic_1 (Nat.le_of_ble_eq_true rfl) [(3, .int (v3 + (1 : Int32))), (2, .int t143_4), (0, .ref (G.2.1 + 0)), (1, .int v1)] rfl ?_
    refine je_goto C 105 dX1_fits_147 rfl ?_
    refine je_sub [2, 3, 1, 0] [(0, .ref (G.2.1 + 0)), (1, .int v1), (2, .int t143_4), (3, .int (v3 + (1 : Int32)))] rfl ?_
    exact ih k129 v1 t143_4 (v3 + (1 : Int32)) h
set_option maxHeartbeats 4000000 in
theorem wX1_fits_30 {p : Program} {l : Launch} {e : Env} {s : State} {m : MethodId} {args : Array Value} {below : List Frame} {meth : Method} {c : Code} {G : je_G} {dyn : Nat → Option je_E} {sz : Nat} {F : Nat} {hb : Nat} {hu : hd_T} {r9 : Int32 × kp_K} (C : Cx p s m args meth c G "MinistryDesks" cX1_fits 4 (some .int)) (hH : HouseRep G dyn hb hu) : ∀ (n : Nat) (κ : kp_K) (v1 : Int32), bX1_fits_30 F hb hu n κ v1 = some r9 → Js p l e ({ frames := 209, cells := 0, slots := 0, locals := 6198 } : Room) s m args below meth c G 4 (MQ below (je_Q G (some (.int r9.1)) (en2 G r9.2 dyn) sz) args s 0 0 (je_A G)) (en2 G κ dyn) sz 0 0 30 [(0, .ref (G.2.1 + 0)), (1, .int v1)] [] := by
  intro n
  induction n with
  | zero =>
    intro κ v1 h
    cases h
  | succ n ih =>
    intro κ v1 h
    rw [bX1_fits_30] at h
    refine je_iload_n C dX1_fits_30 31 rfl 1 rfl ?_
    refine je_if_lt C 70 dX1_fits_31 34 rfl rfl h (fun h => ?_) (fun h => ?_)
    · refine je_aload_n C dX1_fits_70 71 rfl 0 rfl ?_
      obtain ⟨hx, h⟩ := p_hs_inv h
      refine gX1_22 C hx dX1_fits_71 74 rfl ?_
      refine jh_listN C hH (t := 5) (by decide) q264 rfl dX1_fits_74 77 rfl ?_
      refine jh_size (t := 5) (rest := []) C hH (by decide) cwX1_160 ⟨Nat.le_of_ble_eq_true rfl, Nat.le_of_ble_eq_true rfl⟩ (Nat.le_of_ble_eq_true rfl) dX1_fits_77 80 rfl ⟨Nat.le_refl _, Nat.le_refl _⟩ ?_
      refine je_lti h (fun t80 h => ?_)
      refine je_istore_n C dX1_fits_80 81 rfl (Nat.le_of_ble_eq_true rfl) [(1, .int t80), (0, .ref (G.2.1 + 0))] rfl ?_
      refine je_aload_n C dX1_fits_81 82 rfl 1 rfl ?_
      refine je_aload_n C dX1_fits_82 83 rfl 1 rfl ?_
      obtain ⟨hx, h⟩ := p_hs_inv h
      refine gX1_22 C hx dX1_fits_83 86 rfl ?_
      refine jh_refN C hH 6 (by decide) q265 rfl dX1_fits_86 89 rfl ?_
      obtain ⟨q89, hg, h⟩ := p_cl_inv h
      refine je_callVi (As := [va_rf (Option.map (fun q => G.2.1 + q) (hu.2.2.1 6))]) (rest := []) C (metX1_isFit hH hg) (en2_at kd0) rfl hdX1_isFit rfl cwX1_413 rfl ⟨Nat.le_of_ble_eq_true rfl, Nat.le_of_ble_eq_true rfl⟩ (Nat.le_of_ble_eq_true rfl) dX1_fits_89 92 rfl ⟨Nat.le_refl _, Nat.le_refl _⟩ ?_
      refine je_lti h (fun t89 h => ?_)
      refine jk_lt h (fun k89 h => ?_)
      refine je_if_eq C 101 dX1_fits_92 95 rfl rfl h (fun h => ?_) (fun h => ?_)
      · refine je_iconst C (0) dX1_fits_101 102 rfl ic_0 ?_
        refine je_istore_n C dX1_fits_102 103 rfl (Nat.le_of_ble_eq_true rfl) [(2, .int (0 : Int32)), (1, .int t80), (0, .ref (G.2.1 + 0))] rfl ?_
        refine je_iconst C (0) dX1_fits_103 104 rfl ic_0 ?_
        refine je_istore_n C dX1_fits_104 105 rfl (Nat.le_of_ble_eq_true rfl) [(3, .int (0 : Int32)), (2, .int (0 : Int32)), (1, .int t80), (0, .ref (G.2.1 + 0))] rfl ?_
        refine je_sub [3, 2, 1, 0] [(0, .ref (G.2.1 + 0)), (1, .int t80), (2, .int (0 : Int32)), (3, .int (0 : Int32))] rfl ?_
        exact wX1_fits_105 C hH F k89 t80 (0 : Int32) (0 : Int32) h
      refine je_iconst C (1) dX1_fits_95 96 rfl ic_1 ?_
      refine je_iload_n C dX1_fits_96 97 rfl 0 rfl ?_
      refine je_ishl C dX1_fits_97 98 rfl ?_
      refine je_goto C 102 dX1_fits_98 rfl ?_
      refine je_lti h (fun t102 h => ?_)
      refine je_istore_n C dX1_fits_102 103 rfl (Nat.le_of_ble_eq_true rfl) [(2, .int t102), (1, .int t80), (0, .ref (G.2.1 + 0))] rfl ?_
      refine je_iconst C (0) dX1_fits_103 104 rfl ic_0 ?_
      refine je_istore_n C dX1_fits_104 105 rfl (Nat.le_of_ble_eq_true rfl) [(3, .int (0 : Int32)), (2, .int t102), (1, .int t80), (0, .ref (G.2.1 + 0))] rfl ?_
      refine je_sub [3, 2, 1, 0] [(0, .ref (G.2.1 + 0)), (1, .int t80), (2, .int t102), (3, .int (0 : Int32))] rfl ?_
      exact wX1_fits_105 C hH F k89 t80 t102 (0 : Int32) h
    refine je_aload_n C dX1_fits_34 35 rfl 0 rfl ?_
    refine gX1_90 C dX1_fits_35 38 rfl ?_
    refine je_iload_n C dX1_fits_38 39 rfl 1 rfl ?_
    refine jk_zald C kd65 dX1_fits_39 40 rfl h (fun h => ?_)
    refine je_if_ne C 64 dX1_fits_40 43 rfl rfl h (fun h => ?_) (fun h => ?_)
    · refine je_iinc C (-1) dX1_fits_64 67 rfl 1 rfl ic_m1 (Nat.le_of_ble_eq_true rfl) [(1, .int (v1 + (-1 : Int32))), (0, .ref (G.2.1 + 0))] rfl ?_
      refine je_goto C 30 dX1_fits_67 rfl ?_
      refine je_sub [1, 0] [(0, .ref (G.2.1 + 0)), (1, .int (v1 + (-1 : Int32)))] rfl ?_
      exact ih κ (v1 + (-1 : Int32)) h
    refine je_aload_n C dX1_fits_43 44 rfl 0 rfl ?_
    refine gX1_84 C dX1_fits_44 47 rfl ?_
    refine je_iload_n C dX1_fits_47 48 rfl 1 rfl ?_
    refine jk_iald C kd63 dX1_fits_48 49 rfl h (fun h => ?_)
    refine je_if_ge C 64 dX1_fits_49 52 rfl rfl h (fun h => ?_) (fun h => ?_)
    · refine je_iinc C (-1) dX1_fits_64 67 rfl 1 rfl ic_m1 (Nat.le_of_ble_eq_true rfl) [(1, .int (v1 + (-1 : Int32))), (0, .ref (G.2.1 + 0))] rfl ?_
      refine je_goto C 30 dX1_fits_67 rfl ?_
      refine je_sub [1, 0] [(0, .ref (G.2.1 + 0)), (1, .int (v1 + (-1 : Int32)))] rfl ?_
      exact ih κ (v1 + (-1 : Int32)) h
    refine je_aload_n C dX1_fits_52 53 rfl 0 rfl ?_
    refine gX1_90 C dX1_fits_53 56 rfl ?_
    refine je_aload_n C dX1_fits_56 57 rfl 0 rfl ?_
    refine gX1_87 C dX1_fits_57 60 rfl ?_
    refine je_iload_n C dX1_fits_60 61 rfl 1 rfl ?_
    refine jk_iald C kd64 dX1_fits_61 62 rfl h (fun h => ?_)
    refine je_iconst C (1) dX1_fits_62 63 rfl ic_1 ?_
    refine jk_zast C kd65 dX1_fits_63 64 rfl (Or.inr rfl) h (fun h => ?_)
    refine jk_lt h (fun k63 h => ?_)
    refine je_iinc C (-1) dX1_fits_64 67 rfl 1 rfl ic_m1 (Nat.le_of_ble_eq_true rfl) [(1, .int (v1 + (-1 : Int32))), (0, .ref (G.2.1 + 0))] rfl ?_
    refine je_goto C 30 dX1_fits_67 rfl ?_
    refine je_sub [1, 0] [(0, .ref (G.2.1 + 0)), (1, .int (v1 + (-1 : Int32)))] rfl ?_
    exact ih k63 (v1 + (-1 : Int32)) h
set_option maxHeartbeats 4000000 in
theorem wX1_fits_2 {p : Program} {l : Launch} {e : Env} {s : State} {m : MethodId} {args : Array Value} {below : List Frame} {meth : Method} {c : Code} {G : je_G} {dyn : Nat → Option je_E} {sz : Nat} {F : Nat} {hb : Nat} {hu : hd_T} {r9 : Int32 × kp_K} (C : Cx p s m args meth c G "MinistryDesks" cX1_fits 4 (some .int)) (hH : HouseRep G dyn hb hu) : ∀ (n : Nat) (κ : kp_K) (v1 : Int32), bX1_fits_2 F hb hu n κ v1 = some r9 → Js p l e ({ frames := 209, cells := 0, slots := 0, locals := 6198 } : Room) s m args below meth c G 4 (MQ below (je_Q G (some (.int r9.1)) (en2 G r9.2 dyn) sz) args s 0 0 (je_A G)) (en2 G κ dyn) sz 0 0 2 [(0, .ref (G.2.1 + 0)), (1, .int v1)] [] := by
  intro n
  induction n with
  | zero =>
    intro κ v1 h
    cases h
  | succ n ih =>
    intro κ v1 h
    rw [bX1_fits_2] at h
    refine je_iload_n C dX1_fits_2 3 rfl 1 rfl ?_
    refine je_aload_n C dX1_fits_3 4 rfl 0 rfl ?_
    obtain ⟨t4, hg, h⟩ := p_cl_inv h
    refine je_callVi (As := []) (rest := [.int v1]) C (metX1_knownBy hg) (en2_at kd0) rfl hdX1_knownBy rfl cwX1_407 rfl ⟨Nat.le_of_ble_eq_true rfl, Nat.le_of_ble_eq_true rfl⟩ (Nat.le_of_ble_eq_true rfl) dX1_fits_4 7 rfl ⟨Nat.le_refl _, Nat.le_refl _⟩ ?_
    refine je_icmp_ge C 23 dX1_fits_7 10 rfl rfl h (fun h => ?_) (fun h => ?_)
    · refine je_aload_n C dX1_fits_23 24 rfl 0 rfl ?_
      obtain ⟨t24, hg, h⟩ := p_cl_inv h
      refine je_callVi (As := []) (rest := []) C (metX1_knownBy hg) (en2_at kd0) rfl hdX1_knownBy rfl cwX1_407 rfl ⟨Nat.le_of_ble_eq_true rfl, Nat.le_of_ble_eq_true rfl⟩ (Nat.le_of_ble_eq_true rfl) dX1_fits_24 27 rfl ⟨Nat.le_refl _, Nat.le_refl _⟩ ?_
      refine je_iconst C (1) dX1_fits_27 28 rfl ic_1 ?_
      refine je_isub C dX1_fits_28 29 rfl ?_
      refine je_lti h (fun t29 h => ?_)
      refine je_istore_n C dX1_fits_29 30 rfl (Nat.le_of_ble_eq_true rfl) [(1, .int t29), (0, .ref (G.2.1 + 0))] rfl ?_
      refine je_sub [1, 0] [(0, .ref (G.2.1 + 0)), (1, .int t29)] rfl ?_
      exact wX1_fits_30 C hH F κ t29 h
    refine je_aload_n C dX1_fits_10 11 rfl 0 rfl ?_
    refine gX1_90 C dX1_fits_11 14 rfl ?_
    refine je_iload_n C dX1_fits_14 15 rfl 1 rfl ?_
    refine je_iconst C (0) dX1_fits_15 16 rfl ic_0 ?_
    refine jk_zast C kd65 dX1_fits_16 17 rfl (Or.inl rfl) h (fun h => ?_)
    refine jk_lt h (fun k16 h => ?_)
    refine je_iinc C (1) dX1_fits_17 20 rfl 1 rfl ic_1 (Nat.le_of_ble_eq_true rfl) [(1, .int (v1 + (1 : Int32))), (0, .ref (G.2.1 + 0))] rfl ?_
    refine je_goto C 2 dX1_fits_20 rfl ?_
    refine je_sub [1, 0] [(0, .ref (G.2.1 + 0)), (1, .int (v1 + (1 : Int32)))] rfl ?_
    exact ih k16 (v1 + (1 : Int32)) h
set_option maxHeartbeats 4000000 in
theorem metX1_fits {l : Launch} {G : je_G} {dyn : Nat → Option je_E} {sz : Nat} {F : Nat} {hb : Nat} {hu : hd_T} {κ : kp_K}  {r9 : Int32 × kp_K} (hH : HouseRep G dyn hb hu) (h : pX1_fits F hb hu κ = some r9) : MetS l G yX1_fits cX1_fits 4 (some .int) 209 6198 0 0 [.ref (G.2.1 + 0)] (en2 G κ dyn) sz (some (.int r9.1)) (en2 G r9.2 dyn) sz := by
  refine je_met "MinistryDesks" rfl (by decide +kernel) (Nat.le_of_ble_eq_true rfl) [(0, .ref (G.2.1 + 0))] rfl (fun p e s m args below meth c C => ?_)
  unfold pX1_fits at h
  refine je_iconst C (0) dX1_fits_0 1 rfl ic_0 ?_
  refine je_istore_n C dX1_fits_1 2 rfl (Nat.le_of_ble_eq_true rfl) [(1, .int (0 : Int32)), (0, .ref (G.2.1 + 0))] rfl ?_
  refine je_sub [1, 0] [(0, .ref (G.2.1 + 0)), (1, .int (0 : Int32))] rfl ?_
  exact wX1_fits_2 C hH F κ (0 : Int32) h
theorem sX1_change_422 {p : Program} {l : Launch} {e : Env} {R : Room} {s : State} {m : MethodId} {args : Array Value} {below : List Frame} {meth : Method} {c : Code} {Q : State → Prop} {G : je_G} {cc : ByteArray} {nL : Nat} {rt : Option FieldType} {sz cells slots pc : Nat} {L : List (Nat × Value)} {st : List Value} {κ : kp_K} {dyn : Nat → Option je_E} (C : Cx p s m args meth c G "MinistryDesks" cc nL rt) {v : Int32} (hz : v = 0 ∨ v = 1) (d : decode cc pc = .ok (.putfield 422, 3)) (n : Nat) (hn : pc + 3 = n) (kk : Js p l e R s m args below meth c G nL Q (en2 G (s_i κ 12 1 v) dyn) sz cells slots n L st) : Js p l e R s m args below meth c G nL Q (en2 G κ dyn) sz cells slots pc L (.int v :: .ref (G.2.1 + 12) :: st) := jk_putZN (k := 1) C kd12 rfl in_X4 tyX4 tyX4_ok nmX4 rfl (by decide) q331 rfl rfl rfl hz d n hn kk
theorem sX1_change_425 {p : Program} {l : Launch} {e : Env} {R : Room} {s : State} {m : MethodId} {args : Array Value} {below : List Frame} {meth : Method} {c : Code} {Q : State → Prop} {G : je_G} {cc : ByteArray} {nL : Nat} {rt : Option FieldType} {sz cells slots pc : Nat} {L : List (Nat × Value)} {st : List Value} {κ : kp_K} {dyn : Nat → Option je_E} (C : Cx p s m args meth c G "MinistryDesks" cc nL rt) {v : Int32} (hz : v = 0 ∨ v = 1) (d : decode cc pc = .ok (.putfield 425, 3)) (n : Nat) (hn : pc + 3 = n) (kk : Js p l e R s m args below meth c G nL Q (en2 G (s_i κ 12 2 v) dyn) sz cells slots n L st) : Js p l e R s m args below meth c G nL Q (en2 G κ dyn) sz cells slots pc L (.int v :: .ref (G.2.1 + 12) :: st) := jk_putZN (k := 2) C kd12 rfl in_X4 tyX4 tyX4_ok nmX4 rfl (by decide) q334 rfl rfl rfl hz d n hn kk
theorem sX1_change_428 {p : Program} {l : Launch} {e : Env} {R : Room} {s : State} {m : MethodId} {args : Array Value} {below : List Frame} {meth : Method} {c : Code} {Q : State → Prop} {G : je_G} {cc : ByteArray} {nL : Nat} {rt : Option FieldType} {sz cells slots pc : Nat} {L : List (Nat × Value)} {st : List Value} {κ : kp_K} {dyn : Nat → Option je_E} (C : Cx p s m args meth c G "MinistryDesks" cc nL rt) {v : Int32} (hz : v = 0 ∨ v = 1) (d : decode cc pc = .ok (.putfield 428, 3)) (n : Nat) (hn : pc + 3 = n) (kk : Js p l e R s m args below meth c G nL Q (en2 G (s_i κ 12 3 v) dyn) sz cells slots n L st) : Js p l e R s m args below meth c G nL Q (en2 G κ dyn) sz cells slots pc L (.int v :: .ref (G.2.1 + 12) :: st) := jk_putZN (k := 3) C kd12 rfl in_X4 tyX4 tyX4_ok nmX4 rfl (by decide) q337 rfl rfl rfl hz d n hn kk
theorem sX1_change_431 {p : Program} {l : Launch} {e : Env} {R : Room} {s : State} {m : MethodId} {args : Array Value} {below : List Frame} {meth : Method} {c : Code} {Q : State → Prop} {G : je_G} {cc : ByteArray} {nL : Nat} {rt : Option FieldType} {sz cells slots pc : Nat} {L : List (Nat × Value)} {st : List Value} {κ : kp_K} {dyn : Nat → Option je_E} (C : Cx p s m args meth c G "MinistryDesks" cc nL rt) {v : Int32} (hz : v = 0 ∨ v = 1) (d : decode cc pc = .ok (.putfield 431, 3)) (n : Nat) (hn : pc + 3 = n) (kk : Js p l e R s m args below meth c G nL Q (en2 G (s_i κ 12 4 v) dyn) sz cells slots n L st) : Js p l e R s m args below meth c G nL Q (en2 G κ dyn) sz cells slots pc L (.int v :: .ref (G.2.1 + 12) :: st) := jk_putZN (k := 4) C kd12 rfl in_X4 tyX4 tyX4_ok nmX4 rfl (by decide) q340 rfl rfl rfl hz d n hn kk
theorem sX1_change_434 {p : Program} {l : Launch} {e : Env} {R : Room} {s : State} {m : MethodId} {args : Array Value} {below : List Frame} {meth : Method} {c : Code} {Q : State → Prop} {G : je_G} {cc : ByteArray} {nL : Nat} {rt : Option FieldType} {sz cells slots pc : Nat} {L : List (Nat × Value)} {st : List Value} {κ : kp_K} {dyn : Nat → Option je_E} (C : Cx p s m args meth c G "MinistryDesks" cc nL rt) {v : Int32} (d : decode cc pc = .ok (.putfield 434, 3)) (n : Nat) (hn : pc + 3 = n) (kk : Js p l e R s m args below meth c G nL Q (en2 G (s_i κ 12 5 v) dyn) sz cells slots n L st) : Js p l e R s m args below meth c G nL Q (en2 G κ dyn) sz cells slots pc L (.int v :: .ref (G.2.1 + 12) :: st) := jk_putIN (k := 5) C kd12 rfl in_X4 tyX4 tyX4_ok nmX4 rfl (by decide) q343 rfl rfl rfl d n hn kk
theorem sX1_change_437 {p : Program} {l : Launch} {e : Env} {R : Room} {s : State} {m : MethodId} {args : Array Value} {below : List Frame} {meth : Method} {c : Code} {Q : State → Prop} {G : je_G} {cc : ByteArray} {nL : Nat} {rt : Option FieldType} {sz cells slots pc : Nat} {L : List (Nat × Value)} {st : List Value} {κ : kp_K} {dyn : Nat → Option je_E} (C : Cx p s m args meth c G "MinistryDesks" cc nL rt) {v : Int32} (d : decode cc pc = .ok (.putfield 437, 3)) (n : Nat) (hn : pc + 3 = n) (kk : Js p l e R s m args below meth c G nL Q (en2 G (s_i κ 12 6 v) dyn) sz cells slots n L st) : Js p l e R s m args below meth c G nL Q (en2 G κ dyn) sz cells slots pc L (.int v :: .ref (G.2.1 + 12) :: st) := jk_putIN (k := 6) C kd12 rfl in_X4 tyX4 tyX4_ok nmX4 rfl (by decide) q346 rfl rfl rfl d n hn kk
set_option maxHeartbeats 4000000 in
theorem metX1_lays {l : Launch} {G : je_G} {dyn : Nat → Option je_E} {sz : Nat} {hb : Nat} {hu : hd_T} {κ : kp_K} {v1 : Int32} {v2 : Int32} {r9 : Int32 × kp_K} (hH : HouseRep G dyn hb hu) (h : pX1_lays hb hu κ v1 v2 = some r9) : MetS l G yX1_lays cX1_lays 3 (some .boolean) 6 161 0 0 [.ref (G.2.1 + 0), .int v1, .int v2] (en2 G κ dyn) sz (some (.int r9.1)) (en2 G r9.2 dyn) sz := by
  refine je_met "MinistryDesks" rfl (by decide +kernel) (Nat.le_of_ble_eq_true rfl) [(0, .ref (G.2.1 + 0)), (1, .int v1), (2, .int v2)] rfl (fun p e s m args below meth c C => ?_)
  unfold pX1_lays at h
  refine je_aload_n C dX1_lays_0 1 rfl 0 rfl ?_
  refine gX1_40 C dX1_lays_1 4 rfl ?_
  refine je_aload_n C dX1_lays_4 5 rfl 0 rfl ?_
  obtain ⟨hx, h⟩ := p_hs_inv h
  refine gX1_22 C hx dX1_lays_5 8 rfl ?_
  refine jh_refN C hH 6 (by decide) q265 rfl dX1_lays_8 11 rfl ?_
  obtain ⟨k11, hg, h⟩ := p_cl_inv h
  refine je_callVt (As := [va_rf (Option.map (fun q => G.2.1 + q) (hu.2.2.1 6))]) (rest := []) C (metX4_clear (by decide : 12 = 11 ∨ 12 = 12) hg) (en2_at kd12) rfl hdX4_clear rfl cwX1_403 rfl ⟨Nat.le_of_ble_eq_true rfl, Nat.le_of_ble_eq_true rfl⟩ (Nat.le_of_ble_eq_true rfl) dX1_lays_11 14 rfl ⟨Nat.le_refl _, Nat.le_refl _⟩ ?_
  refine je_pop C dX1_lays_14 15 rfl rfl ?_
  refine je_iload_n C dX1_lays_15 16 rfl 1 rfl ?_
  refine je_ite h (fun hx h => ?_) (fun hn0 h => ?_)
  · refine je_tsw C (0) 56 dX1_lays_16 hx (by decide) (by decide) rfl rfl ?_
    refine je_aload_n C dX1_lays_56 57 rfl 0 rfl ?_
    refine gX1_40 C dX1_lays_57 60 rfl ?_
    refine je_iconst C (1) dX1_lays_60 61 rfl ic_1 ?_
    refine sX1_change_422 C (Or.inr rfl) dX1_lays_61 64 rfl ?_
    refine jk_lt h (fun k61 h => ?_)
    refine je_iload_n C dX1_lays_64 65 rfl 2 rfl ?_
    refine je_if_ne C 72 dX1_lays_65 68 rfl rfl h (fun h => ?_) (fun h => ?_)
    · refine je_iconst C (0) dX1_lays_72 73 rfl ic_0 ?_
      cases h
      exact je_zret C dX1_lays_73 (Or.inl rfl)
    refine je_iconst C (1) dX1_lays_68 69 rfl ic_1 ?_
    refine je_goto C 73 dX1_lays_69 rfl ?_
    cases h
    exact je_zret C dX1_lays_73 (Or.inr rfl)
  refine je_ite h (fun hx h => ?_) (fun hn1 h => ?_)
  · refine je_tsw C (1) 74 dX1_lays_16 hx (by decide) (by decide) rfl rfl ?_
    refine je_aload_n C dX1_lays_74 75 rfl 0 rfl ?_
    refine gX1_40 C dX1_lays_75 78 rfl ?_
    refine je_iconst C (1) dX1_lays_78 79 rfl ic_1 ?_
    refine sX1_change_425 C (Or.inr rfl) dX1_lays_79 82 rfl ?_
    refine jk_lt h (fun k79 h => ?_)
    refine je_iload_n C dX1_lays_82 83 rfl 2 rfl ?_
    refine je_if_ne C 90 dX1_lays_83 86 rfl rfl h (fun h => ?_) (fun h => ?_)
    · refine je_iconst C (0) dX1_lays_90 91 rfl ic_0 ?_
      cases h
      exact je_zret C dX1_lays_91 (Or.inl rfl)
    refine je_iconst C (1) dX1_lays_86 87 rfl ic_1 ?_
    refine je_goto C 91 dX1_lays_87 rfl ?_
    cases h
    exact je_zret C dX1_lays_91 (Or.inr rfl)
  refine je_ite h (fun hx h => ?_) (fun hn2 h => ?_)
  · refine je_tsw C (2) 92 dX1_lays_16 hx (by decide) (by decide) rfl rfl ?_
    refine je_aload_n C dX1_lays_92 93 rfl 0 rfl ?_
    refine gX1_40 C dX1_lays_93 96 rfl ?_
    refine je_iconst C (1) dX1_lays_96 97 rfl ic_1 ?_
    refine sX1_change_428 C (Or.inr rfl) dX1_lays_97 100 rfl ?_
    refine jk_lt h (fun k97 h => ?_)
    refine je_iload_n C dX1_lays_100 101 rfl 2 rfl ?_
    refine je_if_ne C 108 dX1_lays_101 104 rfl rfl h (fun h => ?_) (fun h => ?_)
    · refine je_iconst C (0) dX1_lays_108 109 rfl ic_0 ?_
      cases h
      exact je_zret C dX1_lays_109 (Or.inl rfl)
    refine je_iconst C (1) dX1_lays_104 105 rfl ic_1 ?_
    refine je_goto C 109 dX1_lays_105 rfl ?_
    cases h
    exact je_zret C dX1_lays_109 (Or.inr rfl)
  refine je_ite h (fun hx h => ?_) (fun hn3 h => ?_)
  · refine je_tsw C (3) 110 dX1_lays_16 hx (by decide) (by decide) rfl rfl ?_
    refine je_aload_n C dX1_lays_110 111 rfl 0 rfl ?_
    refine gX1_40 C dX1_lays_111 114 rfl ?_
    refine je_iconst C (1) dX1_lays_114 115 rfl ic_1 ?_
    refine sX1_change_431 C (Or.inr rfl) dX1_lays_115 118 rfl ?_
    refine jk_lt h (fun k115 h => ?_)
    refine je_iload_n C dX1_lays_118 119 rfl 2 rfl ?_
    refine je_if_ne C 126 dX1_lays_119 122 rfl rfl h (fun h => ?_) (fun h => ?_)
    · refine je_iconst C (0) dX1_lays_126 127 rfl ic_0 ?_
      cases h
      exact je_zret C dX1_lays_127 (Or.inl rfl)
    refine je_iconst C (1) dX1_lays_122 123 rfl ic_1 ?_
    refine je_goto C 127 dX1_lays_123 rfl ?_
    cases h
    exact je_zret C dX1_lays_127 (Or.inr rfl)
  refine je_ite h (fun hx h => ?_) (fun hn4 h => ?_)
  · refine je_tsw C (4) 128 dX1_lays_16 hx (by decide) (by decide) rfl rfl ?_
    refine je_aload_n C dX1_lays_128 129 rfl 0 rfl ?_
    refine gX1_40 C dX1_lays_129 132 rfl ?_
    refine je_iload_n C dX1_lays_132 133 rfl 2 rfl ?_
    refine sX1_change_434 C dX1_lays_133 136 rfl ?_
    refine jk_lt h (fun k133 h => ?_)
    refine je_aload_n C dX1_lays_136 137 rfl 0 rfl ?_
    refine je_iload_n C dX1_lays_137 138 rfl 2 rfl ?_
    obtain ⟨t138, hg, h⟩ := p_cl_inv h
    refine je_callVi (As := [.int v2]) (rest := []) C (metX1_isDesk hH hg) (en2_at kd0) rfl hdX1_isDesk rfl cwX1_198 rfl ⟨Nat.le_of_ble_eq_true rfl, Nat.le_of_ble_eq_true rfl⟩ (Nat.le_of_ble_eq_true rfl) dX1_lays_138 141 rfl ⟨Nat.le_refl _, Nat.le_refl _⟩ ?_
    obtain ⟨hz, h⟩ := p_cz_inv h
    cases h
    exact je_zret C dX1_lays_141 hz
  refine je_ite h (fun hx h => ?_) (fun hn5 h => ?_)
  · refine je_tsw C (5) 142 dX1_lays_16 hx (by decide) (by decide) rfl rfl ?_
    refine je_aload_n C dX1_lays_142 143 rfl 0 rfl ?_
    refine gX1_40 C dX1_lays_143 146 rfl ?_
    refine je_iload_n C dX1_lays_146 147 rfl 2 rfl ?_
    refine sX1_change_437 C dX1_lays_147 150 rfl ?_
    refine jk_lt h (fun k147 h => ?_)
    refine je_iload_n C dX1_lays_150 151 rfl 2 rfl ?_
    refine je_iconst C (0) dX1_lays_151 152 rfl ic_0 ?_
    refine je_aload_n C dX1_lays_152 153 rfl 0 rfl ?_
    obtain ⟨hx, h⟩ := p_hs_inv h
    refine gX1_22 C hx dX1_lays_153 156 rfl ?_
    refine jh_listN C hH (t := 2) (by decide) q253 rfl dX1_lays_156 159 rfl ?_
    refine jh_size (t := 2) (rest := [.int (0 : Int32), .int v2]) C hH (by decide) cwX1_160 ⟨Nat.le_of_ble_eq_true rfl, Nat.le_of_ble_eq_true rfl⟩ (Nat.le_of_ble_eq_true rfl) dX1_lays_159 162 rfl ⟨Nat.le_refl _, Nat.le_refl _⟩ ?_
    refine je_iconst C (1) dX1_lays_162 163 rfl ic_1 ?_
    refine je_isub C dX1_lays_163 164 rfl ?_
    obtain ⟨t164, hg, h⟩ := p_cl_inv h
    refine je_callSi (As := [.int v2, .int (0 : Int32), .int ((Int32.ofNat (hu.2.1 2)) - (1 : Int32))]) (rest := []) C (metX1_isIn hg) hdX1_isIn cwX1_107 rfl ⟨Nat.le_of_ble_eq_true rfl, Nat.le_of_ble_eq_true rfl⟩ (Nat.le_of_ble_eq_true rfl) dX1_lays_164 167 rfl ⟨Nat.le_refl _, Nat.le_refl _⟩ ?_
    obtain ⟨hz, h⟩ := p_cz_inv h
    cases h
    exact je_zret C dX1_lays_167 hz
  refine je_tswd C 168 dX1_lays_16 (je_out (0) 6 [(0 : Int32), (1 : Int32), (2 : Int32), (3 : Int32), (4 : Int32), (5 : Int32)] (by decide) (List.forall_mem_cons.mpr ⟨hn0, (List.forall_mem_cons.mpr ⟨hn1, (List.forall_mem_cons.mpr ⟨hn2, (List.forall_mem_cons.mpr ⟨hn3, (List.forall_mem_cons.mpr ⟨hn4, (List.forall_mem_cons.mpr ⟨hn5, (fun _ q => absurd q List.not_mem_nil)⟩)⟩)⟩)⟩)⟩)⟩)) rfl ?_
  refine je_iconst C (0) dX1_lays_168 169 rfl ic_0 ?_
  cases h
  exact je_zret C dX1_lays_169 (Or.inl rfl)
theorem hdX1_lays : je_hd yX1_lays 2 := ⟨by decide +kernel, by decide +kernel, by decide +kernel⟩
theorem cwX1_440 : GoodIn lw_all (wsV "MinistryDesks" 440 "MinistryDesks" yX1_lays (ws_ yX1_lays cX1_lays 3 (some .boolean))) := lw_V q1575 q1577 qs77 q161 q1578
theorem gX1_trial_211 {p : Program} {l : Launch} {e : Env} {R : Room} {s : State} {m : MethodId} {args : Array Value} {below : List Frame} {meth : Method} {c : Code} {Q : State → Prop} {G : je_G} {cc : ByteArray} {nL : Nat} {rt : Option FieldType} {sz cells slots pc : Nat} {L : List (Nat × Value)} {st : List Value} {κ : kp_K} {dyn : Nat → Option je_E} (C : Cx p s m args meth c G "MinistryDesks" cc nL rt) (d : decode cc pc = .ok (.getfield 211, 3)) (n : Nat) (hn : pc + 3 = n) (kk : Js p l e R s m args below meth c G nL Q (en2 G κ dyn) sz cells slots n L (.ref (G.2.1 + 29) :: st)) : Js p l e R s m args below meth c G nL Q (en2 G κ dyn) sz cells slots pc L (.ref (G.2.1 + 27) :: st) := jk_getRN (k := 3) (z := 0) C kd27 rfl in_X5 29 rfl (by decide) q374 rfl d n hn kk
set_option maxHeartbeats 4000000 in
theorem metX1_tried {l : Launch} {G : je_G} {dyn : Nat → Option je_E} {sz : Nat} {F : Nat} {hb : Nat} {hu : hd_T} {κ : kp_K} {v1 : Int32} {v2 : Int32} {v3 : Int32} {r9 : Int32 × kp_K} (hH : HouseRep G dyn hb hu) (h : pX1_tried F hb hu κ v1 v2 v3 = some r9) : MetS l G yX1_tried cX1_tried 4 (some .int) 208 6176 0 0 [.ref (G.2.1 + 0), .int v1, .int v2, .int v3] (en2 G κ dyn) sz (some (.int r9.1)) (en2 G r9.2 dyn) sz := by
  refine je_met "MinistryDesks" rfl (by decide +kernel) (Nat.le_of_ble_eq_true rfl) [(0, .ref (G.2.1 + 0)), (1, .int v1), (2, .int v2), (3, .int v3)] rfl (fun p e s m args below meth c C => ?_)
  unfold pX1_tried at h
  refine je_aload_n C dX1_tried_0 1 rfl 0 rfl ?_
  refine je_iload_n C dX1_tried_1 2 rfl 3 rfl ?_
  obtain ⟨t2, hg, h⟩ := p_cl_inv h
  refine je_callVi (As := [.int v3]) (rest := []) C (metX1_isDesk hH hg) (en2_at kd0) rfl hdX1_isDesk rfl cwX1_198 rfl ⟨Nat.le_of_ble_eq_true rfl, Nat.le_of_ble_eq_true rfl⟩ (Nat.le_of_ble_eq_true rfl) dX1_tried_2 5 rfl ⟨Nat.le_refl _, Nat.le_refl _⟩ ?_
  refine je_if_eq C 17 dX1_tried_5 8 rfl rfl h (fun h => ?_) (fun h => ?_)
  · refine je_iconst C (-1) dX1_tried_17 18 rfl ic_m1 ?_
    cases h
    exact je_iret C dX1_tried_18
  refine je_aload_n C dX1_tried_8 9 rfl 0 rfl ?_
  refine je_iload_n C dX1_tried_9 10 rfl 1 rfl ?_
  refine je_iload_n C dX1_tried_10 11 rfl 2 rfl ?_
  obtain ⟨q11, hg, h⟩ := p_cl_inv h
  refine je_callVi (As := [.int v1, .int v2]) (rest := []) C (metX1_lays hH hg) (en2_at kd0) rfl hdX1_lays rfl cwX1_440 rfl ⟨Nat.le_of_ble_eq_true rfl, Nat.le_of_ble_eq_true rfl⟩ (Nat.le_of_ble_eq_true rfl) dX1_tried_11 14 rfl ⟨Nat.le_refl _, Nat.le_refl _⟩ ?_
  refine je_lti h (fun t11 h => ?_)
  refine jk_lt h (fun k11 h => ?_)
  refine je_if_ne C 19 dX1_tried_14 17 rfl rfl h (fun h => ?_) (fun h => ?_)
  · refine je_aload_n C dX1_tried_19 20 rfl 0 rfl ?_
    refine gX1_52 C dX1_tried_20 23 rfl ?_
    refine je_aload_n C dX1_tried_23 24 rfl 0 rfl ?_
    refine gX1_40 C dX1_tried_24 27 rfl ?_
    obtain ⟨k27, hg, h⟩ := p_cl_inv h
    refine je_callVv (As := [.ref (G.2.1 + 12)]) (rest := []) C (metX5_begin (by decide : 1 < 3) hg) (en2_at kd27) rfl hdX5_begin rfl cwX1_96 rfl ⟨Nat.le_of_ble_eq_true rfl, Nat.le_of_ble_eq_true rfl⟩ (Nat.le_of_ble_eq_true rfl) dX1_tried_27 30 rfl ⟨Nat.le_refl _, Nat.le_refl _⟩ ?_
    refine je_aload_n C dX1_tried_30 31 rfl 0 rfl ?_
    refine gX1_52 C dX1_tried_31 34 rfl ?_
    refine je_aload_n C dX1_tried_34 35 rfl 0 rfl ?_
    refine gX1_48 C dX1_tried_35 38 rfl ?_
    refine gX1_truth_234 C dX1_tried_38 41 rfl ?_
    obtain ⟨k41, hg, h⟩ := p_cl_inv h
    refine je_callVt (As := [.int (k27.1 13 1)]) (rest := []) C (metX5_to hH (by decide : 1 < 3) hg) (en2_at kd27) rfl hdX5_to rfl cwX1_237 rfl ⟨Nat.le_of_ble_eq_true rfl, Nat.le_of_ble_eq_true rfl⟩ (Nat.le_of_ble_eq_true rfl) dX1_tried_41 44 rfl ⟨Nat.le_refl _, Nat.le_refl _⟩ ?_
    refine gX1_trial_211 C dX1_tried_44 47 rfl ?_
    refine je_iload_n C dX1_tried_47 48 rfl 3 rfl ?_
    refine jk_iald C kd29 dX1_tried_48 49 rfl h (fun h => ?_)
    cases h
    exact je_iret C dX1_tried_49
  refine je_iconst C (-1) dX1_tried_17 18 rfl ic_m1 ?_
  cases h
  exact je_iret C dX1_tried_18
set_option maxHeartbeats 4000000 in
theorem metX5_copy {l : Launch} {G : je_G} {dyn : Nat → Option je_E} {sz : Nat} {r : Nat} {κ : kp_K} {r1 : Nat} {r9 : kp_K} (hr : r < 3) (hr1 : r1 < 3) (h : pX5_copy r κ r1 = some r9) : MetS l G yX5_copy cX5_copy 2 none 1 48 0 0 [.ref (G.2.1 + (13 + 14 * r)), .ref (G.2.1 + (13 + 14 * r1))] (en2 G κ dyn) sz none (en2 G r9 dyn) sz := by
  refine je_met "MinistryDesks$Run" rfl (by decide +kernel) (Nat.le_of_ble_eq_true rfl) [(0, .ref (G.2.1 + (13 + 14 * r))), (1, .ref (G.2.1 + (13 + 14 * r1)))] rfl (fun p e s m args below meth c C => ?_)
  unfold pX5_copy at h
  refine je_aload_n C dX5_copy_0 1 rfl 0 rfl ?_
  refine je_aload_n C dX5_copy_1 2 rfl 1 rfl ?_
  obtain ⟨a2, hx, ha2, h⟩ := p_ch_inv h
  refine gX5_run_56 C hr1 hx dX5_copy_2 5 rfl ?_
  refine sX5_run_56 (v := (some a2)) C hr dX5_copy_5 8 rfl ?_
  refine jk_lt h (fun k5 h => ?_)
  refine je_aload_n C dX5_copy_8 9 rfl 0 rfl ?_
  refine je_aload_n C dX5_copy_9 10 rfl 1 rfl ?_
  refine gX5_run_60 C hr1 dX5_copy_10 13 rfl ?_
  refine sX5_run_60 C hr dX5_copy_13 16 rfl ?_
  refine jk_lt h (fun k13 h => ?_)
  refine je_aload_n C dX5_copy_16 17 rfl 0 rfl ?_
  refine je_aload_n C dX5_copy_17 18 rfl 1 rfl ?_
  refine gX5_run_64 C hr1 dX5_copy_18 21 rfl ?_
  refine sX5_run_64 C hr dX5_copy_21 24 rfl ?_
  refine jk_lt h (fun k21 h => ?_)
  refine je_aload_n C dX5_copy_24 25 rfl 1 rfl ?_
  refine gX5_run_15 C hr1 dX5_copy_25 28 rfl ?_
  refine je_iconst C (0) dX5_copy_28 29 rfl ic_0 ?_
  refine je_aload_n C dX5_copy_29 30 rfl 0 rfl ?_
  refine gX5_run_15 C hr dX5_copy_30 33 rfl ?_
  refine je_iconst C (0) dX5_copy_33 34 rfl ic_0 ?_
  refine je_iconst C (4) dX5_copy_34 35 rfl ic_4 ?_
  refine jk_copyi C (kr1 hr1) (kr1 hr) acw_X5_71 (by decide) (by decide) (by decide) (Nat.le_of_ble_eq_true rfl) (Nat.le_of_ble_eq_true rfl) ⟨Nat.le_of_ble_eq_true rfl, Nat.le_of_ble_eq_true rfl⟩ (Nat.le_of_ble_eq_true rfl) dX5_copy_35 38 rfl ?_
  refine jk_lt h (fun k35 h => ?_)
  refine je_aload_n C dX5_copy_38 39 rfl 1 rfl ?_
  refine gX5_run_19 C hr1 dX5_copy_39 42 rfl ?_
  refine je_iconst C (0) dX5_copy_42 43 rfl ic_0 ?_
  refine je_aload_n C dX5_copy_43 44 rfl 0 rfl ?_
  refine gX5_run_19 C hr dX5_copy_44 47 rfl ?_
  refine je_iconst C (0) dX5_copy_47 48 rfl ic_0 ?_
  refine je_iconst C (4) dX5_copy_48 49 rfl ic_4 ?_
  refine jk_copyi C (kr2 hr1) (kr2 hr) acw_X5_71 (by decide) (by decide) (by decide) (Nat.le_of_ble_eq_true rfl) (Nat.le_of_ble_eq_true rfl) ⟨Nat.le_of_ble_eq_true rfl, Nat.le_of_ble_eq_true rfl⟩ (Nat.le_of_ble_eq_true rfl) dX5_copy_49 52 rfl ?_
  refine jk_lt h (fun k49 h => ?_)
  refine je_aload_n C dX5_copy_52 53 rfl 1 rfl ?_
  refine gX5_run_22 C hr1 dX5_copy_53 56 rfl ?_
  refine je_iconst C (0) dX5_copy_56 57 rfl ic_0 ?_
  refine je_aload_n C dX5_copy_57 58 rfl 0 rfl ?_
  refine gX5_run_22 C hr dX5_copy_58 61 rfl ?_
  refine je_iconst C (0) dX5_copy_61 62 rfl ic_0 ?_
  refine je_iconst C (4) dX5_copy_62 63 rfl ic_4 ?_
  refine jk_copyi C (kr3 hr1) (kr3 hr) acw_X5_71 (by decide) (by decide) (by decide) (Nat.le_of_ble_eq_true rfl) (Nat.le_of_ble_eq_true rfl) ⟨Nat.le_of_ble_eq_true rfl, Nat.le_of_ble_eq_true rfl⟩ (Nat.le_of_ble_eq_true rfl) dX5_copy_63 66 rfl ?_
  refine jk_lt h (fun k63 h => ?_)
  refine je_aload_n C dX5_copy_66 67 rfl 1 rfl ?_
  refine gX5_run_29 C hr1 dX5_copy_67 70 rfl ?_
  refine je_iconst C (0) dX5_copy_70 71 rfl ic_0 ?_
  refine je_aload_n C dX5_copy_71 72 rfl 0 rfl ?_
  refine gX5_run_29 C hr dX5_copy_72 75 rfl ?_
  refine je_iconst C (0) dX5_copy_75 76 rfl ic_0 ?_
  refine je_bipush C (28) dX5_copy_76 78 rfl bp_28 ?_
  refine jk_copyi C (kr5 hr1) (kr5 hr) acw_X5_71 (by decide) (by decide) (by decide) (Nat.le_of_ble_eq_true rfl) (Nat.le_of_ble_eq_true rfl) ⟨Nat.le_of_ble_eq_true rfl, Nat.le_of_ble_eq_true rfl⟩ (Nat.le_of_ble_eq_true rfl) dX5_copy_78 81 rfl ?_
  refine jk_lt h (fun k78 h => ?_)
  refine je_aload_n C dX5_copy_81 82 rfl 1 rfl ?_
  refine gX5_run_32 C hr1 dX5_copy_82 85 rfl ?_
  refine je_iconst C (0) dX5_copy_85 86 rfl ic_0 ?_
  refine je_aload_n C dX5_copy_86 87 rfl 0 rfl ?_
  refine gX5_run_32 C hr dX5_copy_87 90 rfl ?_
  refine je_iconst C (0) dX5_copy_90 91 rfl ic_0 ?_
  refine je_bipush C (28) dX5_copy_91 93 rfl bp_28 ?_
  refine jk_copyi C (kr6 hr1) (kr6 hr) acw_X5_71 (by decide) (by decide) (by decide) (Nat.le_of_ble_eq_true rfl) (Nat.le_of_ble_eq_true rfl) ⟨Nat.le_of_ble_eq_true rfl, Nat.le_of_ble_eq_true rfl⟩ (Nat.le_of_ble_eq_true rfl) dX5_copy_93 96 rfl ?_
  refine jk_lt h (fun k93 h => ?_)
  refine je_aload_n C dX5_copy_96 97 rfl 1 rfl ?_
  refine gX5_run_35 C hr1 dX5_copy_97 100 rfl ?_
  refine je_iconst C (0) dX5_copy_100 101 rfl ic_0 ?_
  refine je_aload_n C dX5_copy_101 102 rfl 0 rfl ?_
  refine gX5_run_35 C hr dX5_copy_102 105 rfl ?_
  refine je_iconst C (0) dX5_copy_105 106 rfl ic_0 ?_
  refine je_bipush C (28) dX5_copy_106 108 rfl bp_28 ?_
  refine jk_copyi C (kr7 hr1) (kr7 hr) acw_X5_71 (by decide) (by decide) (by decide) (Nat.le_of_ble_eq_true rfl) (Nat.le_of_ble_eq_true rfl) ⟨Nat.le_of_ble_eq_true rfl, Nat.le_of_ble_eq_true rfl⟩ (Nat.le_of_ble_eq_true rfl) dX5_copy_108 111 rfl ?_
  refine jk_lt h (fun k108 h => ?_)
  refine je_aload_n C dX5_copy_111 112 rfl 1 rfl ?_
  refine gX5_run_50 C hr1 dX5_copy_112 115 rfl ?_
  refine je_iconst C (0) dX5_copy_115 116 rfl ic_0 ?_
  refine je_aload_n C dX5_copy_116 117 rfl 0 rfl ?_
  refine gX5_run_50 C hr dX5_copy_117 120 rfl ?_
  refine je_iconst C (0) dX5_copy_120 121 rfl ic_0 ?_
  refine je_bipush C (16) dX5_copy_121 123 rfl bp_16 ?_
  refine jk_copyi C (kr12 hr1) (kr12 hr) acw_X5_71 (by decide) (by decide) (by decide) (Nat.le_of_ble_eq_true rfl) (Nat.le_of_ble_eq_true rfl) ⟨Nat.le_of_ble_eq_true rfl, Nat.le_of_ble_eq_true rfl⟩ (Nat.le_of_ble_eq_true rfl) dX5_copy_123 126 rfl ?_
  refine jk_lt h (fun k123 h => ?_)
  refine je_aload_n C dX5_copy_126 127 rfl 1 rfl ?_
  refine gX5_run_53 C hr1 dX5_copy_127 130 rfl ?_
  refine je_iconst C (0) dX5_copy_130 131 rfl ic_0 ?_
  refine je_aload_n C dX5_copy_131 132 rfl 0 rfl ?_
  refine gX5_run_53 C hr dX5_copy_132 135 rfl ?_
  refine je_iconst C (0) dX5_copy_135 136 rfl ic_0 ?_
  refine je_sipush C (900) dX5_copy_136 139 rfl sp_900 ?_
  refine jk_copyi C (kr13 hr1) (kr13 hr) acw_X5_71 (by decide) (by decide) (by decide) (Nat.le_of_ble_eq_true rfl) (Nat.le_of_ble_eq_true rfl) ⟨Nat.le_of_ble_eq_true rfl, Nat.le_of_ble_eq_true rfl⟩ (Nat.le_of_ble_eq_true rfl) dX5_copy_139 142 rfl ?_
  refine jk_lt h (fun k139 h => ?_)
  cases h
  exact je_vret C dX5_copy_142
theorem hdX5_copy : je_hd yX5_copy 1 := ⟨by decide +kernel, by decide +kernel, by decide +kernel⟩
theorem cwX1_443 : GoodIn lw_all (wsV "MinistryDesks" 443 "MinistryDesks$Run" yX5_copy (ws_ yX5_copy cX5_copy 2 none)) := lw_V q1583 q1584 q1585 q168 q1586
theorem gX1_55 {p : Program} {l : Launch} {e : Env} {R : Room} {s : State} {m : MethodId} {args : Array Value} {below : List Frame} {meth : Method} {c : Code} {Q : State → Prop} {G : je_G} {cc : ByteArray} {nL : Nat} {rt : Option FieldType} {sz cells slots pc : Nat} {L : List (Nat × Value)} {st : List Value} {κ : kp_K} {dyn : Nat → Option je_E} (C : Cx p s m args meth c G "MinistryDesks" cc nL rt) (d : decode cc pc = .ok (.getfield 55, 3)) (n : Nat) (hn : pc + 3 = n) (kk : Js p l e R s m args below meth c G nL Q (en2 G κ dyn) sz cells slots n L (.ref (G.2.1 + 41) :: st)) : Js p l e R s m args below meth c G nL Q (en2 G κ dyn) sz cells slots pc L (.ref (G.2.1 + 0) :: st) := jk_getR (k := 10) (z := 0) C kd0 rfl in_X1 41 rfl (by decide) q452 rfl d n hn kk
theorem sX1_139 {p : Program} {l : Launch} {e : Env} {R : Room} {s : State} {m : MethodId} {args : Array Value} {below : List Frame} {meth : Method} {c : Code} {Q : State → Prop} {G : je_G} {cc : ByteArray} {nL : Nat} {rt : Option FieldType} {sz cells slots pc : Nat} {L : List (Nat × Value)} {st : List Value} {κ : kp_K} {dyn : Nat → Option je_E} (C : Cx p s m args meth c G "MinistryDesks" cc nL rt) {v : Int32} (hz : v = 0 ∨ v = 1) (d : decode cc pc = .ok (.putfield 139, 3)) (n : Nat) (hn : pc + 3 = n) (kk : Js p l e R s m args below meth c G nL Q (en2 G (s_i κ 0 27 v) dyn) sz cells slots n L st) : Js p l e R s m args below meth c G nL Q (en2 G κ dyn) sz cells slots pc L (.int v :: .ref (G.2.1 + 0) :: st) := jk_putZ (k := 27) C kd0 rfl in_X1 tyX1 tyX1_ok nmX1 rfl (by decide) q469 rfl rfl rfl hz d n hn kk
set_option maxHeartbeats 4000000 in
theorem metX1_keep {l : Launch} {G : je_G} {dyn : Nat → Option je_E} {sz : Nat} {κ : kp_K}  {r9 : Int32 × kp_K} (h : pX1_keep κ = some r9) : MetS l G yX1_keep cX1_keep 1 (some .int) 2 69 0 0 [.ref (G.2.1 + 0)] (en2 G κ dyn) sz (some (.int r9.1)) (en2 G r9.2 dyn) sz := by
  refine je_met "MinistryDesks" rfl (by decide +kernel) (Nat.le_of_ble_eq_true rfl) [(0, .ref (G.2.1 + 0))] rfl (fun p e s m args below meth c C => ?_)
  unfold pX1_keep at h
  refine je_aload_n C dX1_keep_0 1 rfl 0 rfl ?_
  refine je_iconst C (1) dX1_keep_1 2 rfl ic_1 ?_
  refine sX1_139 C (Or.inr rfl) dX1_keep_2 5 rfl ?_
  refine jk_lt h (fun k2 h => ?_)
  refine je_aload_n C dX1_keep_5 6 rfl 0 rfl ?_
  refine gX1_55 C dX1_keep_6 9 rfl ?_
  refine je_aload_n C dX1_keep_9 10 rfl 0 rfl ?_
  refine gX1_48 C dX1_keep_10 13 rfl ?_
  obtain ⟨k13, hg, h⟩ := p_cl_inv h
  refine je_callVv (As := [.ref (G.2.1 + 13)]) (rest := []) C (metX5_copy (by decide : 2 < 3) (by decide : 0 < 3) hg) (en2_at kd41) rfl hdX5_copy rfl cwX1_443 rfl ⟨Nat.le_of_ble_eq_true rfl, Nat.le_of_ble_eq_true rfl⟩ (Nat.le_of_ble_eq_true rfl) dX1_keep_13 16 rfl ⟨Nat.le_refl _, Nat.le_refl _⟩ ?_
  refine je_aload_n C dX1_keep_16 17 rfl 0 rfl ?_
  refine gX1_48 C dX1_keep_17 20 rfl ?_
  refine gX1_truth_234 C dX1_keep_20 23 rfl ?_
  cases h
  exact je_iret C dX1_keep_23
theorem gX1_139 {p : Program} {l : Launch} {e : Env} {R : Room} {s : State} {m : MethodId} {args : Array Value} {below : List Frame} {meth : Method} {c : Code} {Q : State → Prop} {G : je_G} {cc : ByteArray} {nL : Nat} {rt : Option FieldType} {sz cells slots pc : Nat} {L : List (Nat × Value)} {st : List Value} {κ : kp_K} {dyn : Nat → Option je_E} (C : Cx p s m args meth c G "MinistryDesks" cc nL rt) (d : decode cc pc = .ok (.getfield 139, 3)) (n : Nat) (hn : pc + 3 = n) (kk : Js p l e R s m args below meth c G nL Q (en2 G κ dyn) sz cells slots n L (.int (κ.1 0 27) :: st)) : Js p l e R s m args below meth c G nL Q (en2 G κ dyn) sz cells slots pc L (.ref (G.2.1 + 0) :: st) := jk_getI (k := 27) C kd0 rfl in_X1 rfl (by decide) q469 rfl d n hn kk
set_option maxHeartbeats 4000000 in
theorem metX1_back {l : Launch} {G : je_G} {dyn : Nat → Option je_E} {sz : Nat} {κ : kp_K}  {r9 : Int32 × kp_K} (h : pX1_back κ = some r9) : MetS l G yX1_back cX1_back 1 (some .int) 2 69 0 0 [.ref (G.2.1 + 0)] (en2 G κ dyn) sz (some (.int r9.1)) (en2 G r9.2 dyn) sz := by
  refine je_met "MinistryDesks" rfl (by decide +kernel) (Nat.le_of_ble_eq_true rfl) [(0, .ref (G.2.1 + 0))] rfl (fun p e s m args below meth c C => ?_)
  unfold pX1_back at h
  refine je_aload_n C dX1_back_0 1 rfl 0 rfl ?_
  refine gX1_139 C dX1_back_1 4 rfl ?_
  refine je_if_ne C 9 dX1_back_4 7 rfl rfl h (fun h => ?_) (fun h => ?_)
  · refine je_aload_n C dX1_back_9 10 rfl 0 rfl ?_
    refine gX1_48 C dX1_back_10 13 rfl ?_
    refine je_aload_n C dX1_back_13 14 rfl 0 rfl ?_
    refine gX1_55 C dX1_back_14 17 rfl ?_
    obtain ⟨k17, hg, h⟩ := p_cl_inv h
    refine je_callVv (As := [.ref (G.2.1 + 41)]) (rest := []) C (metX5_copy (by decide : 0 < 3) (by decide : 2 < 3) hg) (en2_at kd13) rfl hdX5_copy rfl cwX1_443 rfl ⟨Nat.le_of_ble_eq_true rfl, Nat.le_of_ble_eq_true rfl⟩ (Nat.le_of_ble_eq_true rfl) dX1_back_17 20 rfl ⟨Nat.le_refl _, Nat.le_refl _⟩ ?_
    refine je_aload_n C dX1_back_20 21 rfl 0 rfl ?_
    refine gX1_48 C dX1_back_21 24 rfl ?_
    refine gX1_truth_234 C dX1_back_24 27 rfl ?_
    cases h
    exact je_iret C dX1_back_27
  refine je_iconst C (-1) dX1_back_7 8 rfl ic_m1 ?_
  cases h
  exact je_iret C dX1_back_8
theorem gX1_truth_211 {p : Program} {l : Launch} {e : Env} {R : Room} {s : State} {m : MethodId} {args : Array Value} {below : List Frame} {meth : Method} {c : Code} {Q : State → Prop} {G : je_G} {cc : ByteArray} {nL : Nat} {rt : Option FieldType} {sz cells slots pc : Nat} {L : List (Nat × Value)} {st : List Value} {κ : kp_K} {dyn : Nat → Option je_E} (C : Cx p s m args meth c G "MinistryDesks" cc nL rt) (d : decode cc pc = .ok (.getfield 211, 3)) (n : Nat) (hn : pc + 3 = n) (kk : Js p l e R s m args below meth c G nL Q (en2 G κ dyn) sz cells slots n L (.ref (G.2.1 + 15) :: st)) : Js p l e R s m args below meth c G nL Q (en2 G κ dyn) sz cells slots pc L (.ref (G.2.1 + 13) :: st) := jk_getRN (k := 3) (z := 0) C kd13 rfl in_X5 15 rfl (by decide) q374 rfl d n hn kk
set_option maxHeartbeats 4000000 in
theorem wX1_count_133 {p : Program} {l : Launch} {e : Env} {s : State} {m : MethodId} {args : Array Value} {below : List Frame} {meth : Method} {c : Code} {G : je_G} {dyn : Nat → Option je_E} {sz : Nat} {F : Nat} {hb : Nat} {hu : hd_T} {κ : kp_K} {r9 : Int32} (C : Cx p s m args meth c G "MinistryDesks" cX1_count 4 (some .int)) (hH : HouseRep G dyn hb hu) : ∀ (n : Nat) (v2 : Int32) (v3 : Int32), bX1_count_133 F hb hu n κ v2 v3 = some r9 → Js p l e ({ frames := 5, cells := 0, slots := 0, locals := 140 } : Room) s m args below meth c G 4 (MQ below (je_Q G (some (.int r9)) (en2 G κ dyn) sz) args s 0 0 (je_A G)) (en2 G κ dyn) sz 0 0 133 [(0, .ref (G.2.1 + 0)), (2, .int v2), (3, .int v3)] [] := by
  intro n
  induction n with
  | zero =>
    intro v2 v3 h
    cases h
  | succ n ih =>
    intro v2 v3 h
    rw [bX1_count_133] at h
    refine je_iload_n C dX1_count_133 134 rfl 2 rfl ?_
    refine je_aload_n C dX1_count_134 135 rfl 0 rfl ?_
    obtain ⟨t135, hg, h⟩ := p_cl_inv h
    refine je_callVi (As := []) (rest := [.int v3]) C (metX1_desks hH hg) (en2_at kd0) rfl hdX1_desks rfl cwX1_166 rfl ⟨Nat.le_of_ble_eq_true rfl, Nat.le_of_ble_eq_true rfl⟩ (Nat.le_of_ble_eq_true rfl) dX1_count_135 138 rfl ⟨Nat.le_refl _, Nat.le_refl _⟩ ?_
    refine je_icmp_ge C 159 dX1_count_138 141 rfl rfl h (fun h => ?_) (fun h => ?_)
    · refine je_iload_n C dX1_count_159 160 rfl 1 rfl ?_
      cases h
      exact je_iret C dX1_count_160
    refine je_iload_n C dX1_count_141 142 rfl 1 rfl ?_
    refine je_aload_n C dX1_count_142 143 rfl 0 rfl ?_
    refine gX1_48 C dX1_count_143 146 rfl ?_
    refine gX1_truth_211 C dX1_count_146 149 rfl ?_
    refine je_iload_n C dX1_count_149 150 rfl 2 rfl ?_
    refine jk_iald C kd15 dX1_count_150 151 rfl h (fun h => ?_)
    refine je_iadd C dX1_count_151 152 rfl ?_
    refine je_lti h (fun t152 h => ?_)
    refine je_istore_n C dX1_count_152 153 rfl (Nat.le_of_ble_eq_true rfl) [(2, .int t152), (0, .ref (G.2.1 + 0)), (3, .int v3)] rfl ?_
    refine je_iinc C (1) dX1_count_153 156 rfl 2 rfl ic_1 (Nat.le_of_ble_eq_true rfl) [(3, .int (v3 + (1 : Int32))), (2, .int t152), (0, .ref (G.2.1 + 0))] rfl ?_
    refine je_goto C 133 dX1_count_156 rfl ?_
    refine je_sub [2, 1, 0] [(0, .ref (G.2.1 + 0)), (2, .int t152), (3, .int (v3 + (1 : Int32)))] rfl ?_
    exact ih t152 (v3 + (1 : Int32)) h
set_option maxHeartbeats 4000000 in
theorem metX1_count {l : Launch} {G : je_G} {dyn : Nat → Option je_E} {sz : Nat} {F : Nat} {hb : Nat} {hu : hd_T} {κ : kp_K} {v1 : Int32} {r9 : Int32} (hH : HouseRep G dyn hb hu) (h : pX1_count F hb hu κ v1 = some r9) : MetS l G yX1_count cX1_count 4 (some .int) 5 140 0 0 [.ref (G.2.1 + 0), .int v1] (en2 G κ dyn) sz (some (.int r9)) (en2 G κ dyn) sz := by
  refine je_met "MinistryDesks" rfl (by decide +kernel) (Nat.le_of_ble_eq_true rfl) [(0, .ref (G.2.1 + 0)), (1, .int v1)] rfl (fun p e s m args below meth c C => ?_)
  unfold pX1_count at h
  refine je_iconst C (0) dX1_count_0 1 rfl ic_0 ?_
  refine je_istore_n C dX1_count_1 2 rfl (Nat.le_of_ble_eq_true rfl) [(2, .int (0 : Int32)), (0, .ref (G.2.1 + 0)), (1, .int v1)] rfl ?_
  refine je_iload_n C dX1_count_2 3 rfl 2 rfl ?_
  refine je_ite h (fun hx h => ?_) (fun hn0 h => ?_)
  · refine je_tsw C (0) 56 dX1_count_3 hx (by decide) (by decide) rfl rfl ?_
    refine je_aload_n C dX1_count_56 57 rfl 1 rfl ?_
    obtain ⟨t57, hg, h⟩ := p_cl_inv h
    refine je_callVi (As := []) (rest := []) C (metX1_desks hH hg) (en2_at kd0) rfl hdX1_desks rfl cwX1_166 rfl ⟨Nat.le_of_ble_eq_true rfl, Nat.le_of_ble_eq_true rfl⟩ (Nat.le_of_ble_eq_true rfl) dX1_count_57 60 rfl ⟨Nat.le_refl _, Nat.le_refl _⟩ ?_
    cases h
    exact je_iret C dX1_count_60
  refine je_ite h (fun hx h => ?_) (fun hn1 h => ?_)
  · refine je_tsw C (1) 61 dX1_count_3 hx (by decide) (by decide) rfl rfl ?_
    refine je_aload_n C dX1_count_61 62 rfl 1 rfl ?_
    obtain ⟨hx, h⟩ := p_hs_inv h
    refine gX1_22 C hx dX1_count_62 65 rfl ?_
    refine jh_listN C hH (t := 1) (by decide) q249 rfl dX1_count_65 68 rfl ?_
    refine jh_size (t := 1) (rest := []) C hH (by decide) cwX1_160 ⟨Nat.le_of_ble_eq_true rfl, Nat.le_of_ble_eq_true rfl⟩ (Nat.le_of_ble_eq_true rfl) dX1_count_68 71 rfl ⟨Nat.le_refl _, Nat.le_refl _⟩ ?_
    cases h
    exact je_iret C dX1_count_71
  refine je_ite h (fun hx h => ?_) (fun hn2 h => ?_)
  · refine je_tsw C (2) 72 dX1_count_3 hx (by decide) (by decide) rfl rfl ?_
    refine je_aload_n C dX1_count_72 73 rfl 1 rfl ?_
    obtain ⟨hx, h⟩ := p_hs_inv h
    refine gX1_22 C hx dX1_count_73 76 rfl ?_
    refine jh_listN C hH (t := 2) (by decide) q253 rfl dX1_count_76 79 rfl ?_
    refine jh_size (t := 2) (rest := []) C hH (by decide) cwX1_160 ⟨Nat.le_of_ble_eq_true rfl, Nat.le_of_ble_eq_true rfl⟩ (Nat.le_of_ble_eq_true rfl) dX1_count_79 82 rfl ⟨Nat.le_refl _, Nat.le_refl _⟩ ?_
    cases h
    exact je_iret C dX1_count_82
  refine je_ite h (fun hx h => ?_) (fun hn3 h => ?_)
  · refine je_tsw C (3) 83 dX1_count_3 hx (by decide) (by decide) rfl rfl ?_
    refine je_aload_n C dX1_count_83 84 rfl 1 rfl ?_
    obtain ⟨hx, h⟩ := p_hs_inv h
    refine gX1_22 C hx dX1_count_84 87 rfl ?_
    refine jh_listN C hH (t := 3) (by decide) q257 rfl dX1_count_87 90 rfl ?_
    refine jh_size (t := 3) (rest := []) C hH (by decide) cwX1_160 ⟨Nat.le_of_ble_eq_true rfl, Nat.le_of_ble_eq_true rfl⟩ (Nat.le_of_ble_eq_true rfl) dX1_count_90 93 rfl ⟨Nat.le_refl _, Nat.le_refl _⟩ ?_
    cases h
    exact je_iret C dX1_count_93
  refine je_ite h (fun hx h => ?_) (fun hn4 h => ?_)
  · refine je_tsw C (4) 94 dX1_count_3 hx (by decide) (by decide) rfl rfl ?_
    refine je_aload_n C dX1_count_94 95 rfl 1 rfl ?_
    obtain ⟨hx, h⟩ := p_hs_inv h
    refine gX1_22 C hx dX1_count_95 98 rfl ?_
    refine jh_listN C hH (t := 5) (by decide) q264 rfl dX1_count_98 101 rfl ?_
    refine jh_size (t := 5) (rest := []) C hH (by decide) cwX1_160 ⟨Nat.le_of_ble_eq_true rfl, Nat.le_of_ble_eq_true rfl⟩ (Nat.le_of_ble_eq_true rfl) dX1_count_101 104 rfl ⟨Nat.le_refl _, Nat.le_refl _⟩ ?_
    cases h
    exact je_iret C dX1_count_104
  refine je_ite h (fun hx h => ?_) (fun hn5 h => ?_)
  · refine je_tsw C (5) 105 dX1_count_3 hx (by decide) (by decide) rfl rfl ?_
    refine je_aload_n C dX1_count_105 106 rfl 1 rfl ?_
    obtain ⟨hx, h⟩ := p_hs_inv h
    refine gX1_22 C hx dX1_count_106 109 rfl ?_
    refine jh_intN C hH 9 (by decide) q274 rfl dX1_count_109 112 rfl ?_
    cases h
    exact je_iret C dX1_count_112
  refine je_ite h (fun hx h => ?_) (fun hn6 h => ?_)
  · refine je_tsw C (6) 113 dX1_count_3 hx (by decide) (by decide) rfl rfl ?_
    refine je_aload_n C dX1_count_113 114 rfl 1 rfl ?_
    refine gX1_48 C dX1_count_114 117 rfl ?_
    refine gX1_truth_234 C dX1_count_117 120 rfl ?_
    cases h
    exact je_iret C dX1_count_120
  refine je_ite h (fun hx h => ?_) (fun hn7 h => ?_)
  · refine je_tsw C (7) 121 dX1_count_3 hx (by decide) (by decide) rfl rfl ?_
    refine je_aload_n C dX1_count_121 122 rfl 1 rfl ?_
    refine gX1_136 C dX1_count_122 125 rfl ?_
    cases h
    exact je_iret C dX1_count_125
  refine je_ite h (fun hx h => ?_) (fun hn8 h => ?_)
  · refine je_tsw C (8) 126 dX1_count_3 hx (by decide) (by decide) rfl rfl ?_
    refine je_aload_n C dX1_count_126 127 rfl 1 rfl ?_
    obtain ⟨t127, hg, h⟩ := p_cl_inv h
    refine je_callVi (As := []) (rest := []) C (metX1_knownBy hg) (en2_at kd0) rfl hdX1_knownBy rfl cwX1_407 rfl ⟨Nat.le_of_ble_eq_true rfl, Nat.le_of_ble_eq_true rfl⟩ (Nat.le_of_ble_eq_true rfl) dX1_count_127 130 rfl ⟨Nat.le_refl _, Nat.le_refl _⟩ ?_
    cases h
    exact je_iret C dX1_count_130
  refine je_ite h (fun hx h => ?_) (fun hn9 h => ?_)
  · refine je_tsw C (9) 131 dX1_count_3 hx (by decide) (by decide) rfl rfl ?_
    refine je_iconst C (0) dX1_count_131 132 rfl ic_0 ?_
    refine je_istore_n C dX1_count_132 133 rfl (Nat.le_of_ble_eq_true rfl) [(3, .int (0 : Int32)), (2, .int (0 : Int32)), (0, .ref (G.2.1 + 0)), (1, .int v1)] rfl ?_
    refine je_sub [2, 1, 0] [(0, .ref (G.2.1 + 0)), (2, .int (0 : Int32)), (3, .int (0 : Int32))] rfl ?_
    exact wX1_count_133 C hH F (0 : Int32) (0 : Int32) h
  refine je_tswd C 161 dX1_count_3 (je_out (0) 10 [(0 : Int32), (1 : Int32), (2 : Int32), (3 : Int32), (4 : Int32), (5 : Int32), (6 : Int32), (7 : Int32), (8 : Int32), (9 : Int32)] (by decide) (List.forall_mem_cons.mpr ⟨hn0, (List.forall_mem_cons.mpr ⟨hn1, (List.forall_mem_cons.mpr ⟨hn2, (List.forall_mem_cons.mpr ⟨hn3, (List.forall_mem_cons.mpr ⟨hn4, (List.forall_mem_cons.mpr ⟨hn5, (List.forall_mem_cons.mpr ⟨hn6, (List.forall_mem_cons.mpr ⟨hn7, (List.forall_mem_cons.mpr ⟨hn8, (List.forall_mem_cons.mpr ⟨hn9, (fun _ q => absurd q List.not_mem_nil)⟩)⟩)⟩)⟩)⟩)⟩)⟩)⟩)⟩)⟩)) rfl ?_
  refine je_iconst C (-1) dX1_count_161 162 rfl ic_m1 ?_
  cases h
  exact je_iret C dX1_count_162
