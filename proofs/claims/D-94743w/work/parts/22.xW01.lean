/-! the system: walks of its methods: printed by gen -/
set_option maxRecDepth 100000
theorem hdX5_isThere : je_hd yX5_isThere 1 := ⟨by decide +kernel, by decide +kernel, by decide +kernel⟩
theorem cwX5_233 : GoodIn lw_all (wsV "MinistryDesks$Run" 233 "MinistryDesks$Run" yX5_isThere (ws_ yX5_isThere cX5_isThere 4 (some .boolean))) := lw_V q1365 q1367 qs51 q168 q1368
theorem gX5_run_19 {p : Program} {l : Launch} {e : Env} {R : Room} {s : State} {m : MethodId} {args : Array Value} {below : List Frame} {meth : Method} {c : Code} {Q : State → Prop} {G : je_G} {cc : ByteArray} {nL : Nat} {rt : Option FieldType} {sz cells slots pc : Nat} {L : List (Nat × Value)} {st : List Value} {κ : kp_K} {dyn : Nat → Option je_E} (C : Cx p s m args meth c G "MinistryDesks$Run" cc nL rt) {r : Nat} (hr : r < 3) (d : decode cc pc = .ok (.getfield 19, 3)) (n : Nat) (hn : pc + 3 = n) (kk : Js p l e R s m args below meth c G nL Q (en2 G κ dyn) sz cells slots n L (.ref (G.2.1 + (15 + 14 * r)) :: st)) : Js p l e R s m args below meth c G nL Q (en2 G κ dyn) sz cells slots pc L (.ref (G.2.1 + (13 + 14 * r)) :: st) := jk_getR (k := 3) (z := 0) C (kro hr) rfl in_X5 (15 + 14 * r) rfl (by decide) q373 rfl d n hn kk
theorem gX5_run_22 {p : Program} {l : Launch} {e : Env} {R : Room} {s : State} {m : MethodId} {args : Array Value} {below : List Frame} {meth : Method} {c : Code} {Q : State → Prop} {G : je_G} {cc : ByteArray} {nL : Nat} {rt : Option FieldType} {sz cells slots pc : Nat} {L : List (Nat × Value)} {st : List Value} {κ : kp_K} {dyn : Nat → Option je_E} (C : Cx p s m args meth c G "MinistryDesks$Run" cc nL rt) {r : Nat} (hr : r < 3) (d : decode cc pc = .ok (.getfield 22, 3)) (n : Nat) (hn : pc + 3 = n) (kk : Js p l e R s m args below meth c G nL Q (en2 G κ dyn) sz cells slots n L (.ref (G.2.1 + (16 + 14 * r)) :: st)) : Js p l e R s m args below meth c G nL Q (en2 G κ dyn) sz cells slots pc L (.ref (G.2.1 + (13 + 14 * r)) :: st) := jk_getR (k := 4) (z := 0) C (kro hr) rfl in_X5 (16 + 14 * r) rfl (by decide) q375 rfl d n hn kk
theorem gX5_run_50 {p : Program} {l : Launch} {e : Env} {R : Room} {s : State} {m : MethodId} {args : Array Value} {below : List Frame} {meth : Method} {c : Code} {Q : State → Prop} {G : je_G} {cc : ByteArray} {nL : Nat} {rt : Option FieldType} {sz cells slots pc : Nat} {L : List (Nat × Value)} {st : List Value} {κ : kp_K} {dyn : Nat → Option je_E} (C : Cx p s m args meth c G "MinistryDesks$Run" cc nL rt) {r : Nat} (hr : r < 3) (d : decode cc pc = .ok (.getfield 50, 3)) (n : Nat) (hn : pc + 3 = n) (kk : Js p l e R s m args below meth c G nL Q (en2 G κ dyn) sz cells slots n L (.ref (G.2.1 + (25 + 14 * r)) :: st)) : Js p l e R s m args below meth c G nL Q (en2 G κ dyn) sz cells slots pc L (.ref (G.2.1 + (13 + 14 * r)) :: st) := jk_getR (k := 14) (z := 0) C (kro hr) rfl in_X5 (25 + 14 * r) rfl (by decide) q389 rfl d n hn kk
set_option maxHeartbeats 4000000 in
theorem wX5_four_133 {p : Program} {l : Launch} {e : Env} {s : State} {m : MethodId} {args : Array Value} {below : List Frame} {meth : Method} {c : Code} {G : je_G} {dyn : Nat → Option je_E} {sz : Nat} {F : Nat} {hb : Nat} {hu : hd_T} {r : Nat} {r9 : kp_K} (C : Cx p s m args meth c G "MinistryDesks$Run" cX5_four 3 none) (hH : HouseRep G dyn hb hu) (hr : r < 3) : ∀ (n : Nat) (κ : kp_K) (v1 : Int32), bX5_four_133 F hb hu r n κ v1 = some r9 → Js p l e ({ frames := 5, cells := 0, slots := 0, locals := 143 } : Room) s m args below meth c G 3 (MQ below (je_Q G none (en2 G r9 dyn) sz) args s 0 0 (je_A G)) (en2 G κ dyn) sz 0 0 133 [(0, .ref (G.2.1 + (13 + 14 * r))), (1, .int v1)] [] := by
  intro n
  induction n with
  | zero =>
    intro κ v1 h
    cases h
  | succ n ih =>
    intro κ v1 h
    rw [bX5_four_133] at h
    refine je_iload_n C dX5_four_133 134 rfl 1 rfl ?_
    refine je_aload_n C dX5_four_134 135 rfl 0 rfl ?_
    refine gX5_run_3 C hr dX5_four_135 138 rfl ?_
    obtain ⟨t138, hg, h⟩ := p_cl_inv h
    refine je_callVNi (As := []) (rest := [.int v1]) C (metX1_desks hH hg) (en2_at kd0) rfl hdX1_desks rfl cwX5_112 rfl ⟨Nat.le_of_ble_eq_true rfl, Nat.le_of_ble_eq_true rfl⟩ (Nat.le_of_ble_eq_true rfl) dX5_four_138 141 rfl ⟨Nat.le_refl _, Nat.le_refl _⟩ ?_
    refine je_icmp_ge C 197 dX5_four_141 144 rfl rfl h (fun h => ?_) (fun h => ?_)
    · cases h
      exact je_vret C dX5_four_197
    refine je_aload_n C dX5_four_144 145 rfl 0 rfl ?_
    refine gX5_run_22 C hr dX5_four_145 148 rfl ?_
    refine je_iload_n C dX5_four_148 149 rfl 1 rfl ?_
    refine jk_iald C (kr3 hr) dX5_four_149 150 rfl h (fun h => ?_)
    refine je_if_ge C 191 dX5_four_150 153 rfl rfl h (fun h => ?_) (fun h => ?_)
    · refine je_iinc C (1) dX5_four_191 194 rfl 1 rfl ic_1 (Nat.le_of_ble_eq_true rfl) [(1, .int (v1 + (1 : Int32))), (0, .ref (G.2.1 + (13 + 14 * r)))] rfl ?_
      refine je_goto C 133 dX5_four_194 rfl ?_
      refine je_sub [1, 0] [(0, .ref (G.2.1 + (13 + 14 * r))), (1, .int (v1 + (1 : Int32)))] rfl ?_
      exact ih κ (v1 + (1 : Int32)) h
    refine je_aload_n C dX5_four_153 154 rfl 0 rfl ?_
    refine gX5_run_19 C hr dX5_four_154 157 rfl ?_
    refine je_iload_n C dX5_four_157 158 rfl 1 rfl ?_
    refine jk_iald C (kr2 hr) dX5_four_158 159 rfl h (fun h => ?_)
    refine je_if_le C 191 dX5_four_159 162 rfl rfl h (fun h => ?_) (fun h => ?_)
    · refine je_iinc C (1) dX5_four_191 194 rfl 1 rfl ic_1 (Nat.le_of_ble_eq_true rfl) [(1, .int (v1 + (1 : Int32))), (0, .ref (G.2.1 + (13 + 14 * r)))] rfl ?_
      refine je_goto C 133 dX5_four_194 rfl ?_
      refine je_sub [1, 0] [(0, .ref (G.2.1 + (13 + 14 * r))), (1, .int (v1 + (1 : Int32)))] rfl ?_
      exact ih κ (v1 + (1 : Int32)) h
    refine je_aload_n C dX5_four_162 163 rfl 0 rfl ?_
    refine gX5_run_19 C hr dX5_four_163 166 rfl ?_
    refine je_iload_n C dX5_four_166 167 rfl 1 rfl ?_
    refine jk_iald C (kr2 hr) dX5_four_167 168 rfl h (fun h => ?_)
    refine je_aload_n C dX5_four_168 169 rfl 0 rfl ?_
    refine gX5_run_3 C hr dX5_four_169 172 rfl ?_
    obtain ⟨hx, h⟩ := p_hs_inv h
    refine gX5_77 C hx dX5_four_172 175 rfl ?_
    refine jh_intN C hH 8 (by decide) q272 rfl dX5_four_175 178 rfl ?_
    refine je_icmp_lt C 191 dX5_four_178 181 rfl rfl h (fun h => ?_) (fun h => ?_)
    · refine je_iinc C (1) dX5_four_191 194 rfl 1 rfl ic_1 (Nat.le_of_ble_eq_true rfl) [(1, .int (v1 + (1 : Int32))), (0, .ref (G.2.1 + (13 + 14 * r)))] rfl ?_
      refine je_goto C 133 dX5_four_194 rfl ?_
      refine je_sub [1, 0] [(0, .ref (G.2.1 + (13 + 14 * r))), (1, .int (v1 + (1 : Int32)))] rfl ?_
      exact ih κ (v1 + (1 : Int32)) h
    refine je_aload_n C dX5_four_181 182 rfl 0 rfl ?_
    refine gX5_run_22 C hr dX5_four_182 185 rfl ?_
    refine je_iload_n C dX5_four_185 186 rfl 1 rfl ?_
    refine je_aload_n C dX5_four_186 187 rfl 0 rfl ?_
    refine gX5_run_60 C hr dX5_four_187 190 rfl ?_
    refine jk_iast C (kr3 hr) dX5_four_190 191 rfl h (fun h => ?_)
    refine jk_lt h (fun k190 h => ?_)
    refine je_iinc C (1) dX5_four_191 194 rfl 1 rfl ic_1 (Nat.le_of_ble_eq_true rfl) [(1, .int (v1 + (1 : Int32))), (0, .ref (G.2.1 + (13 + 14 * r)))] rfl ?_
    refine je_goto C 133 dX5_four_194 rfl ?_
    refine je_sub [1, 0] [(0, .ref (G.2.1 + (13 + 14 * r))), (1, .int (v1 + (1 : Int32)))] rfl ?_
    exact ih k190 (v1 + (1 : Int32)) h
set_option maxHeartbeats 4000000 in
theorem wX5_four_91 {p : Program} {l : Launch} {e : Env} {s : State} {m : MethodId} {args : Array Value} {below : List Frame} {meth : Method} {c : Code} {G : je_G} {dyn : Nat → Option je_E} {sz : Nat} {F : Nat} {hb : Nat} {hu : hd_T} {r : Nat} {r9 : kp_K} {k2 : kp_K → Int32 → Option (kp_K)} (C : Cx p s m args meth c G "MinistryDesks$Run" cX5_four 3 none) (hH : HouseRep G dyn hb hu) (hr : r < 3) (hk2 : ∀ (kq : kp_K) (q1 : Int32), k2 kq q1 = some r9 → Js p l e ({ frames := 5, cells := 0, slots := 0, locals := 143 } : Room) s m args below meth c G 3 (MQ below (je_Q G none (en2 G r9 dyn) sz) args s 0 0 (je_A G)) (en2 G kq dyn) sz 0 0 2 [(0, .ref (G.2.1 + (13 + 14 * r))), (1, .int q1)] []) (κ : kp_K) (v1 : Int32) (v2 : Int32) (s0 : Int32) (s1 : Int32) (h : bX5_four_91 F hb hu r k2 κ v1 v2 s0 s1 = some r9) : Js p l e ({ frames := 5, cells := 0, slots := 0, locals := 143 } : Room) s m args below meth c G 3 (MQ below (je_Q G none (en2 G r9 dyn) sz) args s 0 0 (je_A G)) (en2 G κ dyn) sz 0 0 91 [(0, .ref (G.2.1 + (13 + 14 * r))), (1, .int v1), (2, .ref (G.2.1 + (hu.2.2.2.2.1 3 v2.toNatClampNeg)))] [.int s0, .int s1, .ref (G.2.1 + (25 + 14 * r))] := by
  unfold bX5_four_91 at h
  refine jk_iast C (kr12 hr) dX5_four_91 92 rfl h (fun h => ?_)
  refine jk_lt h (fun k91 h => ?_)
  refine je_aload_n C dX5_four_92 93 rfl 0 rfl ?_
  refine gX5_run_50 C hr dX5_four_93 96 rfl ?_
  refine je_iload_n C dX5_four_96 97 rfl 1 rfl ?_
  refine jk_iald C (kr12 hr) dX5_four_97 98 rfl h (fun h => ?_)
  refine je_iconst C (2) dX5_four_98 99 rfl ic_2 ?_
  refine je_icmp_ne C 125 dX5_four_99 102 rfl rfl h (fun h => ?_) (fun h => ?_)
  · refine je_iinc C (1) dX5_four_125 128 rfl 1 rfl ic_1 (Nat.le_of_ble_eq_true rfl) [(1, .int (v1 + (1 : Int32))), (0, .ref (G.2.1 + (13 + 14 * r))), (2, .ref (G.2.1 + (hu.2.2.2.2.1 3 v2.toNatClampNeg)))] rfl ?_
    refine je_goto C 2 dX5_four_128 rfl ?_
    refine je_sub [1, 0] [(0, .ref (G.2.1 + (13 + 14 * r))), (1, .int (v1 + (1 : Int32)))] rfl ?_
    exact hk2 k91 (v1 + (1 : Int32)) h
  refine je_aload_n C dX5_four_102 103 rfl 0 rfl ?_
  refine gX5_run_19 C hr dX5_four_103 106 rfl ?_
  refine je_aload_n C dX5_four_106 107 rfl 2 rfl ?_
  obtain ⟨hin3_v2, h⟩ := p_ck_inv h
  refine jh_item3N C hH hin3_v2 (k := 1) (by decide) q998 rfl dX5_four_107 110 rfl ?_
  refine je_lti h (fun t110 h => ?_)
  refine je_dup2 C dX5_four_110 111 rfl rfl rfl ?_
  refine jk_iald C (kr2 hr) dX5_four_111 112 rfl h (fun h => ?_)
  refine je_aload_n C dX5_four_112 113 rfl 0 rfl ?_
  refine gX5_run_3 C hr dX5_four_113 116 rfl ?_
  refine je_aload_n C dX5_four_116 117 rfl 2 rfl ?_
  refine jh_item3N C hH hin3_v2 (k := 2) (by decide) q1001 rfl dX5_four_117 120 rfl ?_
  obtain ⟨t120, hg, h⟩ := p_cl_inv h
  refine je_callVNi (As := [.int (hu.1 32 v2.toNatClampNeg)]) (rest := [.int (k91.1 (15 + 14 * r) t110.toNatClampNeg), .int t110, .ref (G.2.1 + (15 + 14 * r))]) C (metX1_worth hH hg) (en2_at kd0) rfl hdX1_worth rfl cwX5_141 rfl ⟨Nat.le_of_ble_eq_true rfl, Nat.le_of_ble_eq_true rfl⟩ (Nat.le_of_ble_eq_true rfl) dX5_four_120 123 rfl ⟨Nat.le_refl _, Nat.le_refl _⟩ ?_
  refine je_iadd C dX5_four_123 124 rfl ?_
  refine jk_iast C (kr2 hr) dX5_four_124 125 rfl h (fun h => ?_)
  refine jk_lt h (fun k124 h => ?_)
  refine je_iinc C (1) dX5_four_125 128 rfl 1 rfl ic_1 (Nat.le_of_ble_eq_true rfl) [(1, .int (v1 + (1 : Int32))), (0, .ref (G.2.1 + (13 + 14 * r))), (2, .ref (G.2.1 + (hu.2.2.2.2.1 3 v2.toNatClampNeg)))] rfl ?_
  refine je_goto C 2 dX5_four_128 rfl ?_
  refine je_sub [1, 0] [(0, .ref (G.2.1 + (13 + 14 * r))), (1, .int (v1 + (1 : Int32)))] rfl ?_
  exact hk2 k124 (v1 + (1 : Int32)) h
set_option maxHeartbeats 4000000 in
theorem wX5_four_2 {p : Program} {l : Launch} {e : Env} {s : State} {m : MethodId} {args : Array Value} {below : List Frame} {meth : Method} {c : Code} {G : je_G} {dyn : Nat → Option je_E} {sz : Nat} {F : Nat} {hb : Nat} {hu : hd_T} {r : Nat} {r9 : kp_K} (C : Cx p s m args meth c G "MinistryDesks$Run" cX5_four 3 none) (hH : HouseRep G dyn hb hu) (hr : r < 3) : ∀ (n : Nat) (κ : kp_K) (v1 : Int32), bX5_four_2 F hb hu r n κ v1 = some r9 → Js p l e ({ frames := 5, cells := 0, slots := 0, locals := 143 } : Room) s m args below meth c G 3 (MQ below (je_Q G none (en2 G r9 dyn) sz) args s 0 0 (je_A G)) (en2 G κ dyn) sz 0 0 2 [(0, .ref (G.2.1 + (13 + 14 * r))), (1, .int v1)] [] := by
  intro n
  induction n with
  | zero =>
    intro κ v1 h
    cases h
  | succ n ih =>
    intro κ v1 h
    rw [bX5_four_2] at h
    refine je_iload_n C dX5_four_2 3 rfl 1 rfl ?_
    refine je_aload_n C dX5_four_3 4 rfl 0 rfl ?_
    refine gX5_run_3 C hr dX5_four_4 7 rfl ?_
    obtain ⟨hx, h⟩ := p_hs_inv h
    refine gX5_77 C hx dX5_four_7 10 rfl ?_
    refine jh_listN C hH (t := 3) (by decide) q256 rfl dX5_four_10 13 rfl ?_
    refine jh_size (t := 3) (rest := [.int v1]) C hH (by decide) cwX5_126 ⟨Nat.le_of_ble_eq_true rfl, Nat.le_of_ble_eq_true rfl⟩ (Nat.le_of_ble_eq_true rfl) dX5_four_13 16 rfl ⟨Nat.le_refl _, Nat.le_refl _⟩ ?_
    refine je_icmp_ge C 131 dX5_four_16 19 rfl rfl h (fun h => ?_) (fun h => ?_)
    · refine je_iconst C (0) dX5_four_131 132 rfl ic_0 ?_
      refine je_istore_n C dX5_four_132 133 rfl (Nat.le_of_ble_eq_true rfl) [(1, .int (0 : Int32)), (0, .ref (G.2.1 + (13 + 14 * r)))] rfl ?_
      refine je_sub [1, 0] [(0, .ref (G.2.1 + (13 + 14 * r))), (1, .int (0 : Int32))] rfl ?_
      exact wX5_four_133 C hH hr F κ (0 : Int32) h
    refine je_aload_n C dX5_four_19 20 rfl 0 rfl ?_
    refine gX5_run_3 C hr dX5_four_20 23 rfl ?_
    obtain ⟨hx, h⟩ := p_hs_inv h
    refine gX5_77 C hx dX5_four_23 26 rfl ?_
    refine jh_listN C hH (t := 3) (by decide) q256 rfl dX5_four_26 29 rfl ?_
    refine je_iload_n C dX5_four_29 30 rfl 1 rfl ?_
    obtain ⟨hin3_v1, h⟩ := p_ck_inv h
    refine jh_get (t := 3) (rest := []) C hH (by decide) hin3_v1 cwX5_87 ⟨Nat.le_of_ble_eq_true rfl, Nat.le_of_ble_eq_true rfl⟩ (Nat.le_of_ble_eq_true rfl) dX5_four_30 33 rfl ⟨Nat.le_refl _, Nat.le_refl _⟩ ?_
    refine jh_cast3 C hH hin3_v1 q1333 dX5_four_33 36 rfl ?_
    refine je_astore_n C dX5_four_36 37 rfl (Nat.le_of_ble_eq_true rfl) [(2, .ref (G.2.1 + (hu.2.2.2.2.1 3 v1.toNatClampNeg))), (0, .ref (G.2.1 + (13 + 14 * r))), (1, .int v1)] rfl ?_
    refine je_aload_n C dX5_four_37 38 rfl 0 rfl ?_
    refine jh_item3N C hH hin3_v1 (k := 0) (by decide) q995 rfl dX5_four_38 41 rfl ?_
    refine je_aload_n C dX5_four_41 42 rfl 1 rfl ?_
    refine gX5_run_60 C hr dX5_four_42 45 rfl ?_
    refine je_icmp_eq C 51 dX5_four_45 48 rfl rfl h (fun h => ?_) (fun h => ?_)
    · refine je_aload_n C dX5_four_51 52 rfl 1 rfl ?_
      refine gX5_run_50 C hr dX5_four_52 55 rfl ?_
      refine je_iload_n C dX5_four_55 56 rfl 2 rfl ?_
      refine je_aload_n C dX5_four_56 57 rfl 1 rfl ?_
      refine je_aload_n C dX5_four_57 58 rfl 0 rfl ?_
      refine jh_item3N C hH hin3_v1 (k := 1) (by decide) q998 rfl dX5_four_58 61 rfl ?_
      refine je_aload_n C dX5_four_61 62 rfl 0 rfl ?_
      refine jh_item3N C hH hin3_v1 (k := 2) (by decide) q1001 rfl dX5_four_62 65 rfl ?_
      obtain ⟨t65, hg, h⟩ := p_cl_inv h
      refine je_callVi (As := [.int (hu.1 31 v1.toNatClampNeg), .int (hu.1 32 v1.toNatClampNeg)]) (rest := [.int v1, .ref (G.2.1 + (25 + 14 * r))]) C (metX5_lineOf hr hg) (en2_at (kro hr)) rfl hdX5_lineOf rfl cwX5_176 rfl ⟨Nat.le_of_ble_eq_true rfl, Nat.le_of_ble_eq_true rfl⟩ (Nat.le_of_ble_eq_true rfl) dX5_four_65 68 rfl ⟨Nat.le_refl _, Nat.le_refl _⟩ ?_
      refine je_if_lt C 75 dX5_four_68 71 rfl rfl h (fun h => ?_) (fun h => ?_)
      · refine je_aload_n C dX5_four_75 76 rfl 1 rfl ?_
        refine je_aload_n C dX5_four_76 77 rfl 0 rfl ?_
        refine jh_item3N C hH hin3_v1 (k := 2) (by decide) q1001 rfl dX5_four_77 80 rfl ?_
        obtain ⟨t80, hg, h⟩ := p_cl_inv h
        refine je_callVi (As := [.int (hu.1 32 v1.toNatClampNeg)]) (rest := [.int v1, .ref (G.2.1 + (25 + 14 * r))]) C (metX5_isThere hH hr hg) (en2_at (kro hr)) rfl hdX5_isThere rfl cwX5_233 rfl ⟨Nat.le_of_ble_eq_true rfl, Nat.le_of_ble_eq_true rfl⟩ (Nat.le_of_ble_eq_true rfl) dX5_four_80 83 rfl ⟨Nat.le_refl _, Nat.le_refl _⟩ ?_
        refine je_if_eq C 90 dX5_four_83 86 rfl rfl h (fun h => ?_) (fun h => ?_)
        · refine je_iconst C (0) dX5_four_90 91 rfl ic_0 ?_
          refine je_sub [1, 2, 0] [(0, .ref (G.2.1 + (13 + 14 * r))), (1, .int v1), (2, .ref (G.2.1 + (hu.2.2.2.2.1 3 v1.toNatClampNeg)))] rfl ?_
          exact wX5_four_91 C hH hr ih κ v1 v1 (0 : Int32) v1 h
        refine je_iconst C (2) dX5_four_86 87 rfl ic_2 ?_
        refine je_goto C 91 dX5_four_87 rfl ?_
        refine je_sub [1, 2, 0] [(0, .ref (G.2.1 + (13 + 14 * r))), (1, .int v1), (2, .ref (G.2.1 + (hu.2.2.2.2.1 3 v1.toNatClampNeg)))] rfl ?_
        exact wX5_four_91 C hH hr ih κ v1 v1 (2 : Int32) v1 h
      refine je_iconst C (1) dX5_four_71 72 rfl ic_1 ?_
      refine je_goto C 91 dX5_four_72 rfl ?_
      refine je_sub [1, 2, 0] [(0, .ref (G.2.1 + (13 + 14 * r))), (1, .int v1), (2, .ref (G.2.1 + (hu.2.2.2.2.1 3 v1.toNatClampNeg)))] rfl ?_
      exact wX5_four_91 C hH hr ih κ v1 v1 (1 : Int32) v1 h
    refine je_goto C 125 dX5_four_48 rfl ?_
    refine je_iinc C (1) dX5_four_125 128 rfl 2 rfl ic_1 (Nat.le_of_ble_eq_true rfl) [(1, .int (v1 + (1 : Int32))), (2, .ref (G.2.1 + (hu.2.2.2.2.1 3 v1.toNatClampNeg))), (0, .ref (G.2.1 + (13 + 14 * r)))] rfl ?_
    refine je_goto C 2 dX5_four_128 rfl ?_
    refine je_sub [2, 0] [(0, .ref (G.2.1 + (13 + 14 * r))), (1, .int (v1 + (1 : Int32)))] rfl ?_
    exact ih κ (v1 + (1 : Int32)) h
set_option maxHeartbeats 4000000 in
theorem metX5_four {l : Launch} {G : je_G} {dyn : Nat → Option je_E} {sz : Nat} {F : Nat} {hb : Nat} {hu : hd_T} {r : Nat} {κ : kp_K}  {r9 : kp_K} (hH : HouseRep G dyn hb hu) (hr : r < 3) (h : pX5_four F hb hu r κ = some r9) : MetS l G yX5_four cX5_four 3 none 5 143 0 0 [.ref (G.2.1 + (13 + 14 * r))] (en2 G κ dyn) sz none (en2 G r9 dyn) sz := by
  refine je_met "MinistryDesks$Run" rfl (by decide +kernel) (Nat.le_of_ble_eq_true rfl) [(0, .ref (G.2.1 + (13 + 14 * r)))] rfl (fun p e s m args below meth c C => ?_)
  unfold pX5_four at h
  refine je_iconst C (0) dX5_four_0 1 rfl ic_0 ?_
  refine je_istore_n C dX5_four_1 2 rfl (Nat.le_of_ble_eq_true rfl) [(1, .int (0 : Int32)), (0, .ref (G.2.1 + (13 + 14 * r)))] rfl ?_
  refine je_sub [1, 0] [(0, .ref (G.2.1 + (13 + 14 * r))), (1, .int (0 : Int32))] rfl ?_
  exact wX5_four_2 C hH hr F κ (0 : Int32) h
theorem hdX5_dawn : je_hd yX5_dawn 0 := ⟨by decide +kernel, by decide +kernel, by decide +kernel⟩
theorem hdX5_four : je_hd yX5_four 0 := ⟨by decide +kernel, by decide +kernel, by decide +kernel⟩
theorem hdX5_morning : je_hd yX5_morning 0 := ⟨by decide +kernel, by decide +kernel, by decide +kernel⟩
theorem hdX5_noon : je_hd yX5_noon 0 := ⟨by decide +kernel, by decide +kernel, by decide +kernel⟩
theorem hdX5_three : je_hd yX5_three 0 := ⟨by decide +kernel, by decide +kernel, by decide +kernel⟩
theorem cwX5_240 : GoodIn lw_all (wsV "MinistryDesks$Run" 240 "MinistryDesks$Run" yX5_dawn (ws_ yX5_dawn cX5_dawn 3 none)) := lw_V q1263 q1265 qs33 q168 q1266
theorem cwX5_243 : GoodIn lw_all (wsV "MinistryDesks$Run" 243 "MinistryDesks$Run" yX5_morning (ws_ yX5_morning cX5_morning 3 none)) := lw_V q1276 q1278 qs36 q168 q1279
theorem cwX5_246 : GoodIn lw_all (wsV "MinistryDesks$Run" 246 "MinistryDesks$Run" yX5_noon (ws_ yX5_noon cX5_noon 2 none)) := lw_V q1339 q1341 qs46 q168 q1342
theorem cwX5_248 : GoodIn lw_all (wsV "MinistryDesks$Run" 248 "MinistryDesks$Run" yX5_three (ws_ yX5_three cX5_three 4 none)) := lw_V q1356 q1358 qs49 q168 q1359
theorem cwX5_251 : GoodIn lw_all (wsV "MinistryDesks$Run" 251 "MinistryDesks$Run" yX5_four (ws_ yX5_four cX5_four 3 none)) := lw_V q1361 q1363 qs50 q168 q1364
theorem sX5_run_60 {p : Program} {l : Launch} {e : Env} {R : Room} {s : State} {m : MethodId} {args : Array Value} {below : List Frame} {meth : Method} {c : Code} {Q : State → Prop} {G : je_G} {cc : ByteArray} {nL : Nat} {rt : Option FieldType} {sz cells slots pc : Nat} {L : List (Nat × Value)} {st : List Value} {κ : kp_K} {dyn : Nat → Option je_E} (C : Cx p s m args meth c G "MinistryDesks$Run" cc nL rt) {r : Nat} (hr : r < 3) {v : Int32} (d : decode cc pc = .ok (.putfield 60, 3)) (n : Nat) (hn : pc + 3 = n) (kk : Js p l e R s m args below meth c G nL Q (en2 G (s_i κ (13 + 14 * r) 1 v) dyn) sz cells slots n L st) : Js p l e R s m args below meth c G nL Q (en2 G κ dyn) sz cells slots pc L (.int v :: .ref (G.2.1 + (13 + 14 * r)) :: st) := jk_putI (k := 1) C (kro hr) rfl in_X5 tyX5 tyX5_ok nmX5 rfl (by decide) q369 rfl rfl rfl d n hn kk
set_option maxHeartbeats 4000000 in
theorem wX5_to_0 {p : Program} {l : Launch} {e : Env} {s : State} {m : MethodId} {args : Array Value} {below : List Frame} {meth : Method} {c : Code} {G : je_G} {dyn : Nat → Option je_E} {sz : Nat} {F : Nat} {hb : Nat} {hu : hd_T} {r : Nat} {r9 : kp_K} (C : Cx p s m args meth c G "MinistryDesks$Run" cX5_to 2 (some (.object "MinistryDesks$Run"))) (hH : HouseRep G dyn hb hu) (hr : r < 3) : ∀ (n : Nat) (κ : kp_K) (v1 : Int32), bX5_to_0 F hb hu r n κ v1 = some r9 → Js p l e ({ frames := 207, cells := 0, slots := 0, locals := 6155 } : Room) s m args below meth c G 2 (MQ below (je_Q G (some (.ref (G.2.1 + (13 + 14 * r)))) (en2 G r9 dyn) sz) args s 0 0 (je_A G)) (en2 G κ dyn) sz 0 0 0 [(0, .ref (G.2.1 + (13 + 14 * r))), (1, .int v1)] [] := by
  intro n
  induction n with
  | zero =>
    intro κ v1 h
    cases h
  | succ n ih =>
    intro κ v1 h
    rw [bX5_to_0] at h
    refine je_aload_n C dX5_to_0 1 rfl 0 rfl ?_
    refine gX5_run_60 C hr dX5_to_1 4 rfl ?_
    refine je_iload_n C dX5_to_4 5 rfl 1 rfl ?_
    refine je_icmp_ge C 41 dX5_to_5 8 rfl rfl h (fun h => ?_) (fun h => ?_)
    · refine je_aload_n C dX5_to_41 42 rfl 0 rfl ?_
      cases h
      exact je_aretT C dX5_to_42
    refine je_aload_n C dX5_to_8 9 rfl 0 rfl ?_
    obtain ⟨k9, hg, h⟩ := p_cl_inv h
    refine je_callVv (As := []) (rest := []) C (metX5_dawn hH hr hg) (en2_at (kro hr)) rfl hdX5_dawn rfl cwX5_240 rfl ⟨Nat.le_of_ble_eq_true rfl, Nat.le_of_ble_eq_true rfl⟩ (Nat.le_of_ble_eq_true rfl) dX5_to_9 12 rfl ⟨Nat.le_refl _, Nat.le_refl _⟩ ?_
    refine je_aload_n C dX5_to_12 13 rfl 0 rfl ?_
    obtain ⟨k13, hg, h⟩ := p_cl_inv h
    refine je_callVv (As := []) (rest := []) C (metX5_morning hH hr hg) (en2_at (kro hr)) rfl hdX5_morning rfl cwX5_243 rfl ⟨Nat.le_of_ble_eq_true rfl, Nat.le_of_ble_eq_true rfl⟩ (Nat.le_of_ble_eq_true rfl) dX5_to_13 16 rfl ⟨Nat.le_refl _, Nat.le_refl _⟩ ?_
    refine je_aload_n C dX5_to_16 17 rfl 0 rfl ?_
    obtain ⟨k17, hg, h⟩ := p_cl_inv h
    refine je_callVv (As := []) (rest := []) C (metX5_noon hH hr hg) (en2_at (kro hr)) rfl hdX5_noon rfl cwX5_246 rfl ⟨Nat.le_of_ble_eq_true rfl, Nat.le_of_ble_eq_true rfl⟩ (Nat.le_of_ble_eq_true rfl) dX5_to_17 20 rfl ⟨Nat.le_refl _, Nat.le_refl _⟩ ?_
    refine je_aload_n C dX5_to_20 21 rfl 0 rfl ?_
    obtain ⟨k21, hg, h⟩ := p_cl_inv h
    refine je_callVv (As := []) (rest := []) C (metX5_three hH hr hg) (en2_at (kro hr)) rfl hdX5_three rfl cwX5_248 rfl ⟨Nat.le_of_ble_eq_true rfl, Nat.le_of_ble_eq_true rfl⟩ (Nat.le_of_ble_eq_true rfl) dX5_to_21 24 rfl ⟨Nat.le_refl _, Nat.le_refl _⟩ ?_
    refine je_aload_n C dX5_to_24 25 rfl 0 rfl ?_
    obtain ⟨k25, hg, h⟩ := p_cl_inv h
    refine je_callVv (As := []) (rest := []) C (metX5_four hH hr hg) (en2_at (kro hr)) rfl hdX5_four rfl cwX5_251 rfl ⟨Nat.le_of_ble_eq_true rfl, Nat.le_of_ble_eq_true rfl⟩ (Nat.le_of_ble_eq_true rfl) dX5_to_25 28 rfl ⟨Nat.le_refl _, Nat.le_refl _⟩ ?_
    refine je_aload_n C dX5_to_28 29 rfl 0 rfl ?_
    refine je_dup C dX5_to_29 30 rfl rfl ?_
    refine gX5_run_60 C hr dX5_to_30 33 rfl ?_
    refine je_iconst C (1) dX5_to_33 34 rfl ic_1 ?_
    refine je_iadd C dX5_to_34 35 rfl ?_
    refine sX5_run_60 C hr dX5_to_35 38 rfl ?_
    refine jk_lt h (fun k35 h => ?_)
    refine je_goto C 0 dX5_to_38 rfl ?_
    exact ih k35 v1 h
set_option maxHeartbeats 4000000 in
theorem metX5_to {l : Launch} {G : je_G} {dyn : Nat → Option je_E} {sz : Nat} {F : Nat} {hb : Nat} {hu : hd_T} {r : Nat} {κ : kp_K} {v1 : Int32} {r9 : kp_K} (hH : HouseRep G dyn hb hu) (hr : r < 3) (h : pX5_to F hb hu r κ v1 = some r9) : MetS l G yX5_to cX5_to 2 (some (.object "MinistryDesks$Run")) 207 6155 0 0 [.ref (G.2.1 + (13 + 14 * r)), .int v1] (en2 G κ dyn) sz (some (.ref (G.2.1 + (13 + 14 * r)))) (en2 G r9 dyn) sz := by
  refine je_met "MinistryDesks$Run" rfl (by decide +kernel) (Nat.le_of_ble_eq_true rfl) [(0, .ref (G.2.1 + (13 + 14 * r))), (1, .int v1)] rfl (fun p e s m args below meth c C => ?_)
  unfold pX5_to at h
  exact wX5_to_0 C hH hr F κ v1 h
theorem hdX5_to : je_hd yX5_to 1 := ⟨by decide +kernel, by decide +kernel, by decide +kernel⟩
theorem cwX1_237 : GoodIn lw_all (wsV "MinistryDesks" 237 "MinistryDesks$Run" yX5_to (ws_ yX5_to cX5_to 2 (some (.object "MinistryDesks$Run")))) := lw_V q1259 q1260 q1261 q168 q1262
theorem gX1_truth_234 {p : Program} {l : Launch} {e : Env} {R : Room} {s : State} {m : MethodId} {args : Array Value} {below : List Frame} {meth : Method} {c : Code} {Q : State → Prop} {G : je_G} {cc : ByteArray} {nL : Nat} {rt : Option FieldType} {sz cells slots pc : Nat} {L : List (Nat × Value)} {st : List Value} {κ : kp_K} {dyn : Nat → Option je_E} (C : Cx p s m args meth c G "MinistryDesks" cc nL rt) (d : decode cc pc = .ok (.getfield 234, 3)) (n : Nat) (hn : pc + 3 = n) (kk : Js p l e R s m args below meth c G nL Q (en2 G κ dyn) sz cells slots n L (.int (κ.1 13 1) :: st)) : Js p l e R s m args below meth c G nL Q (en2 G κ dyn) sz cells slots pc L (.ref (G.2.1 + 13) :: st) := jk_getIN (k := 1) C kd13 rfl in_X5 rfl (by decide) q370 rfl d n hn kk
set_option maxHeartbeats 4000000 in
theorem metX1_days {l : Launch} {G : je_G} {dyn : Nat → Option je_E} {sz : Nat} {F : Nat} {hb : Nat} {hu : hd_T} {κ : kp_K} {v1 : Int32} {r9 : Int32 × kp_K} (hH : HouseRep G dyn hb hu) (h : pX1_days F hb hu κ v1 = some r9) : MetS l G yX1_days cX1_days 2 (some .int) 208 6176 0 0 [.ref (G.2.1 + 0), .int v1] (en2 G κ dyn) sz (some (.int r9.1)) (en2 G r9.2 dyn) sz := by
  refine je_met "MinistryDesks" rfl (by decide +kernel) (Nat.le_of_ble_eq_true rfl) [(0, .ref (G.2.1 + 0)), (1, .int v1)] rfl (fun p e s m args below meth c C => ?_)
  unfold pX1_days at h
  refine je_iload_n C dX1_days_0 1 rfl 1 rfl ?_
  refine je_iconst C (0) dX1_days_1 2 rfl ic_0 ?_
  refine je_bipush C (61) dX1_days_2 4 rfl bp_61 ?_
  obtain ⟨t4, hg, h⟩ := p_cl_inv h
  refine je_callSi (As := [.int v1, .int (0 : Int32), .int (61 : Int32)]) (rest := []) C (metX1_isIn hg) hdX1_isIn cwX1_107 rfl ⟨Nat.le_of_ble_eq_true rfl, Nat.le_of_ble_eq_true rfl⟩ (Nat.le_of_ble_eq_true rfl) dX1_days_4 7 rfl ⟨Nat.le_refl _, Nat.le_refl _⟩ ?_
  refine je_if_eq C 24 dX1_days_7 10 rfl rfl h (fun h => ?_) (fun h => ?_)
  · refine je_iconst C (-1) dX1_days_24 25 rfl ic_m1 ?_
    cases h
    exact je_iret C dX1_days_25
  refine je_aload_n C dX1_days_10 11 rfl 0 rfl ?_
  refine gX1_48 C dX1_days_11 14 rfl ?_
  refine gX1_truth_234 C dX1_days_14 17 rfl ?_
  refine je_iload_n C dX1_days_17 18 rfl 1 rfl ?_
  refine je_iadd C dX1_days_18 19 rfl ?_
  refine je_bipush C (61) dX1_days_19 21 rfl bp_61 ?_
  refine je_icmp_le C 26 dX1_days_21 24 rfl rfl h (fun h => ?_) (fun h => ?_)
  · refine je_aload_n C dX1_days_26 27 rfl 0 rfl ?_
    refine gX1_48 C dX1_days_27 30 rfl ?_
    refine je_aload_n C dX1_days_30 31 rfl 0 rfl ?_
    refine gX1_48 C dX1_days_31 34 rfl ?_
    refine gX1_truth_234 C dX1_days_34 37 rfl ?_
    refine je_iload_n C dX1_days_37 38 rfl 1 rfl ?_
    refine je_iadd C dX1_days_38 39 rfl ?_
    obtain ⟨k39, hg, h⟩ := p_cl_inv h
    refine je_callVt (As := [.int ((κ.1 13 1) + v1)]) (rest := []) C (metX5_to hH (by decide : 0 < 3) hg) (en2_at kd13) rfl hdX5_to rfl cwX1_237 rfl ⟨Nat.le_of_ble_eq_true rfl, Nat.le_of_ble_eq_true rfl⟩ (Nat.le_of_ble_eq_true rfl) dX1_days_39 42 rfl ⟨Nat.le_refl _, Nat.le_refl _⟩ ?_
    refine je_pop C dX1_days_42 43 rfl rfl ?_
    refine je_aload_n C dX1_days_43 44 rfl 0 rfl ?_
    refine gX1_48 C dX1_days_44 47 rfl ?_
    refine gX1_truth_234 C dX1_days_47 50 rfl ?_
    cases h
    exact je_iret C dX1_days_50
  refine je_iconst C (-1) dX1_days_24 25 rfl ic_m1 ?_
  cases h
  exact je_iret C dX1_days_25
theorem gX1_truth_241 {p : Program} {l : Launch} {e : Env} {R : Room} {s : State} {m : MethodId} {args : Array Value} {below : List Frame} {meth : Method} {c : Code} {Q : State → Prop} {G : je_G} {cc : ByteArray} {nL : Nat} {rt : Option FieldType} {sz cells slots pc : Nat} {L : List (Nat × Value)} {st : List Value} {κ : kp_K} {dyn : Nat → Option je_E} (C : Cx p s m args meth c G "MinistryDesks" cc nL rt) (d : decode cc pc = .ok (.getfield 241, 3)) (n : Nat) (hn : pc + 3 = n) (kk : Js p l e R s m args below meth c G nL Q (en2 G κ dyn) sz cells slots n L (.int (κ.1 13 16) :: st)) : Js p l e R s m args below meth c G nL Q (en2 G κ dyn) sz cells slots pc L (.ref (G.2.1 + 13) :: st) := jk_getIN (k := 16) C kd13 rfl in_X5 rfl (by decide) q394 rfl d n hn kk
theorem gX1_truth_244 {p : Program} {l : Launch} {e : Env} {R : Room} {s : State} {m : MethodId} {args : Array Value} {below : List Frame} {meth : Method} {c : Code} {Q : State → Prop} {G : je_G} {cc : ByteArray} {nL : Nat} {rt : Option FieldType} {sz cells slots pc : Nat} {L : List (Nat × Value)} {st : List Value} {κ : kp_K} {dyn : Nat → Option je_E} (C : Cx p s m args meth c G "MinistryDesks" cc nL rt) (d : decode cc pc = .ok (.getfield 244, 3)) (n : Nat) (hn : pc + 3 = n) (kk : Js p l e R s m args below meth c G nL Q (en2 G κ dyn) sz cells slots n L (.ref (G.2.1 + 26) :: st)) : Js p l e R s m args below meth c G nL Q (en2 G κ dyn) sz cells slots pc L (.ref (G.2.1 + 13) :: st) := jk_getRN (k := 15) (z := 0) C kd13 rfl in_X5 26 rfl (by decide) q392 rfl d n hn kk
set_option maxHeartbeats 4000000 in
theorem metX1_went {l : Launch} {G : je_G} {dyn : Nat → Option je_E} {sz : Nat} {κ : kp_K} {v1 : Int32} {v2 : Int32} {r9 : Int32} (h : pX1_went κ v1 v2 = some r9) : MetS l G yX1_went cX1_went 4 (some .int) 1 22 0 0 [.ref (G.2.1 + 0), .int v1, .int v2] (en2 G κ dyn) sz (some (.int r9)) (en2 G κ dyn) sz := by
  refine je_met "MinistryDesks" rfl (by decide +kernel) (Nat.le_of_ble_eq_true rfl) [(0, .ref (G.2.1 + 0)), (1, .int v1), (2, .int v2)] rfl (fun p e s m args below meth c C => ?_)
  unfold pX1_went at h
  refine je_iload_n C dX1_went_0 1 rfl 1 rfl ?_
  refine je_iconst C (-1) dX1_went_1 2 rfl ic_m1 ?_
  refine je_icmp_lt C 14 dX1_went_2 5 rfl rfl h (fun h => ?_) (fun h => ?_)
  · refine je_iconst C (-1) dX1_went_14 15 rfl ic_m1 ?_
    cases h
    exact je_iret C dX1_went_15
  refine je_iload_n C dX1_went_5 6 rfl 2 rfl ?_
  refine je_iconst C (0) dX1_went_6 7 rfl ic_0 ?_
  refine je_iconst C (3) dX1_went_7 8 rfl ic_3 ?_
  obtain ⟨t8, hg, h⟩ := p_cl_inv h
  refine je_callSi (As := [.int v2, .int (0 : Int32), .int (3 : Int32)]) (rest := []) C (metX1_isIn hg) hdX1_isIn cwX1_107 rfl ⟨Nat.le_of_ble_eq_true rfl, Nat.le_of_ble_eq_true rfl⟩ (Nat.le_of_ble_eq_true rfl) dX1_went_8 11 rfl ⟨Nat.le_refl _, Nat.le_refl _⟩ ?_
  refine je_if_ne C 16 dX1_went_11 14 rfl rfl h (fun h => ?_) (fun h => ?_)
  · refine je_iload_n C dX1_went_16 17 rfl 1 rfl ?_
    refine je_if_ge C 36 dX1_went_17 20 rfl rfl h (fun h => ?_) (fun h => ?_)
    · refine je_iload_n C dX1_went_36 37 rfl 1 rfl ?_
      refine je_aload_n C dX1_went_37 38 rfl 0 rfl ?_
      refine gX1_48 C dX1_went_38 41 rfl ?_
      refine gX1_truth_241 C dX1_went_41 44 rfl ?_
      refine je_icmp_lt C 50 dX1_went_44 47 rfl rfl h (fun h => ?_) (fun h => ?_)
      · refine je_aload_n C dX1_went_50 51 rfl 0 rfl ?_
        refine gX1_48 C dX1_went_51 54 rfl ?_
        refine gX1_truth_244 C dX1_went_54 57 rfl ?_
        refine je_iload_n C dX1_went_57 58 rfl 1 rfl ?_
        refine jk_iald C kd26 dX1_went_58 59 rfl h (fun h => ?_)
        refine je_lti h (fun t59 h => ?_)
        refine je_istore_n C dX1_went_59 60 rfl (Nat.le_of_ble_eq_true rfl) [(3, .int t59), (0, .ref (G.2.1 + 0)), (1, .int v1), (2, .int v2)] rfl ?_
        refine je_iload_n C dX1_went_60 61 rfl 3 rfl ?_
        refine je_if_ne C 72 dX1_went_61 64 rfl rfl h (fun h => ?_) (fun h => ?_)
        · refine je_iload_n C dX1_went_72 73 rfl 3 rfl ?_
          refine je_iconst C (1) dX1_went_73 74 rfl ic_1 ?_
          refine je_icmp_ne C 87 dX1_went_74 77 rfl rfl h (fun h => ?_) (fun h => ?_)
          · refine je_iload_n C dX1_went_87 88 rfl 3 rfl ?_
            refine je_iconst C (2) dX1_went_88 89 rfl ic_2 ?_
            refine je_icmp_ne C 101 dX1_went_89 92 rfl rfl h (fun h => ?_) (fun h => ?_)
            · refine je_iload_n C dX1_went_101 102 rfl 0 rfl ?_
              refine je_iconst C (4) dX1_went_102 103 rfl ic_4 ?_
              obtain ⟨hne, h⟩ := p_cd_inv h
              refine je_irem C dX1_went_103 104 rfl hne ?_
              cases h
              exact je_iret C dX1_went_104
            refine je_iload_n C dX1_went_92 93 rfl 0 rfl ?_
            refine je_iconst C (4) dX1_went_93 94 rfl ic_4 ?_
            obtain ⟨hne, h⟩ := p_cd_inv h
            refine je_idiv C dX1_went_94 95 rfl hne ?_
            refine je_bipush C (8) dX1_went_95 97 rfl bp_8 ?_
            obtain ⟨hne, h⟩ := p_cd_inv h
            refine je_irem C dX1_went_97 98 rfl hne ?_
            refine je_goto C 104 dX1_went_98 rfl ?_
            cases h
            exact je_iret C dX1_went_104
          refine je_iload_n C dX1_went_77 78 rfl 0 rfl ?_
          refine je_bipush C (32) dX1_went_78 80 rfl bp_32 ?_
          obtain ⟨hne, h⟩ := p_cd_inv h
          refine je_idiv C dX1_went_80 81 rfl hne ?_
          refine je_bipush C (8) dX1_went_81 83 rfl bp_8 ?_
          obtain ⟨hne, h⟩ := p_cd_inv h
          refine je_irem C dX1_went_83 84 rfl hne ?_
          refine je_goto C 104 dX1_went_84 rfl ?_
          cases h
          exact je_iret C dX1_went_104
        refine je_iload_n C dX1_went_64 65 rfl 0 rfl ?_
        refine je_sipush C (256) dX1_went_65 68 rfl sp_256 ?_
        obtain ⟨hne, h⟩ := p_cd_inv h
        refine je_idiv C dX1_went_68 69 rfl hne ?_
        refine je_goto C 104 dX1_went_69 rfl ?_
        cases h
        exact je_iret C dX1_went_104
      refine je_bipush C (-2) dX1_went_47 49 rfl bp_m2 ?_
      cases h
      exact je_iret C dX1_went_49
    refine je_iload_n C dX1_went_20 21 rfl 2 rfl ?_
    refine je_if_ne C 34 dX1_went_21 24 rfl rfl h (fun h => ?_) (fun h => ?_)
    · refine je_iconst C (-1) dX1_went_34 35 rfl ic_m1 ?_
      cases h
      exact je_iret C dX1_went_35
    refine je_aload_n C dX1_went_24 25 rfl 0 rfl ?_
    refine gX1_48 C dX1_went_25 28 rfl ?_
    refine gX1_truth_241 C dX1_went_28 31 rfl ?_
    refine je_goto C 35 dX1_went_31 rfl ?_
    cases h
    exact je_iret C dX1_went_35
  refine je_iconst C (-1) dX1_went_14 15 rfl ic_m1 ?_
  cases h
  exact je_iret C dX1_went_15
theorem gX1_truth_250 {p : Program} {l : Launch} {e : Env} {R : Room} {s : State} {m : MethodId} {args : Array Value} {below : List Frame} {meth : Method} {c : Code} {Q : State → Prop} {G : je_G} {cc : ByteArray} {nL : Nat} {rt : Option FieldType} {sz cells slots pc : Nat} {L : List (Nat × Value)} {st : List Value} {κ : kp_K} {dyn : Nat → Option je_E} (C : Cx p s m args meth c G "MinistryDesks" cc nL rt) (d : decode cc pc = .ok (.getfield 250, 3)) (n : Nat) (hn : pc + 3 = n) (kk : Js p l e R s m args below meth c G nL Q (en2 G κ dyn) sz cells slots n L (.ref (G.2.1 + 25) :: st)) : Js p l e R s m args below meth c G nL Q (en2 G κ dyn) sz cells slots pc L (.ref (G.2.1 + 13) :: st) := jk_getRN (k := 14) (z := 0) C kd13 rfl in_X5 25 rfl (by decide) q390 rfl d n hn kk
set_option maxHeartbeats 4000000 in
theorem metX1_answer {l : Launch} {G : je_G} {dyn : Nat → Option je_E} {sz : Nat} {hb : Nat} {hu : hd_T} {κ : kp_K} {v1 : Int32} {r9 : Int32} (hH : HouseRep G dyn hb hu) (h : pX1_answer hb hu κ v1 = some r9) : MetS l G yX1_answer cX1_answer 2 (some .int) 4 120 0 0 [.ref (G.2.1 + 0), .int v1] (en2 G κ dyn) sz (some (.int r9)) (en2 G κ dyn) sz := by
  refine je_met "MinistryDesks" rfl (by decide +kernel) (Nat.le_of_ble_eq_true rfl) [(0, .ref (G.2.1 + 0)), (1, .int v1)] rfl (fun p e s m args below meth c C => ?_)
  unfold pX1_answer at h
  refine je_iload_n C dX1_answer_0 1 rfl 1 rfl ?_
  refine je_iconst C (0) dX1_answer_1 2 rfl ic_0 ?_
  refine je_aload_n C dX1_answer_2 3 rfl 0 rfl ?_
  obtain ⟨hx, h⟩ := p_hs_inv h
  refine gX1_22 C hx dX1_answer_3 6 rfl ?_
  refine jh_listN C hH (t := 3) (by decide) q257 rfl dX1_answer_6 9 rfl ?_
  refine jh_size (t := 3) (rest := [.int (0 : Int32), .int v1]) C hH (by decide) cwX1_160 ⟨Nat.le_of_ble_eq_true rfl, Nat.le_of_ble_eq_true rfl⟩ (Nat.le_of_ble_eq_true rfl) dX1_answer_9 12 rfl ⟨Nat.le_refl _, Nat.le_refl _⟩ ?_
  refine je_iconst C (1) dX1_answer_12 13 rfl ic_1 ?_
  refine je_isub C dX1_answer_13 14 rfl ?_
  obtain ⟨t14, hg, h⟩ := p_cl_inv h
  refine je_callSi (As := [.int v1, .int (0 : Int32), .int ((Int32.ofNat (hu.2.1 3)) - (1 : Int32))]) (rest := []) C (metX1_isIn hg) hdX1_isIn cwX1_107 rfl ⟨Nat.le_of_ble_eq_true rfl, Nat.le_of_ble_eq_true rfl⟩ (Nat.le_of_ble_eq_true rfl) dX1_answer_14 17 rfl ⟨Nat.le_refl _, Nat.le_refl _⟩ ?_
  refine je_if_eq C 32 dX1_answer_17 20 rfl rfl h (fun h => ?_) (fun h => ?_)
  · refine je_iconst C (-1) dX1_answer_32 33 rfl ic_m1 ?_
    cases h
    exact je_iret C dX1_answer_33
  refine je_aload_n C dX1_answer_20 21 rfl 0 rfl ?_
  refine gX1_48 C dX1_answer_21 24 rfl ?_
  refine gX1_truth_250 C dX1_answer_24 27 rfl ?_
  refine je_iload_n C dX1_answer_27 28 rfl 1 rfl ?_
  refine jk_iald C kd25 dX1_answer_28 29 rfl h (fun h => ?_)
  refine je_goto C 33 dX1_answer_29 rfl ?_
  cases h
  exact je_iret C dX1_answer_33
theorem gX1_253 {p : Program} {l : Launch} {e : Env} {R : Room} {s : State} {m : MethodId} {args : Array Value} {below : List Frame} {meth : Method} {c : Code} {Q : State → Prop} {G : je_G} {cc : ByteArray} {nL : Nat} {rt : Option FieldType} {sz cells slots pc : Nat} {L : List (Nat × Value)} {st : List Value} {κ : kp_K} {dyn : Nat → Option je_E} (C : Cx p s m args meth c G "MinistryDesks" cc nL rt) (d : decode cc pc = .ok (.getfield 253, 3)) (n : Nat) (hn : pc + 3 = n) (kk : Js p l e R s m args below meth c G nL Q (en2 G κ dyn) sz cells slots n L (.int (κ.1 0 11) :: st)) : Js p l e R s m args below meth c G nL Q (en2 G κ dyn) sz cells slots pc L (.ref (G.2.1 + 0) :: st) := jk_getI (k := 11) C kd0 rfl in_X1 rfl (by decide) q453 rfl d n hn kk
theorem gX1_58 {p : Program} {l : Launch} {e : Env} {R : Room} {s : State} {m : MethodId} {args : Array Value} {below : List Frame} {meth : Method} {c : Code} {Q : State → Prop} {G : je_G} {cc : ByteArray} {nL : Nat} {rt : Option FieldType} {sz cells slots pc : Nat} {L : List (Nat × Value)} {st : List Value} {κ : kp_K} {dyn : Nat → Option je_E} (C : Cx p s m args meth c G "MinistryDesks" cc nL rt) (d : decode cc pc = .ok (.getfield 58, 3)) (n : Nat) (hn : pc + 3 = n) (kk : Js p l e R s m args below meth c G nL Q (en2 G κ dyn) sz cells slots n L (.ref (G.2.1 + 55) :: st)) : Js p l e R s m args below meth c G nL Q (en2 G κ dyn) sz cells slots pc L (.ref (G.2.1 + 0) :: st) := jk_getR (k := 12) (z := 0) C kd0 rfl in_X1 55 rfl (by decide) q454 rfl d n hn kk
theorem gX1_62 {p : Program} {l : Launch} {e : Env} {R : Room} {s : State} {m : MethodId} {args : Array Value} {below : List Frame} {meth : Method} {c : Code} {Q : State → Prop} {G : je_G} {cc : ByteArray} {nL : Nat} {rt : Option FieldType} {sz cells slots pc : Nat} {L : List (Nat × Value)} {st : List Value} {κ : kp_K} {dyn : Nat → Option je_E} (C : Cx p s m args meth c G "MinistryDesks" cc nL rt) (d : decode cc pc = .ok (.getfield 62, 3)) (n : Nat) (hn : pc + 3 = n) (kk : Js p l e R s m args below meth c G nL Q (en2 G κ dyn) sz cells slots n L (.ref (G.2.1 + 56) :: st)) : Js p l e R s m args below meth c G nL Q (en2 G κ dyn) sz cells slots pc L (.ref (G.2.1 + 0) :: st) := jk_getR (k := 13) (z := 0) C kd0 rfl in_X1 56 rfl (by decide) q455 rfl d n hn kk
theorem gX1_65 {p : Program} {l : Launch} {e : Env} {R : Room} {s : State} {m : MethodId} {args : Array Value} {below : List Frame} {meth : Method} {c : Code} {Q : State → Prop} {G : je_G} {cc : ByteArray} {nL : Nat} {rt : Option FieldType} {sz cells slots pc : Nat} {L : List (Nat × Value)} {st : List Value} {κ : kp_K} {dyn : Nat → Option je_E} (C : Cx p s m args meth c G "MinistryDesks" cc nL rt) (d : decode cc pc = .ok (.getfield 65, 3)) (n : Nat) (hn : pc + 3 = n) (kk : Js p l e R s m args below meth c G nL Q (en2 G κ dyn) sz cells slots n L (.ref (G.2.1 + 57) :: st)) : Js p l e R s m args below meth c G nL Q (en2 G κ dyn) sz cells slots pc L (.ref (G.2.1 + 0) :: st) := jk_getR (k := 14) (z := 0) C kd0 rfl in_X1 57 rfl (by decide) q456 rfl d n hn kk
theorem gX1_68 {p : Program} {l : Launch} {e : Env} {R : Room} {s : State} {m : MethodId} {args : Array Value} {below : List Frame} {meth : Method} {c : Code} {Q : State → Prop} {G : je_G} {cc : ByteArray} {nL : Nat} {rt : Option FieldType} {sz cells slots pc : Nat} {L : List (Nat × Value)} {st : List Value} {κ : kp_K} {dyn : Nat → Option je_E} (C : Cx p s m args meth c G "MinistryDesks" cc nL rt) (d : decode cc pc = .ok (.getfield 68, 3)) (n : Nat) (hn : pc + 3 = n) (kk : Js p l e R s m args below meth c G nL Q (en2 G κ dyn) sz cells slots n L (.ref (G.2.1 + 58) :: st)) : Js p l e R s m args below meth c G nL Q (en2 G κ dyn) sz cells slots pc L (.ref (G.2.1 + 0) :: st) := jk_getR (k := 15) (z := 0) C kd0 rfl in_X1 58 rfl (by decide) q457 rfl d n hn kk
theorem sX1_253 {p : Program} {l : Launch} {e : Env} {R : Room} {s : State} {m : MethodId} {args : Array Value} {below : List Frame} {meth : Method} {c : Code} {Q : State → Prop} {G : je_G} {cc : ByteArray} {nL : Nat} {rt : Option FieldType} {sz cells slots pc : Nat} {L : List (Nat × Value)} {st : List Value} {κ : kp_K} {dyn : Nat → Option je_E} (C : Cx p s m args meth c G "MinistryDesks" cc nL rt) {v : Int32} (d : decode cc pc = .ok (.putfield 253, 3)) (n : Nat) (hn : pc + 3 = n) (kk : Js p l e R s m args below meth c G nL Q (en2 G (s_i κ 0 11 v) dyn) sz cells slots n L st) : Js p l e R s m args below meth c G nL Q (en2 G κ dyn) sz cells slots pc L (.int v :: .ref (G.2.1 + 0) :: st) := jk_putI (k := 11) C kd0 rfl in_X1 tyX1 tyX1_ok nmX1 rfl (by decide) q453 rfl rfl rfl d n hn kk
set_option maxHeartbeats 4000000 in
theorem wX1_addPoint_160 {p : Program} {l : Launch} {e : Env} {s : State} {m : MethodId} {args : Array Value} {below : List Frame} {meth : Method} {c : Code} {G : je_G} {dyn : Nat → Option je_E} {sz : Nat} {F : Nat} {hb : Nat} {hu : hd_T} {r9 : kp_K} (C : Cx p s m args meth c G "MinistryDesks" cX1_addPoint 5 none) (hH : HouseRep G dyn hb hu) (κ : kp_K) (h : bX1_addPoint_160 F hb hu κ = some r9) : Js p l e ({ frames := 4, cells := 0, slots := 0, locals := 120 } : Room) s m args below meth c G 5 (MQ below (je_Q G none (en2 G r9 dyn) sz) args s 0 0 (je_A G)) (en2 G κ dyn) sz 0 0 160 [(0, .ref (G.2.1 + 0))] [] := by
  unfold bX1_addPoint_160 at h
  refine je_aload_n C dX1_addPoint_160 161 rfl 0 rfl ?_
  refine je_dup C dX1_addPoint_161 162 rfl rfl ?_
  refine gX1_253 C dX1_addPoint_162 165 rfl ?_
  refine je_iconst C (1) dX1_addPoint_165 166 rfl ic_1 ?_
  refine je_iadd C dX1_addPoint_166 167 rfl ?_
  refine sX1_253 C dX1_addPoint_167 170 rfl ?_
  refine jk_lt h (fun k167 h => ?_)
  cases h
  exact je_vret C dX1_addPoint_170
set_option maxHeartbeats 4000000 in
theorem wX1_addPoint_82 {p : Program} {l : Launch} {e : Env} {s : State} {m : MethodId} {args : Array Value} {below : List Frame} {meth : Method} {c : Code} {G : je_G} {dyn : Nat → Option je_E} {sz : Nat} {F : Nat} {hb : Nat} {hu : hd_T} {r9 : kp_K} {k33 : kp_K → Int32 → Option (kp_K)} (C : Cx p s m args meth c G "MinistryDesks" cX1_addPoint 5 none) (hH : HouseRep G dyn hb hu) (hk33 : ∀ (kq : kp_K) (q4 : Int32), k33 kq q4 = some r9 → Js p l e ({ frames := 4, cells := 0, slots := 0, locals := 120 } : Room) s m args below meth c G 5 (MQ below (je_Q G none (en2 G r9 dyn) sz) args s 0 0 (je_A G)) (en2 G kq dyn) sz 0 0 33 [(0, .ref (G.2.1 + 0)), (4, .int q4)] []) (κ : kp_K) (v4 : Int32) (s0 : Int32) (s1 : Int32) (h : bX1_addPoint_82 F hb hu k33 κ v4 s0 s1 = some r9) : Js p l e ({ frames := 4, cells := 0, slots := 0, locals := 120 } : Room) s m args below meth c G 5 (MQ below (je_Q G none (en2 G r9 dyn) sz) args s 0 0 (je_A G)) (en2 G κ dyn) sz 0 0 82 [(0, .ref (G.2.1 + 0)), (4, .int v4)] [.int s0, .int s1, .ref (G.2.1 + 58)] := by
  unfold bX1_addPoint_82 at h
  refine jk_iast C kd58 dX1_addPoint_82 83 rfl h (fun h => ?_)
  refine jk_lt h (fun k82 h => ?_)
  refine je_iinc C (1) dX1_addPoint_83 86 rfl 1 rfl ic_1 (Nat.le_of_ble_eq_true rfl) [(4, .int (v4 + (1 : Int32))), (0, .ref (G.2.1 + 0))] rfl ?_
  refine je_goto C 33 dX1_addPoint_86 rfl ?_
  refine je_sub [1, 0] [(0, .ref (G.2.1 + 0)), (4, .int (v4 + (1 : Int32)))] rfl ?_
  exact hk33 k82 (v4 + (1 : Int32)) h
set_option maxHeartbeats 4000000 in
theorem wX1_addPoint_33 {p : Program} {l : Launch} {e : Env} {s : State} {m : MethodId} {args : Array Value} {below : List Frame} {meth : Method} {c : Code} {G : je_G} {dyn : Nat → Option je_E} {sz : Nat} {F : Nat} {hb : Nat} {hu : hd_T} {r9 : kp_K} (C : Cx p s m args meth c G "MinistryDesks" cX1_addPoint 5 none) (hH : HouseRep G dyn hb hu) : ∀ (n : Nat) (κ : kp_K) (v4 : Int32), bX1_addPoint_33 F hb hu n κ v4 = some r9 → Js p l e ({ frames := 4, cells := 0, slots := 0, locals := 120 } : Room) s m args below meth c G 5 (MQ below (je_Q G none (en2 G r9 dyn) sz) args s 0 0 (je_A G)) (en2 G κ dyn) sz 0 0 33 [(0, .ref (G.2.1 + 0)), (4, .int v4)] [] := by
  intro n
  induction n with
  | zero =>
    intro κ v4 h
    cases h
  | succ n ih =>
    intro κ v4 h
    rw [bX1_addPoint_33] at h
    refine je_iload C dX1_addPoint_33 35 rfl 1 rfl ?_
    refine je_bipush C (7) dX1_addPoint_35 37 rfl bp_7 ?_
    refine je_icmp_ge C 89 dX1_addPoint_37 40 rfl rfl h (fun h => ?_) (fun h => ?_)
    · refine je_aload_n C dX1_addPoint_89 90 rfl 0 rfl ?_
      refine gX1_253 C dX1_addPoint_90 93 rfl ?_
      refine je_if_le C 160 dX1_addPoint_93 96 rfl rfl h (fun h => ?_) (fun h => ?_)
      · refine je_sub [0] [(0, .ref (G.2.1 + 0))] rfl ?_
        exact wX1_addPoint_160 C hH κ h
      refine je_aload_n C dX1_addPoint_96 97 rfl 0 rfl ?_
      refine gX1_58 C dX1_addPoint_97 100 rfl ?_
      refine je_aload_n C dX1_addPoint_100 101 rfl 0 rfl ?_
      refine gX1_253 C dX1_addPoint_101 104 rfl ?_
      refine je_iconst C (1) dX1_addPoint_104 105 rfl ic_1 ?_
      refine je_isub C dX1_addPoint_105 106 rfl ?_
      refine je_lti h (fun i106 h => ?_)
      refine jk_iald C kd55 dX1_addPoint_106 107 rfl h (fun h => ?_)
      refine je_iconst C (1) dX1_addPoint_107 108 rfl ic_1 ?_
      refine je_icmp_ne C 160 dX1_addPoint_108 111 rfl rfl h (fun h => ?_) (fun h => ?_)
      · refine je_sub [0] [(0, .ref (G.2.1 + 0))] rfl ?_
        exact wX1_addPoint_160 C hH κ h
      refine je_aload_n C dX1_addPoint_111 112 rfl 0 rfl ?_
      obtain ⟨hx, h⟩ := p_hs_inv h
      refine gX1_22 C hx dX1_addPoint_112 115 rfl ?_
      refine jh_listN C hH (t := 2) (by decide) q253 rfl dX1_addPoint_115 118 rfl ?_
      refine je_aload_n C dX1_addPoint_118 119 rfl 0 rfl ?_
      refine gX1_62 C dX1_addPoint_119 122 rfl ?_
      refine je_aload_n C dX1_addPoint_122 123 rfl 0 rfl ?_
      refine gX1_253 C dX1_addPoint_123 126 rfl ?_
      refine je_iconst C (1) dX1_addPoint_126 127 rfl ic_1 ?_
      refine je_isub C dX1_addPoint_127 128 rfl ?_
      refine je_lti h (fun i128 h => ?_)
      refine jk_iald C kd56 dX1_addPoint_128 129 rfl h (fun h => ?_)
      refine je_lti h (fun t129 h => ?_)
      obtain ⟨hin2_t129, h⟩ := p_ck_inv h
      refine jh_get (t := 2) (rest := []) C hH (by decide) hin2_t129 cwX1_171 ⟨Nat.le_of_ble_eq_true rfl, Nat.le_of_ble_eq_true rfl⟩ (Nat.le_of_ble_eq_true rfl) dX1_addPoint_129 132 rfl ⟨Nat.le_refl _, Nat.le_refl _⟩ ?_
      refine jh_cast2 C hH hin2_t129 q1393 dX1_addPoint_132 135 rfl ?_
      refine je_astore C dX1_addPoint_135 137 rfl (Nat.le_of_ble_eq_true rfl) [(4, .ref (G.2.1 + (hu.2.2.2.2.1 2 t129.toNatClampNeg))), (0, .ref (G.2.1 + 0))] rfl ?_
      refine je_aload_n C dX1_addPoint_137 138 rfl 1 rfl ?_
      refine gX1_68 C dX1_addPoint_138 141 rfl ?_
      refine je_bipush C (7) dX1_addPoint_141 143 rfl bp_7 ?_
      refine je_aload_n C dX1_addPoint_143 144 rfl 1 rfl ?_
      refine gX1_253 C dX1_addPoint_144 147 rfl ?_
      refine je_imul C dX1_addPoint_147 148 rfl ?_
      refine je_aload C dX1_addPoint_148 150 rfl 0 rfl ?_
      refine jh_item2N C hH hin2_t129 (k := 2) (by decide) q975 rfl dX1_addPoint_150 153 rfl ?_
      refine je_iadd C dX1_addPoint_153 154 rfl ?_
      refine je_aload C dX1_addPoint_154 156 rfl 0 rfl ?_
      refine jh_item2N C hH hin2_t129 (k := 3) (by decide) q978 rfl dX1_addPoint_156 159 rfl ?_
      refine jk_iast C kd58 dX1_addPoint_159 160 rfl h (fun h => ?_)
      refine jk_lt h (fun k159 h => ?_)
      refine je_sub [1] [(0, .ref (G.2.1 + 0))] rfl ?_
      exact wX1_addPoint_160 C hH k159 h
    refine je_aload_n C dX1_addPoint_40 41 rfl 0 rfl ?_
    refine gX1_68 C dX1_addPoint_41 44 rfl ?_
    refine je_bipush C (7) dX1_addPoint_44 46 rfl bp_7 ?_
    refine je_aload_n C dX1_addPoint_46 47 rfl 0 rfl ?_
    refine gX1_253 C dX1_addPoint_47 50 rfl ?_
    refine je_imul C dX1_addPoint_50 51 rfl ?_
    refine je_iload C dX1_addPoint_51 53 rfl 1 rfl ?_
    refine je_iadd C dX1_addPoint_53 54 rfl ?_
    refine je_aload_n C dX1_addPoint_54 55 rfl 0 rfl ?_
    refine gX1_253 C dX1_addPoint_55 58 rfl ?_
    refine je_if_ne C 65 dX1_addPoint_58 61 rfl rfl h (fun h => ?_) (fun h => ?_)
    · refine je_aload_n C dX1_addPoint_65 66 rfl 0 rfl ?_
      refine gX1_68 C dX1_addPoint_66 69 rfl ?_
      refine je_bipush C (7) dX1_addPoint_69 71 rfl bp_7 ?_
      refine je_aload_n C dX1_addPoint_71 72 rfl 0 rfl ?_
      refine gX1_253 C dX1_addPoint_72 75 rfl ?_
      refine je_iconst C (1) dX1_addPoint_75 76 rfl ic_1 ?_
      refine je_isub C dX1_addPoint_76 77 rfl ?_
      refine je_imul C dX1_addPoint_77 78 rfl ?_
      refine je_iload C dX1_addPoint_78 80 rfl 1 rfl ?_
      refine je_iadd C dX1_addPoint_80 81 rfl ?_
      refine je_lti h (fun i81 h => ?_)
      refine jk_iald C kd58 dX1_addPoint_81 82 rfl h (fun h => ?_)
      exact wX1_addPoint_82 C hH ih κ v4 (κ.1 58 i81.toNatClampNeg) (((7 : Int32) * (κ.1 0 11)) + v4) h
    refine je_iconst C (-1) dX1_addPoint_61 62 rfl ic_m1 ?_
    refine je_goto C 82 dX1_addPoint_62 rfl ?_
    exact wX1_addPoint_82 C hH ih κ v4 (-1 : Int32) (((7 : Int32) * (κ.1 0 11)) + v4) h
set_option maxHeartbeats 4000000 in
theorem metX1_addPoint {l : Launch} {G : je_G} {dyn : Nat → Option je_E} {sz : Nat} {F : Nat} {hb : Nat} {hu : hd_T} {κ : kp_K} {v1 : Int32} {v2 : Int32} {v3 : Int32} {r9 : kp_K} (hH : HouseRep G dyn hb hu) (h : pX1_addPoint F hb hu κ v1 v2 v3 = some r9) : MetS l G yX1_addPoint cX1_addPoint 5 none 4 120 0 0 [.ref (G.2.1 + 0), .int v1, .int v2, .int v3] (en2 G κ dyn) sz none (en2 G r9 dyn) sz := by
  refine je_met "MinistryDesks" rfl (by decide +kernel) (Nat.le_of_ble_eq_true rfl) [(0, .ref (G.2.1 + 0)), (1, .int v1), (2, .int v2), (3, .int v3)] rfl (fun p e s m args below meth c C => ?_)
  unfold pX1_addPoint at h
  refine je_aload_n C dX1_addPoint_0 1 rfl 0 rfl ?_
  refine gX1_58 C dX1_addPoint_1 4 rfl ?_
  refine je_aload_n C dX1_addPoint_4 5 rfl 0 rfl ?_
  refine gX1_253 C dX1_addPoint_5 8 rfl ?_
  refine je_iload_n C dX1_addPoint_8 9 rfl 1 rfl ?_
  refine jk_iast C kd55 dX1_addPoint_9 10 rfl h (fun h => ?_)
  refine jk_lt h (fun k9 h => ?_)
  refine je_aload_n C dX1_addPoint_10 11 rfl 0 rfl ?_
  refine gX1_62 C dX1_addPoint_11 14 rfl ?_
  refine je_aload_n C dX1_addPoint_14 15 rfl 0 rfl ?_
  refine gX1_253 C dX1_addPoint_15 18 rfl ?_
  refine je_iload_n C dX1_addPoint_18 19 rfl 2 rfl ?_
  refine jk_iast C kd56 dX1_addPoint_19 20 rfl h (fun h => ?_)
  refine jk_lt h (fun k19 h => ?_)
  refine je_aload_n C dX1_addPoint_20 21 rfl 0 rfl ?_
  refine gX1_65 C dX1_addPoint_21 24 rfl ?_
  refine je_aload_n C dX1_addPoint_24 25 rfl 0 rfl ?_
  refine gX1_253 C dX1_addPoint_25 28 rfl ?_
  refine je_iload_n C dX1_addPoint_28 29 rfl 3 rfl ?_
  refine jk_iast C kd57 dX1_addPoint_29 30 rfl h (fun h => ?_)
  refine jk_lt h (fun k29 h => ?_)
  refine je_iconst C (0) dX1_addPoint_30 31 rfl ic_0 ?_
  refine je_istore C dX1_addPoint_31 33 rfl (Nat.le_of_ble_eq_true rfl) [(4, .int (0 : Int32)), (0, .ref (G.2.1 + 0)), (1, .int v1), (2, .int v2), (3, .int v3)] rfl ?_
  refine je_sub [1, 0] [(0, .ref (G.2.1 + 0)), (4, .int (0 : Int32))] rfl ?_
  exact wX1_addPoint_33 C hH F k29 (0 : Int32) h
theorem hdX1_addPoint : je_hd yX1_addPoint 3 := ⟨by decide +kernel, by decide +kernel, by decide +kernel⟩
theorem cwX1_265 : GoodIn lw_all (wsV "MinistryDesks" 265 "MinistryDesks" yX1_addPoint (ws_ yX1_addPoint cX1_addPoint 5 none)) := lw_V q1389 q1391 qs54 q161 q1392
set_option maxHeartbeats 4000000 in
theorem wX1_layPoints_93 {p : Program} {l : Launch} {e : Env} {s : State} {m : MethodId} {args : Array Value} {below : List Frame} {meth : Method} {c : Code} {G : je_G} {dyn : Nat → Option je_E} {sz : Nat} {F : Nat} {hb : Nat} {hu : hd_T} {r9 : kp_K} {k7 : kp_K → Int32 → Int32 → Option (kp_K)} (C : Cx p s m args meth c G "MinistryDesks" cX1_layPoints 4 none) (hH : HouseRep G dyn hb hu) (hk7 : ∀ (kq : kp_K) (q1 : Int32) (q2 : Int32), k7 kq q1 q2 = some r9 → Js p l e ({ frames := 5, cells := 0, slots := 0, locals := 144 } : Room) s m args below meth c G 4 (MQ below (je_Q G none (en2 G r9 dyn) sz) args s 0 0 (je_A G)) (en2 G kq dyn) sz 0 0 7 [(0, .ref (G.2.1 + 0)), (1, .int q1), (2, .int q2)] []) : ∀ (n : Nat) (κ : kp_K) (v1 : Int32) (v2 : Int32) (v3 : Int32), bX1_layPoints_93 F hb hu k7 n κ v1 v2 v3 = some r9 → Js p l e ({ frames := 5, cells := 0, slots := 0, locals := 144 } : Room) s m args below meth c G 4 (MQ below (je_Q G none (en2 G r9 dyn) sz) args s 0 0 (je_A G)) (en2 G κ dyn) sz 0 0 93 [(0, .ref (G.2.1 + 0)), (1, .int v1), (2, .int v2), (3, .int v3)] [] := by
  intro n
  induction n with
  | zero =>
    intro κ v1 v2 v3 h
    cases h
  | succ n ih =>
    intro κ v1 v2 v3 h
    rw [bX1_layPoints_93] at h
    refine je_iload_n C dX1_layPoints_93 94 rfl 3 rfl ?_
    refine je_aload_n C dX1_layPoints_94 95 rfl 0 rfl ?_
    obtain ⟨hx, h⟩ := p_hs_inv h
    refine gX1_22 C hx dX1_layPoints_95 98 rfl ?_
    refine jh_listN C hH (t := 3) (by decide) q257 rfl dX1_layPoints_98 101 rfl ?_
    refine jh_size (t := 3) (rest := [.int v3]) C hH (by decide) cwX1_160 ⟨Nat.le_of_ble_eq_true rfl, Nat.le_of_ble_eq_true rfl⟩ (Nat.le_of_ble_eq_true rfl) dX1_layPoints_101 104 rfl ⟨Nat.le_refl _, Nat.le_refl _⟩ ?_
    refine je_icmp_ge C 162 dX1_layPoints_104 107 rfl rfl h (fun h => ?_) (fun h => ?_)
    · refine je_iinc C (1) dX1_layPoints_162 165 rfl 2 rfl ic_1 (Nat.le_of_ble_eq_true rfl) [(2, .int (v2 + (1 : Int32))), (0, .ref (G.2.1 + 0)), (1, .int v1), (3, .int v3)] rfl ?_
      refine je_goto C 7 dX1_layPoints_165 rfl ?_
      refine je_sub [1, 2, 0] [(0, .ref (G.2.1 + 0)), (1, .int v1), (2, .int (v2 + (1 : Int32)))] rfl ?_
      exact hk7 κ v1 (v2 + (1 : Int32)) h
    refine je_aload_n C dX1_layPoints_107 108 rfl 0 rfl ?_
    obtain ⟨hx, h⟩ := p_hs_inv h
    refine gX1_22 C hx dX1_layPoints_108 111 rfl ?_
    refine jh_listN C hH (t := 3) (by decide) q257 rfl dX1_layPoints_111 114 rfl ?_
    refine je_iload_n C dX1_layPoints_114 115 rfl 3 rfl ?_
    obtain ⟨hin3_v3, h⟩ := p_ck_inv h
    refine jh_get (t := 3) (rest := []) C hH (by decide) hin3_v3 cwX1_171 ⟨Nat.le_of_ble_eq_true rfl, Nat.le_of_ble_eq_true rfl⟩ (Nat.le_of_ble_eq_true rfl) dX1_layPoints_115 118 rfl ⟨Nat.le_refl _, Nat.le_refl _⟩ ?_
    refine jh_cast3 C hH hin3_v3 q1394 dX1_layPoints_118 121 rfl ?_
    refine jh_item3N C hH hin3_v3 (k := 0) (by decide) q996 rfl dX1_layPoints_121 124 rfl ?_
    refine je_iload_n C dX1_layPoints_124 125 rfl 2 rfl ?_
    refine je_icmp_ne C 156 dX1_layPoints_125 128 rfl rfl h (fun h => ?_) (fun h => ?_)
    · refine je_iinc C (1) dX1_layPoints_156 159 rfl 3 rfl ic_1 (Nat.le_of_ble_eq_true rfl) [(3, .int (v3 + (1 : Int32))), (0, .ref (G.2.1 + 0)), (1, .int v1), (2, .int v2)] rfl ?_
      refine je_goto C 93 dX1_layPoints_159 rfl ?_
      refine je_sub [1, 2, 3, 0] [(0, .ref (G.2.1 + 0)), (1, .int v1), (2, .int v2), (3, .int (v3 + (1 : Int32)))] rfl ?_
      exact ih κ v1 v2 (v3 + (1 : Int32)) h
    refine je_aload_n C dX1_layPoints_128 129 rfl 0 rfl ?_
    obtain ⟨hx, h⟩ := p_hs_inv h
    refine gX1_22 C hx dX1_layPoints_129 132 rfl ?_
    refine jh_listN C hH (t := 3) (by decide) q257 rfl dX1_layPoints_132 135 rfl ?_
    refine je_iload_n C dX1_layPoints_135 136 rfl 3 rfl ?_
    refine jh_get (t := 3) (rest := []) C hH (by decide) hin3_v3 cwX1_171 ⟨Nat.le_of_ble_eq_true rfl, Nat.le_of_ble_eq_true rfl⟩ (Nat.le_of_ble_eq_true rfl) dX1_layPoints_136 139 rfl ⟨Nat.le_refl _, Nat.le_refl _⟩ ?_
    refine jh_cast3 C hH hin3_v3 q1394 dX1_layPoints_139 142 rfl ?_
    refine jh_item3N C hH hin3_v3 (k := 1) (by decide) q999 rfl dX1_layPoints_142 145 rfl ?_
    refine je_iload_n C dX1_layPoints_145 146 rfl 1 rfl ?_
    refine je_icmp_ne C 156 dX1_layPoints_146 149 rfl rfl h (fun h => ?_) (fun h => ?_)
    · refine je_iinc C (1) dX1_layPoints_156 159 rfl 3 rfl ic_1 (Nat.le_of_ble_eq_true rfl) [(3, .int (v3 + (1 : Int32))), (0, .ref (G.2.1 + 0)), (1, .int v1), (2, .int v2)] rfl ?_
      refine je_goto C 93 dX1_layPoints_159 rfl ?_
      refine je_sub [1, 2, 3, 0] [(0, .ref (G.2.1 + 0)), (1, .int v1), (2, .int v2), (3, .int (v3 + (1 : Int32)))] rfl ?_
      exact ih κ v1 v2 (v3 + (1 : Int32)) h
    refine je_aload_n C dX1_layPoints_149 150 rfl 0 rfl ?_
    refine je_iconst C (2) dX1_layPoints_150 151 rfl ic_2 ?_
    refine je_iload_n C dX1_layPoints_151 152 rfl 3 rfl ?_
    refine je_iload_n C dX1_layPoints_152 153 rfl 2 rfl ?_
    obtain ⟨k153, hg, h⟩ := p_cl_inv h
    refine je_callVv (As := [.int (2 : Int32), .int v3, .int v2]) (rest := []) C (metX1_addPoint hH hg) (en2_at kd0) rfl hdX1_addPoint rfl cwX1_265 rfl ⟨Nat.le_of_ble_eq_true rfl, Nat.le_of_ble_eq_true rfl⟩ (Nat.le_of_ble_eq_true rfl) dX1_layPoints_153 156 rfl ⟨Nat.le_refl _, Nat.le_refl _⟩ ?_
    refine je_iinc C (1) dX1_layPoints_156 159 rfl 3 rfl ic_1 (Nat.le_of_ble_eq_true rfl) [(3, .int (v3 + (1 : Int32))), (0, .ref (G.2.1 + 0)), (1, .int v1), (2, .int v2)] rfl ?_
    refine je_goto C 93 dX1_layPoints_159 rfl ?_
    refine je_sub [1, 2, 3, 0] [(0, .ref (G.2.1 + 0)), (1, .int v1), (2, .int v2), (3, .int (v3 + (1 : Int32)))] rfl ?_
    exact ih k153 v1 v2 (v3 + (1 : Int32)) h
set_option maxHeartbeats 4000000 in
theorem wX1_layPoints_22 {p : Program} {l : Launch} {e : Env} {s : State} {m : MethodId} {args : Array Value} {below : List Frame} {meth : Method} {c : Code} {G : je_G} {dyn : Nat → Option je_E} {sz : Nat} {F : Nat} {hb : Nat} {hu : hd_T} {r9 : kp_K} {k7 : kp_K → Int32 → Int32 → Option (kp_K)} (C : Cx p s m args meth c G "MinistryDesks" cX1_layPoints 4 none) (hH : HouseRep G dyn hb hu) (hk7 : ∀ (kq : kp_K) (q1 : Int32) (q2 : Int32), k7 kq q1 q2 = some r9 → Js p l e ({ frames := 5, cells := 0, slots := 0, locals := 144 } : Room) s m args below meth c G 4 (MQ below (je_Q G none (en2 G r9 dyn) sz) args s 0 0 (je_A G)) (en2 G kq dyn) sz 0 0 7 [(0, .ref (G.2.1 + 0)), (1, .int q1), (2, .int q2)] []) : ∀ (n : Nat) (κ : kp_K) (v1 : Int32) (v2 : Int32) (v3 : Int32), bX1_layPoints_22 F hb hu k7 n κ v1 v2 v3 = some r9 → Js p l e ({ frames := 5, cells := 0, slots := 0, locals := 144 } : Room) s m args below meth c G 4 (MQ below (je_Q G none (en2 G r9 dyn) sz) args s 0 0 (je_A G)) (en2 G κ dyn) sz 0 0 22 [(0, .ref (G.2.1 + 0)), (1, .int v1), (2, .int v2), (3, .int v3)] [] := by
  intro n
  induction n with
  | zero =>
    intro κ v1 v2 v3 h
    cases h
  | succ n ih =>
    intro κ v1 v2 v3 h
    rw [bX1_layPoints_22] at h
    refine je_iload_n C dX1_layPoints_22 23 rfl 3 rfl ?_
    refine je_aload_n C dX1_layPoints_23 24 rfl 0 rfl ?_
    obtain ⟨hx, h⟩ := p_hs_inv h
    refine gX1_22 C hx dX1_layPoints_24 27 rfl ?_
    refine jh_listN C hH (t := 2) (by decide) q253 rfl dX1_layPoints_27 30 rfl ?_
    refine jh_size (t := 2) (rest := [.int v3]) C hH (by decide) cwX1_160 ⟨Nat.le_of_ble_eq_true rfl, Nat.le_of_ble_eq_true rfl⟩ (Nat.le_of_ble_eq_true rfl) dX1_layPoints_30 33 rfl ⟨Nat.le_refl _, Nat.le_refl _⟩ ?_
    refine je_icmp_ge C 91 dX1_layPoints_33 36 rfl rfl h (fun h => ?_) (fun h => ?_)
    · refine je_iconst C (0) dX1_layPoints_91 92 rfl ic_0 ?_
      refine je_istore_n C dX1_layPoints_92 93 rfl (Nat.le_of_ble_eq_true rfl) [(3, .int (0 : Int32)), (0, .ref (G.2.1 + 0)), (1, .int v1), (2, .int v2)] rfl ?_
      refine je_sub [1, 2, 3, 0] [(0, .ref (G.2.1 + 0)), (1, .int v1), (2, .int v2), (3, .int (0 : Int32))] rfl ?_
      exact wX1_layPoints_93 C hH hk7 F κ v1 v2 (0 : Int32) h
    refine je_aload_n C dX1_layPoints_36 37 rfl 0 rfl ?_
    obtain ⟨hx, h⟩ := p_hs_inv h
    refine gX1_22 C hx dX1_layPoints_37 40 rfl ?_
    refine jh_listN C hH (t := 2) (by decide) q253 rfl dX1_layPoints_40 43 rfl ?_
    refine je_iload_n C dX1_layPoints_43 44 rfl 3 rfl ?_
    obtain ⟨hin2_v3, h⟩ := p_ck_inv h
    refine jh_get (t := 2) (rest := []) C hH (by decide) hin2_v3 cwX1_171 ⟨Nat.le_of_ble_eq_true rfl, Nat.le_of_ble_eq_true rfl⟩ (Nat.le_of_ble_eq_true rfl) dX1_layPoints_44 47 rfl ⟨Nat.le_refl _, Nat.le_refl _⟩ ?_
    refine jh_cast2 C hH hin2_v3 q1393 dX1_layPoints_47 50 rfl ?_
    refine jh_item2N C hH hin2_v3 (k := 0) (by decide) q969 rfl dX1_layPoints_50 53 rfl ?_
    refine je_iload_n C dX1_layPoints_53 54 rfl 2 rfl ?_
    refine je_icmp_ne C 85 dX1_layPoints_54 57 rfl rfl h (fun h => ?_) (fun h => ?_)
    · refine je_iinc C (1) dX1_layPoints_85 88 rfl 3 rfl ic_1 (Nat.le_of_ble_eq_true rfl) [(3, .int (v3 + (1 : Int32))), (0, .ref (G.2.1 + 0)), (1, .int v1), (2, .int v2)] rfl ?_
      refine je_goto C 22 dX1_layPoints_88 rfl ?_
      refine je_sub [1, 2, 3, 0] [(0, .ref (G.2.1 + 0)), (1, .int v1), (2, .int v2), (3, .int (v3 + (1 : Int32)))] rfl ?_
      exact ih κ v1 v2 (v3 + (1 : Int32)) h
    refine je_aload_n C dX1_layPoints_57 58 rfl 0 rfl ?_
    obtain ⟨hx, h⟩ := p_hs_inv h
    refine gX1_22 C hx dX1_layPoints_58 61 rfl ?_
    refine jh_listN C hH (t := 2) (by decide) q253 rfl dX1_layPoints_61 64 rfl ?_
    refine je_iload_n C dX1_layPoints_64 65 rfl 3 rfl ?_
    refine jh_get (t := 2) (rest := []) C hH (by decide) hin2_v3 cwX1_171 ⟨Nat.le_of_ble_eq_true rfl, Nat.le_of_ble_eq_true rfl⟩ (Nat.le_of_ble_eq_true rfl) dX1_layPoints_65 68 rfl ⟨Nat.le_refl _, Nat.le_refl _⟩ ?_
    refine jh_cast2 C hH hin2_v3 q1393 dX1_layPoints_68 71 rfl ?_
    refine jh_item2N C hH hin2_v3 (k := 1) (by decide) q972 rfl dX1_layPoints_71 74 rfl ?_
    refine je_iload_n C dX1_layPoints_74 75 rfl 1 rfl ?_
    refine je_icmp_ne C 85 dX1_layPoints_75 78 rfl rfl h (fun h => ?_) (fun h => ?_)
    · refine je_iinc C (1) dX1_layPoints_85 88 rfl 3 rfl ic_1 (Nat.le_of_ble_eq_true rfl) [(3, .int (v3 + (1 : Int32))), (0, .ref (G.2.1 + 0)), (1, .int v1), (2, .int v2)] rfl ?_
      refine je_goto C 22 dX1_layPoints_88 rfl ?_
      refine je_sub [1, 2, 3, 0] [(0, .ref (G.2.1 + 0)), (1, .int v1), (2, .int v2), (3, .int (v3 + (1 : Int32)))] rfl ?_
      exact ih κ v1 v2 (v3 + (1 : Int32)) h
    refine je_aload_n C dX1_layPoints_78 79 rfl 0 rfl ?_
    refine je_iconst C (1) dX1_layPoints_79 80 rfl ic_1 ?_
    refine je_iload_n C dX1_layPoints_80 81 rfl 3 rfl ?_
    refine je_iload_n C dX1_layPoints_81 82 rfl 2 rfl ?_
    obtain ⟨k82, hg, h⟩ := p_cl_inv h
    refine je_callVv (As := [.int (1 : Int32), .int v3, .int v2]) (rest := []) C (metX1_addPoint hH hg) (en2_at kd0) rfl hdX1_addPoint rfl cwX1_265 rfl ⟨Nat.le_of_ble_eq_true rfl, Nat.le_of_ble_eq_true rfl⟩ (Nat.le_of_ble_eq_true rfl) dX1_layPoints_82 85 rfl ⟨Nat.le_refl _, Nat.le_refl _⟩ ?_
    refine je_iinc C (1) dX1_layPoints_85 88 rfl 3 rfl ic_1 (Nat.le_of_ble_eq_true rfl) [(3, .int (v3 + (1 : Int32))), (0, .ref (G.2.1 + 0)), (1, .int v1), (2, .int v2)] rfl ?_
    refine je_goto C 22 dX1_layPoints_88 rfl ?_
    refine je_sub [1, 2, 3, 0] [(0, .ref (G.2.1 + 0)), (1, .int v1), (2, .int v2), (3, .int (v3 + (1 : Int32)))] rfl ?_
    exact ih k82 v1 v2 (v3 + (1 : Int32)) h
set_option maxHeartbeats 4000000 in
theorem wX1_layPoints_7 {p : Program} {l : Launch} {e : Env} {s : State} {m : MethodId} {args : Array Value} {below : List Frame} {meth : Method} {c : Code} {G : je_G} {dyn : Nat → Option je_E} {sz : Nat} {F : Nat} {hb : Nat} {hu : hd_T} {r9 : kp_K} (C : Cx p s m args meth c G "MinistryDesks" cX1_layPoints 4 none) (hH : HouseRep G dyn hb hu) : ∀ (n : Nat) (κ : kp_K) (v1 : Int32) (v2 : Int32), bX1_layPoints_7 F hb hu n κ v1 v2 = some r9 → Js p l e ({ frames := 5, cells := 0, slots := 0, locals := 144 } : Room) s m args below meth c G 4 (MQ below (je_Q G none (en2 G r9 dyn) sz) args s 0 0 (je_A G)) (en2 G κ dyn) sz 0 0 7 [(0, .ref (G.2.1 + 0)), (1, .int v1), (2, .int v2)] [] := by
  intro n
  induction n with
  | zero =>
    intro κ v1 v2 h
    cases h
  | succ n ih =>
    intro κ v1 v2 h
    rw [bX1_layPoints_7] at h
    refine je_iload_n C dX1_layPoints_7 8 rfl 2 rfl ?_
    refine je_bipush C (61) dX1_layPoints_8 10 rfl bp_61 ?_
    refine je_icmp_ge C 168 dX1_layPoints_10 13 rfl rfl h (fun h => ?_) (fun h => ?_)
    · cases h
      exact je_vret C dX1_layPoints_168
    refine je_aload_n C dX1_layPoints_13 14 rfl 0 rfl ?_
    refine je_iconst C (0) dX1_layPoints_14 15 rfl ic_0 ?_
    refine je_iconst C (0) dX1_layPoints_15 16 rfl ic_0 ?_
    refine je_iload_n C dX1_layPoints_16 17 rfl 2 rfl ?_
    obtain ⟨k17, hg, h⟩ := p_cl_inv h
    refine je_callVv (As := [.int (0 : Int32), .int (0 : Int32), .int v2]) (rest := []) C (metX1_addPoint hH hg) (en2_at kd0) rfl hdX1_addPoint rfl cwX1_265 rfl ⟨Nat.le_of_ble_eq_true rfl, Nat.le_of_ble_eq_true rfl⟩ (Nat.le_of_ble_eq_true rfl) dX1_layPoints_17 20 rfl ⟨Nat.le_refl _, Nat.le_refl _⟩ ?_
    refine je_iconst C (0) dX1_layPoints_20 21 rfl ic_0 ?_
    refine je_istore_n C dX1_layPoints_21 22 rfl (Nat.le_of_ble_eq_true rfl) [(3, .int (0 : Int32)), (0, .ref (G.2.1 + 0)), (1, .int v1), (2, .int v2)] rfl ?_
    refine je_sub [1, 2, 3, 0] [(0, .ref (G.2.1 + 0)), (1, .int v1), (2, .int v2), (3, .int (0 : Int32))] rfl ?_
    exact wX1_layPoints_22 C hH ih F k17 v1 v2 (0 : Int32) h
set_option maxHeartbeats 4000000 in
theorem metX1_layPoints {l : Launch} {G : je_G} {dyn : Nat → Option je_E} {sz : Nat} {F : Nat} {hb : Nat} {hu : hd_T} {κ : kp_K} {v1 : Int32} {r9 : kp_K} (hH : HouseRep G dyn hb hu) (h : pX1_layPoints F hb hu κ v1 = some r9) : MetS l G yX1_layPoints cX1_layPoints 4 none 5 144 0 0 [.ref (G.2.1 + 0), .int v1] (en2 G κ dyn) sz none (en2 G r9 dyn) sz := by
  refine je_met "MinistryDesks" rfl (by decide +kernel) (Nat.le_of_ble_eq_true rfl) [(0, .ref (G.2.1 + 0)), (1, .int v1)] rfl (fun p e s m args below meth c C => ?_)
  unfold pX1_layPoints at h
  refine je_aload_n C dX1_layPoints_0 1 rfl 0 rfl ?_
  refine je_iconst C (0) dX1_layPoints_1 2 rfl ic_0 ?_
  refine sX1_253 C dX1_layPoints_2 5 rfl ?_
  refine jk_lt h (fun k2 h => ?_)
  refine je_iconst C (0) dX1_layPoints_5 6 rfl ic_0 ?_
  refine je_istore_n C dX1_layPoints_6 7 rfl (Nat.le_of_ble_eq_true rfl) [(2, .int (0 : Int32)), (0, .ref (G.2.1 + 0)), (1, .int v1)] rfl ?_
  refine je_sub [1, 2, 0] [(0, .ref (G.2.1 + 0)), (1, .int v1), (2, .int (0 : Int32))] rfl ?_
  exact wX1_layPoints_7 C hH F k2 v1 (0 : Int32) h
theorem cwX1_314 : GoodIn lw_all (wsV "MinistryDesks" 314 "MinistryDesks" yX1_worth (ws_ yX1_worth cX1_worth 2 (some .int))) := lw_V q1399 q1314 qs42 q161 q1315
theorem gX1_74 {p : Program} {l : Launch} {e : Env} {R : Room} {s : State} {m : MethodId} {args : Array Value} {below : List Frame} {meth : Method} {c : Code} {Q : State → Prop} {G : je_G} {cc : ByteArray} {nL : Nat} {rt : Option FieldType} {sz cells slots pc : Nat} {L : List (Nat × Value)} {st : List Value} {κ : kp_K} {dyn : Nat → Option je_E} (C : Cx p s m args meth c G "MinistryDesks" cc nL rt) (d : decode cc pc = .ok (.getfield 74, 3)) (n : Nat) (hn : pc + 3 = n) (kk : Js p l e R s m args below meth c G nL Q (en2 G κ dyn) sz cells slots n L (.ref (G.2.1 + 60) :: st)) : Js p l e R s m args below meth c G nL Q (en2 G κ dyn) sz cells slots pc L (.ref (G.2.1 + 0) :: st) := jk_getR (k := 17) (z := 0) C kd0 rfl in_X1 60 rfl (by decide) q459 rfl d n hn kk
set_option maxHeartbeats 4000000 in
theorem wX1_layCounts_56 {p : Program} {l : Launch} {e : Env} {s : State} {m : MethodId} {args : Array Value} {below : List Frame} {meth : Method} {c : Code} {G : je_G} {dyn : Nat → Option je_E} {sz : Nat} {F : Nat} {hb : Nat} {hu : hd_T} {r9 : kp_K} {k2 : kp_K → Int32 → Int32 → Option (kp_K)} (C : Cx p s m args meth c G "MinistryDesks" cX1_layCounts 4 none) (hH : HouseRep G dyn hb hu) (hk2 : ∀ (kq : kp_K) (q1 : Int32) (q2 : Int32), k2 kq q1 q2 = some r9 → Js p l e ({ frames := 5, cells := 0, slots := 0, locals := 141 } : Room) s m args below meth c G 4 (MQ below (je_Q G none (en2 G r9 dyn) sz) args s 0 0 (je_A G)) (en2 G kq dyn) sz 0 0 2 [(0, .ref (G.2.1 + 0)), (1, .int q1), (2, .int q2)] []) (κ : kp_K) (v1 : Int32) (v2 : Int32) (s0 : Int32) (s1 : Int32) (s2 : Int32) (h : bX1_layCounts_56 F hb hu k2 κ v1 v2 s0 s1 s2 = some r9) : Js p l e ({ frames := 5, cells := 0, slots := 0, locals := 141 } : Room) s m args below meth c G 4 (MQ below (je_Q G none (en2 G r9 dyn) sz) args s 0 0 (je_A G)) (en2 G κ dyn) sz 0 0 56 [(0, .ref (G.2.1 + 0)), (1, .int v1), (2, .int v2)] [.int s0, .int s1, .int s2, .ref (G.2.1 + 60)] := by
  unfold bX1_layCounts_56 at h
  refine je_imul C dX1_layCounts_56 57 rfl ?_
  refine jk_iast C kd60 dX1_layCounts_57 58 rfl h (fun h => ?_)
  refine jk_lt h (fun k57 h => ?_)
  refine je_iinc C (1) dX1_layCounts_58 61 rfl 2 rfl ic_1 (Nat.le_of_ble_eq_true rfl) [(2, .int (v2 + (1 : Int32))), (0, .ref (G.2.1 + 0)), (1, .int v1)] rfl ?_
  refine je_goto C 2 dX1_layCounts_61 rfl ?_
  refine je_sub [1, 2, 0] [(0, .ref (G.2.1 + 0)), (1, .int v1), (2, .int (v2 + (1 : Int32)))] rfl ?_
  exact hk2 k57 v1 (v2 + (1 : Int32)) h
set_option maxHeartbeats 4000000 in
theorem wX1_layCounts_2 {p : Program} {l : Launch} {e : Env} {s : State} {m : MethodId} {args : Array Value} {below : List Frame} {meth : Method} {c : Code} {G : je_G} {dyn : Nat → Option je_E} {sz : Nat} {F : Nat} {hb : Nat} {hu : hd_T} {r9 : kp_K} (C : Cx p s m args meth c G "MinistryDesks" cX1_layCounts 4 none) (hH : HouseRep G dyn hb hu) : ∀ (n : Nat) (κ : kp_K) (v1 : Int32) (v2 : Int32), bX1_layCounts_2 F hb hu n κ v1 v2 = some r9 → Js p l e ({ frames := 5, cells := 0, slots := 0, locals := 141 } : Room) s m args below meth c G 4 (MQ below (je_Q G none (en2 G r9 dyn) sz) args s 0 0 (je_A G)) (en2 G κ dyn) sz 0 0 2 [(0, .ref (G.2.1 + 0)), (1, .int v1), (2, .int v2)] [] := by
  intro n
  induction n with
  | zero =>
    intro κ v1 v2 h
    cases h
  | succ n ih =>
    intro κ v1 v2 h
    rw [bX1_layCounts_2] at h
    refine je_iload_n C dX1_layCounts_2 3 rfl 2 rfl ?_
    refine je_aload_n C dX1_layCounts_3 4 rfl 0 rfl ?_
    obtain ⟨hx, h⟩ := p_hs_inv h
    refine gX1_22 C hx dX1_layCounts_4 7 rfl ?_
    refine jh_listN C hH (t := 3) (by decide) q257 rfl dX1_layCounts_7 10 rfl ?_
    refine jh_size (t := 3) (rest := [.int v2]) C hH (by decide) cwX1_160 ⟨Nat.le_of_ble_eq_true rfl, Nat.le_of_ble_eq_true rfl⟩ (Nat.le_of_ble_eq_true rfl) dX1_layCounts_10 13 rfl ⟨Nat.le_refl _, Nat.le_refl _⟩ ?_
    refine je_icmp_ge C 64 dX1_layCounts_13 16 rfl rfl h (fun h => ?_) (fun h => ?_)
    · cases h
      exact je_vret C dX1_layCounts_64
    refine je_aload_n C dX1_layCounts_16 17 rfl 0 rfl ?_
    obtain ⟨hx, h⟩ := p_hs_inv h
    refine gX1_22 C hx dX1_layCounts_17 20 rfl ?_
    refine jh_listN C hH (t := 3) (by decide) q257 rfl dX1_layCounts_20 23 rfl ?_
    refine je_iload_n C dX1_layCounts_23 24 rfl 2 rfl ?_
    obtain ⟨hin3_v2, h⟩ := p_ck_inv h
    refine jh_get (t := 3) (rest := []) C hH (by decide) hin3_v2 cwX1_171 ⟨Nat.le_of_ble_eq_true rfl, Nat.le_of_ble_eq_true rfl⟩ (Nat.le_of_ble_eq_true rfl) dX1_layCounts_24 27 rfl ⟨Nat.le_refl _, Nat.le_refl _⟩ ?_
    refine jh_cast3 C hH hin3_v2 q1394 dX1_layCounts_27 30 rfl ?_
    refine je_astore_n C dX1_layCounts_30 31 rfl (Nat.le_of_ble_eq_true rfl) [(3, .ref (G.2.1 + (hu.2.2.2.2.1 3 v2.toNatClampNeg))), (0, .ref (G.2.1 + 0)), (1, .int v1), (2, .int v2)] rfl ?_
    refine je_aload_n C dX1_layCounts_31 32 rfl 1 rfl ?_
    refine gX1_74 C dX1_layCounts_32 35 rfl ?_
    refine je_iload_n C dX1_layCounts_35 36 rfl 3 rfl ?_
    refine je_aload_n C dX1_layCounts_36 37 rfl 1 rfl ?_
    refine je_aload_n C dX1_layCounts_37 38 rfl 0 rfl ?_
    refine jh_item3N C hH hin3_v2 (k := 2) (by decide) q1002 rfl dX1_layCounts_38 41 rfl ?_
    obtain ⟨t41, hg, h⟩ := p_cl_inv h
    refine je_callVi (As := [.int (hu.1 32 v2.toNatClampNeg)]) (rest := [.int v2, .ref (G.2.1 + 60)]) C (metX1_worth hH hg) (en2_at kd0) rfl hdX1_worth rfl cwX1_314 rfl ⟨Nat.le_of_ble_eq_true rfl, Nat.le_of_ble_eq_true rfl⟩ (Nat.le_of_ble_eq_true rfl) dX1_layCounts_41 44 rfl ⟨Nat.le_refl _, Nat.le_refl _⟩ ?_
    refine je_iload_n C dX1_layCounts_44 45 rfl 2 rfl ?_
    refine je_if_eq C 55 dX1_layCounts_45 48 rfl rfl h (fun h => ?_) (fun h => ?_)
    · refine je_iconst C (1) dX1_layCounts_55 56 rfl ic_1 ?_
      refine je_sub [1, 2, 3] [(0, .ref (G.2.1 + 0)), (1, .int v1), (2, .int v2)] rfl ?_
      exact wX1_layCounts_56 C hH ih κ v1 v2 (1 : Int32) t41 v2 h
    refine je_aload_n C dX1_layCounts_48 49 rfl 0 rfl ?_
    refine jh_item3N C hH hin3_v2 (k := 3) (by decide) q1004 rfl dX1_layCounts_49 52 rfl ?_
    refine je_goto C 56 dX1_layCounts_52 rfl ?_
    refine je_sub [1, 2, 3] [(0, .ref (G.2.1 + 0)), (1, .int v1), (2, .int v2)] rfl ?_
    exact wX1_layCounts_56 C hH ih κ v1 v2 (hu.1 33 v2.toNatClampNeg) t41 v2 h
set_option maxHeartbeats 4000000 in
theorem metX1_layCounts {l : Launch} {G : je_G} {dyn : Nat → Option je_E} {sz : Nat} {F : Nat} {hb : Nat} {hu : hd_T} {κ : kp_K} {v1 : Int32} {r9 : kp_K} (hH : HouseRep G dyn hb hu) (h : pX1_layCounts F hb hu κ v1 = some r9) : MetS l G yX1_layCounts cX1_layCounts 4 none 5 141 0 0 [.ref (G.2.1 + 0), .int v1] (en2 G κ dyn) sz none (en2 G r9 dyn) sz := by
  refine je_met "MinistryDesks" rfl (by decide +kernel) (Nat.le_of_ble_eq_true rfl) [(0, .ref (G.2.1 + 0)), (1, .int v1)] rfl (fun p e s m args below meth c C => ?_)
  unfold pX1_layCounts at h
  refine je_iconst C (0) dX1_layCounts_0 1 rfl ic_0 ?_
  refine je_istore_n C dX1_layCounts_1 2 rfl (Nat.le_of_ble_eq_true rfl) [(2, .int (0 : Int32)), (0, .ref (G.2.1 + 0)), (1, .int v1)] rfl ?_
  refine je_sub [1, 2, 0] [(0, .ref (G.2.1 + 0)), (1, .int v1), (2, .int (0 : Int32))] rfl ?_
  exact wX1_layCounts_2 C hH F κ v1 (0 : Int32) h
set_option maxHeartbeats 4000000 in
theorem metX1_at {l : Launch} {G : je_G} {σ : Nat → Option je_E} {sz : Nat} {v0 : Int32} {v1 : Int32} {v2 : Int32} {r9 : Int32} (h : pX1_at v0 v1 v2 = some r9) : MetS l G yX1_at cX1_at 3 (some .int) 0 0 0 0 [.int v0, .int v1, .int v2] σ sz (some (.int r9)) σ sz := by
  refine je_met "MinistryDesks" rfl (by decide +kernel) (Nat.le_of_ble_eq_true rfl) [(0, .int v0), (1, .int v1), (2, .int v2)] rfl (fun p e s m args below meth c C => ?_)
  unfold pX1_at at h
  refine je_iload_n C dX1_at_0 1 rfl 0 rfl ?_
  refine je_sipush C (128) dX1_at_1 4 rfl sp_128 ?_
  refine je_imul C dX1_at_4 5 rfl ?_
  refine je_iload_n C dX1_at_5 6 rfl 1 rfl ?_
  refine je_iadd C dX1_at_6 7 rfl ?_
  refine je_iconst C (2) dX1_at_7 8 rfl ic_2 ?_
  refine je_imul C dX1_at_8 9 rfl ?_
  refine je_iload_n C dX1_at_9 10 rfl 2 rfl ?_
  refine je_if_eq C 17 dX1_at_10 13 rfl rfl h (fun h => ?_) (fun h => ?_)
  · refine je_iconst C (0) dX1_at_17 18 rfl ic_0 ?_
    refine je_iadd C dX1_at_18 19 rfl ?_
    cases h
    exact je_iret C dX1_at_19
  refine je_iconst C (1) dX1_at_13 14 rfl ic_1 ?_
  refine je_goto C 18 dX1_at_14 rfl ?_
  refine je_iadd C dX1_at_18 19 rfl ?_
  cases h
  exact je_iret C dX1_at_19
set_option maxHeartbeats 4000000 in
theorem metX1_comingFact {l : Launch} {G : je_G} {dyn : Nat → Option je_E} {sz : Nat} {hb : Nat} {hu : hd_T} {κ : kp_K} {v1 : Int32} {r9 : Int32} (hH : HouseRep G dyn hb hu) (h : pX1_comingFact hb hu κ v1 = some r9) : MetS l G yX1_comingFact cX1_comingFact 2 (some .int) 4 120 0 0 [.ref (G.2.1 + 0), .int v1] (en2 G κ dyn) sz (some (.int r9)) (en2 G κ dyn) sz := by
  refine je_met "MinistryDesks" rfl (by decide +kernel) (Nat.le_of_ble_eq_true rfl) [(0, .ref (G.2.1 + 0)), (1, .int v1)] rfl (fun p e s m args below meth c C => ?_)
  unfold pX1_comingFact at h
  refine je_aload_n C dX1_comingFact_0 1 rfl 0 rfl ?_
  obtain ⟨hx, h⟩ := p_hs_inv h
  refine gX1_22 C hx dX1_comingFact_1 4 rfl ?_
  refine jh_listN C hH (t := 2) (by decide) q253 rfl dX1_comingFact_4 7 rfl ?_
  refine je_aload_n C dX1_comingFact_7 8 rfl 0 rfl ?_
  refine gX1_62 C dX1_comingFact_8 11 rfl ?_
  refine je_iload_n C dX1_comingFact_11 12 rfl 1 rfl ?_
  refine jk_iald C kd56 dX1_comingFact_12 13 rfl h (fun h => ?_)
  refine je_lti h (fun t13 h => ?_)
  obtain ⟨hin2_t13, h⟩ := p_ck_inv h
  refine jh_get (t := 2) (rest := []) C hH (by decide) hin2_t13 cwX1_171 ⟨Nat.le_of_ble_eq_true rfl, Nat.le_of_ble_eq_true rfl⟩ (Nat.le_of_ble_eq_true rfl) dX1_comingFact_13 16 rfl ⟨Nat.le_refl _, Nat.le_refl _⟩ ?_
  refine jh_cast2 C hH hin2_t13 q1393 dX1_comingFact_16 19 rfl ?_
  refine jh_item2N C hH hin2_t13 (k := 2) (by decide) q975 rfl dX1_comingFact_19 22 rfl ?_
  cases h
  exact je_iret C dX1_comingFact_22
theorem hdJ19_bitCount : je_hd yJ19_bitCount 1 := ⟨by decide +kernel, by decide +kernel, by decide +kernel⟩
theorem hdX1_comingFact : je_hd yX1_comingFact 1 := ⟨by decide +kernel, by decide +kernel, by decide +kernel⟩
theorem cwX1_276 : GoodIn lw_all (wsV "MinistryDesks" 276 "MinistryDesks" yX1_comingFact (ws_ yX1_comingFact cX1_comingFact 2 (some .int))) := lw_V q1411 q1413 qs58 q161 q1414
theorem cwX1_279 : GoodIn lw_all (va_wsS "MinistryDesks" 279 yX1_isOf (ws_ yX1_isOf cX1_isOf 2 (some .boolean))) := lw_S q1415 q1327 q161 q1328
theorem cwX1_283 : GoodIn lw_all (va_wsS "MinistryDesks" 283 yJ19_bitCount (ws_ yJ19_bitCount cJ19_bitCount 1 (some .int))) := lw_S q1416 q1417 q202 q1418
set_option maxHeartbeats 4000000 in
theorem metX1_isTime {l : Launch} {G : je_G} {dyn : Nat → Option je_E} {sz : Nat} {hb : Nat} {hu : hd_T} {κ : kp_K} {v1 : Int32} {v2 : Int32} {v3 : Int32} {v4 : Int32} {r9 : Int32} (hH : HouseRep G dyn hb hu) (h : pX1_isTime hb hu κ v1 v2 v3 v4 = some r9) : MetS l G yX1_isTime cX1_isTime 5 (some .boolean) 5 141 0 0 [.ref (G.2.1 + 0), .int v1, .int v2, .int v3, .int v4] (en2 G κ dyn) sz (some (.int r9)) (en2 G κ dyn) sz := by
  refine je_met "MinistryDesks" rfl (by decide +kernel) (Nat.le_of_ble_eq_true rfl) [(0, .ref (G.2.1 + 0)), (1, .int v1), (2, .int v2), (3, .int v3), (4, .int v4)] rfl (fun p e s m args below meth c C => ?_)
  unfold pX1_isTime at h
  refine je_aload_n C dX1_isTime_0 1 rfl 0 rfl ?_
  refine gX1_58 C dX1_isTime_1 4 rfl ?_
  refine je_iload_n C dX1_isTime_4 5 rfl 2 rfl ?_
  refine jk_iald C kd55 dX1_isTime_5 6 rfl h (fun h => ?_)
  refine je_iconst C (1) dX1_isTime_6 7 rfl ic_1 ?_
  refine je_icmp_ne C 55 dX1_isTime_7 10 rfl rfl h (fun h => ?_) (fun h => ?_)
  · refine je_iconst C (0) dX1_isTime_55 56 rfl ic_0 ?_
    cases h
    exact je_zret C dX1_isTime_56 (Or.inl rfl)
  refine je_iload C dX1_isTime_10 12 rfl 4 rfl ?_
  refine je_if_ne C 55 dX1_isTime_12 15 rfl rfl h (fun h => ?_) (fun h => ?_)
  · refine je_iconst C (0) dX1_isTime_55 56 rfl ic_0 ?_
    cases h
    exact je_zret C dX1_isTime_56 (Or.inl rfl)
  refine je_iload_n C dX1_isTime_15 16 rfl 3 rfl ?_
  refine je_aload_n C dX1_isTime_16 17 rfl 0 rfl ?_
  refine je_iload_n C dX1_isTime_17 18 rfl 2 rfl ?_
  obtain ⟨t18, hg, h⟩ := p_cl_inv h
  refine je_callVi (As := [.int v2]) (rest := [.int v3]) C (metX1_comingFact hH hg) (en2_at kd0) rfl hdX1_comingFact rfl cwX1_276 rfl ⟨Nat.le_of_ble_eq_true rfl, Nat.le_of_ble_eq_true rfl⟩ (Nat.le_of_ble_eq_true rfl) dX1_isTime_18 21 rfl ⟨Nat.le_refl _, Nat.le_refl _⟩ ?_
  obtain ⟨t21, hg, h⟩ := p_cl_inv h
  refine je_callSi (As := [.int v3, .int t18]) (rest := []) C (metX1_isOf hg) hdX1_isOf cwX1_279 rfl ⟨Nat.le_of_ble_eq_true rfl, Nat.le_of_ble_eq_true rfl⟩ (Nat.le_of_ble_eq_true rfl) dX1_isTime_21 24 rfl ⟨Nat.le_refl _, Nat.le_refl _⟩ ?_
  refine je_if_ne C 55 dX1_isTime_24 27 rfl rfl h (fun h => ?_) (fun h => ?_)
  · refine je_iconst C (0) dX1_isTime_55 56 rfl ic_0 ?_
    cases h
    exact je_zret C dX1_isTime_56 (Or.inl rfl)
  refine je_iload_n C dX1_isTime_27 28 rfl 3 rfl ?_
  obtain ⟨t28, hg, h⟩ := p_cl_inv h
  refine je_callSi (As := [.int v3]) (rest := []) C (metJ19_bitCount hg) hdJ19_bitCount cwX1_283 rfl ⟨Nat.le_of_ble_eq_true rfl, Nat.le_of_ble_eq_true rfl⟩ (Nat.le_of_ble_eq_true rfl) dX1_isTime_28 31 rfl ⟨Nat.le_refl _, Nat.le_refl _⟩ ?_
  refine je_aload_n C dX1_isTime_31 32 rfl 0 rfl ?_
  obtain ⟨hx, h⟩ := p_hs_inv h
  refine gX1_22 C hx dX1_isTime_32 35 rfl ?_
  refine jh_listN C hH (t := 0) (by decide) q246 rfl dX1_isTime_35 38 rfl ?_
  refine je_iload_n C dX1_isTime_38 39 rfl 1 rfl ?_
  obtain ⟨hin0_v1, h⟩ := p_ck_inv h
  refine jh_get (t := 0) (rest := [.int t28]) C hH (by decide) hin0_v1 cwX1_171 ⟨Nat.le_of_ble_eq_true rfl, Nat.le_of_ble_eq_true rfl⟩ (Nat.le_of_ble_eq_true rfl) dX1_isTime_39 42 rfl ⟨Nat.le_refl _, Nat.le_refl _⟩ ?_
  refine jh_cast0 C hH hin0_v1 q1422 dX1_isTime_42 45 rfl ?_
  refine jh_item0N C hH hin0_v1 (k := 1) (by decide) q854 rfl dX1_isTime_45 48 rfl ?_
  refine je_icmp_lt C 55 dX1_isTime_48 51 rfl rfl h (fun h => ?_) (fun h => ?_)
  · refine je_iconst C (0) dX1_isTime_55 56 rfl ic_0 ?_
    cases h
    exact je_zret C dX1_isTime_56 (Or.inl rfl)
  refine je_iconst C (1) dX1_isTime_51 52 rfl ic_1 ?_
  refine je_goto C 56 dX1_isTime_52 rfl ?_
  cases h
  exact je_zret C dX1_isTime_56 (Or.inr rfl)
theorem hdX1_at : je_hd yX1_at 3 := ⟨by decide +kernel, by decide +kernel, by decide +kernel⟩
theorem cwX1_288 : GoodIn lw_all (va_wsS "MinistryDesks" 288 yX1_at (ws_ yX1_at cX1_at 3 (some .int))) := lw_S q1404 q1405 q161 q1406
theorem gX1_71 {p : Program} {l : Launch} {e : Env} {R : Room} {s : State} {m : MethodId} {args : Array Value} {below : List Frame} {meth : Method} {c : Code} {Q : State → Prop} {G : je_G} {cc : ByteArray} {nL : Nat} {rt : Option FieldType} {sz cells slots pc : Nat} {L : List (Nat × Value)} {st : List Value} {κ : kp_K} {dyn : Nat → Option je_E} (C : Cx p s m args meth c G "MinistryDesks" cc nL rt) (d : decode cc pc = .ok (.getfield 71, 3)) (n : Nat) (hn : pc + 3 = n) (kk : Js p l e R s m args below meth c G nL Q (en2 G κ dyn) sz cells slots n L (.ref (G.2.1 + 59) :: st)) : Js p l e R s m args below meth c G nL Q (en2 G κ dyn) sz cells slots pc L (.ref (G.2.1 + 0) :: st) := jk_getR (k := 16) (z := 0) C kd0 rfl in_X1 59 rfl (by decide) q458 rfl d n hn kk
set_option maxHeartbeats 4000000 in
theorem metX1_behind {l : Launch} {G : je_G} {dyn : Nat → Option je_E} {sz : Nat} {hb : Nat} {hu : hd_T} {κ : kp_K} {v1 : Int32} {v2 : Int32} {v3 : Int32} {r9 : Int32} (hH : HouseRep G dyn hb hu) (h : pX1_behind hb hu κ v1 v2 v3 = some r9) : MetS l G yX1_behind cX1_behind 4 (some .int) 5 141 0 0 [.ref (G.2.1 + 0), .int v1, .int v2, .int v3] (en2 G κ dyn) sz (some (.int r9)) (en2 G κ dyn) sz := by
  refine je_met "MinistryDesks" rfl (by decide +kernel) (Nat.le_of_ble_eq_true rfl) [(0, .ref (G.2.1 + 0)), (1, .int v1), (2, .int v2), (3, .int v3)] rfl (fun p e s m args below meth c C => ?_)
  unfold pX1_behind at h
  refine je_iload_n C dX1_behind_0 1 rfl 3 rfl ?_
  refine je_if_ge C 18 dX1_behind_1 4 rfl rfl h (fun h => ?_) (fun h => ?_)
  · refine je_aload_n C dX1_behind_18 19 rfl 0 rfl ?_
    refine gX1_71 C dX1_behind_19 22 rfl ?_
    refine je_iload_n C dX1_behind_22 23 rfl 1 rfl ?_
    refine je_iconst C (1) dX1_behind_23 24 rfl ic_1 ?_
    refine je_iadd C dX1_behind_24 25 rfl ?_
    refine je_iload_n C dX1_behind_25 26 rfl 2 rfl ?_
    refine je_iconst C (1) dX1_behind_26 27 rfl ic_1 ?_
    refine je_iload_n C dX1_behind_27 28 rfl 3 rfl ?_
    refine je_ishl C dX1_behind_28 29 rfl ?_
    refine je_iconst C (-1) dX1_behind_29 30 rfl ic_m1 ?_
    refine je_ixor C dX1_behind_30 31 rfl ?_
    refine je_iand C dX1_behind_31 32 rfl ?_
    refine je_iconst C (1) dX1_behind_32 33 rfl ic_1 ?_
    refine je_aload_n C dX1_behind_33 34 rfl 0 rfl ?_
    refine je_iload_n C dX1_behind_34 35 rfl 1 rfl ?_
    obtain ⟨t35, hg, h⟩ := p_cl_inv h
    refine je_callVi (As := [.int v1]) (rest := [.int (1 : Int32), .int (v2 &&& (((1 : Int32) <<< (v3 &&& 31)) ^^^ (-1 : Int32))), .int (v1 + (1 : Int32)), .ref (G.2.1 + 59)]) C (metX1_comingFact hH hg) (en2_at kd0) rfl hdX1_comingFact rfl cwX1_276 rfl ⟨Nat.le_of_ble_eq_true rfl, Nat.le_of_ble_eq_true rfl⟩ (Nat.le_of_ble_eq_true rfl) dX1_behind_35 38 rfl ⟨Nat.le_refl _, Nat.le_refl _⟩ ?_
    refine je_ishl C dX1_behind_38 39 rfl ?_
    refine je_ior C dX1_behind_39 40 rfl ?_
    refine je_iconst C (1) dX1_behind_40 41 rfl ic_1 ?_
    obtain ⟨t41, hg, h⟩ := p_cl_inv h
    refine je_callSi (As := [.int (v1 + (1 : Int32)), .int ((v2 &&& (((1 : Int32) <<< (v3 &&& 31)) ^^^ (-1 : Int32))) ||| ((1 : Int32) <<< (t35 &&& 31))), .int (1 : Int32)]) (rest := [.ref (G.2.1 + 59)]) C (metX1_at hg) hdX1_at cwX1_288 rfl ⟨Nat.le_of_ble_eq_true rfl, Nat.le_of_ble_eq_true rfl⟩ (Nat.le_of_ble_eq_true rfl) dX1_behind_41 44 rfl ⟨Nat.le_refl _, Nat.le_refl _⟩ ?_
    refine jk_iald C kd59 dX1_behind_44 45 rfl h (fun h => ?_)
    cases h
    exact je_iret C dX1_behind_45
  refine je_aload_n C dX1_behind_4 5 rfl 0 rfl ?_
  refine gX1_71 C dX1_behind_5 8 rfl ?_
  refine je_iload_n C dX1_behind_8 9 rfl 1 rfl ?_
  refine je_iconst C (1) dX1_behind_9 10 rfl ic_1 ?_
  refine je_iadd C dX1_behind_10 11 rfl ?_
  refine je_iload_n C dX1_behind_11 12 rfl 2 rfl ?_
  refine je_iconst C (0) dX1_behind_12 13 rfl ic_0 ?_
  obtain ⟨t13, hg, h⟩ := p_cl_inv h
  refine je_callSi (As := [.int (v1 + (1 : Int32)), .int v2, .int (0 : Int32)]) (rest := [.ref (G.2.1 + 59)]) C (metX1_at hg) hdX1_at cwX1_288 rfl ⟨Nat.le_of_ble_eq_true rfl, Nat.le_of_ble_eq_true rfl⟩ (Nat.le_of_ble_eq_true rfl) dX1_behind_13 16 rfl ⟨Nat.le_refl _, Nat.le_refl _⟩ ?_
  refine jk_iald C kd59 dX1_behind_16 17 rfl h (fun h => ?_)
  cases h
  exact je_iret C dX1_behind_17
theorem hdX1_behind : je_hd yX1_behind 3 := ⟨by decide +kernel, by decide +kernel, by decide +kernel⟩
theorem cwX1_292 : GoodIn lw_all (wsV "MinistryDesks" 292 "MinistryDesks" yX1_behind (ws_ yX1_behind cX1_behind 4 (some .int))) := lw_V q1427 q1429 qs60 q161 q1430
set_option maxHeartbeats 4000000 in
theorem wX1_choice_5 {p : Program} {l : Launch} {e : Env} {s : State} {m : MethodId} {args : Array Value} {below : List Frame} {meth : Method} {c : Code} {G : je_G} {dyn : Nat → Option je_E} {sz : Nat} {F : Nat} {hb : Nat} {hu : hd_T} {κ : kp_K} {r9 : Int32} (C : Cx p s m args meth c G "MinistryDesks" cX1_choice 5 (some .int)) (hH : HouseRep G dyn hb hu) : ∀ (n : Nat) (v1 : Int32) (v2 : Int32) (v3 : Int32) (v4 : Int32), bX1_choice_5 F hb hu n κ v1 v2 v3 v4 = some r9 → Js p l e ({ frames := 6, cells := 0, slots := 0, locals := 164 } : Room) s m args below meth c G 5 (MQ below (je_Q G (some (.int r9)) (en2 G κ dyn) sz) args s 0 0 (je_A G)) (en2 G κ dyn) sz 0 0 5 [(0, .ref (G.2.1 + 0)), (1, .int v1), (2, .int v2), (3, .int v3), (4, .int v4)] [] := by
  intro n
  induction n with
  | zero =>
    intro v1 v2 v3 v4 h
    cases h
  | succ n ih =>
    intro v1 v2 v3 v4 h
    rw [bX1_choice_5] at h
    refine je_iload C dX1_choice_5 7 rfl 4 rfl ?_
    refine je_bipush C (7) dX1_choice_7 9 rfl bp_7 ?_
    refine je_icmp_ge C 48 dX1_choice_9 12 rfl rfl h (fun h => ?_) (fun h => ?_)
    · refine je_iload_n C dX1_choice_48 49 rfl 3 rfl ?_
      cases h
      exact je_iret C dX1_choice_49
    refine je_iload_n C dX1_choice_12 13 rfl 2 rfl ?_
    refine je_iload C dX1_choice_13 15 rfl 4 rfl ?_
    obtain ⟨t15, hg, h⟩ := p_cl_inv h
    refine je_callSi (As := [.int v2, .int v4]) (rest := []) C (metX1_isOf hg) hdX1_isOf cwX1_279 rfl ⟨Nat.le_of_ble_eq_true rfl, Nat.le_of_ble_eq_true rfl⟩ (Nat.le_of_ble_eq_true rfl) dX1_choice_15 18 rfl ⟨Nat.le_refl _, Nat.le_refl _⟩ ?_
    refine je_if_eq C 42 dX1_choice_18 21 rfl rfl h (fun h => ?_) (fun h => ?_)
    · refine je_iinc C (1) dX1_choice_42 45 rfl 4 rfl ic_1 (Nat.le_of_ble_eq_true rfl) [(4, .int (v4 + (1 : Int32))), (0, .ref (G.2.1 + 0)), (1, .int v1), (2, .int v2), (3, .int v3)] rfl ?_
      refine je_goto C 5 dX1_choice_45 rfl ?_
      refine je_sub [1, 2, 3, 4, 0] [(0, .ref (G.2.1 + 0)), (1, .int v1), (2, .int v2), (3, .int v3), (4, .int (v4 + (1 : Int32)))] rfl ?_
      exact ih v1 v2 v3 (v4 + (1 : Int32)) h
    refine je_aload_n C dX1_choice_21 22 rfl 0 rfl ?_
    refine je_iload_n C dX1_choice_22 23 rfl 1 rfl ?_
    refine je_iload_n C dX1_choice_23 24 rfl 2 rfl ?_
    refine je_iload C dX1_choice_24 26 rfl 4 rfl ?_
    obtain ⟨t26, hg, h⟩ := p_cl_inv h
    refine je_callVi (As := [.int v1, .int v2, .int v4]) (rest := []) C (metX1_behind hH hg) (en2_at kd0) rfl hdX1_behind rfl cwX1_292 rfl ⟨Nat.le_of_ble_eq_true rfl, Nat.le_of_ble_eq_true rfl⟩ (Nat.le_of_ble_eq_true rfl) dX1_choice_26 29 rfl ⟨Nat.le_refl _, Nat.le_refl _⟩ ?_
    refine je_aload_n C dX1_choice_29 30 rfl 0 rfl ?_
    refine je_iload_n C dX1_choice_30 31 rfl 1 rfl ?_
    refine je_iload_n C dX1_choice_31 32 rfl 2 rfl ?_
    refine je_iload_n C dX1_choice_32 33 rfl 3 rfl ?_
    obtain ⟨t33, hg, h⟩ := p_cl_inv h
    refine je_callVi (As := [.int v1, .int v2, .int v3]) (rest := [.int t26]) C (metX1_behind hH hg) (en2_at kd0) rfl hdX1_behind rfl cwX1_292 rfl ⟨Nat.le_of_ble_eq_true rfl, Nat.le_of_ble_eq_true rfl⟩ (Nat.le_of_ble_eq_true rfl) dX1_choice_33 36 rfl ⟨Nat.le_refl _, Nat.le_refl _⟩ ?_
    refine je_icmp_le C 42 dX1_choice_36 39 rfl rfl h (fun h => ?_) (fun h => ?_)
    · refine je_iinc C (1) dX1_choice_42 45 rfl 4 rfl ic_1 (Nat.le_of_ble_eq_true rfl) [(4, .int (v4 + (1 : Int32))), (0, .ref (G.2.1 + 0)), (1, .int v1), (2, .int v2), (3, .int v3)] rfl ?_
      refine je_goto C 5 dX1_choice_45 rfl ?_
      refine je_sub [1, 2, 3, 4, 0] [(0, .ref (G.2.1 + 0)), (1, .int v1), (2, .int v2), (3, .int v3), (4, .int (v4 + (1 : Int32)))] rfl ?_
      exact ih v1 v2 v3 (v4 + (1 : Int32)) h
    refine je_iload C dX1_choice_39 41 rfl 4 rfl ?_
    refine je_istore_n C dX1_choice_41 42 rfl (Nat.le_of_ble_eq_true rfl) [(3, .int v4), (0, .ref (G.2.1 + 0)), (1, .int v1), (2, .int v2), (4, .int v4)] rfl ?_
    refine je_iinc C (1) dX1_choice_42 45 rfl 4 rfl ic_1 (Nat.le_of_ble_eq_true rfl) [(4, .int (v4 + (1 : Int32))), (3, .int v4), (0, .ref (G.2.1 + 0)), (1, .int v1), (2, .int v2)] rfl ?_
    refine je_goto C 5 dX1_choice_45 rfl ?_
    refine je_sub [2, 3, 4, 1, 0] [(0, .ref (G.2.1 + 0)), (1, .int v1), (2, .int v2), (3, .int v4), (4, .int (v4 + (1 : Int32)))] rfl ?_
    exact ih v1 v2 v4 (v4 + (1 : Int32)) h
set_option maxHeartbeats 4000000 in
theorem metX1_choice {l : Launch} {G : je_G} {dyn : Nat → Option je_E} {sz : Nat} {F : Nat} {hb : Nat} {hu : hd_T} {κ : kp_K} {v1 : Int32} {v2 : Int32} {r9 : Int32} (hH : HouseRep G dyn hb hu) (h : pX1_choice F hb hu κ v1 v2 = some r9) : MetS l G yX1_choice cX1_choice 5 (some .int) 6 164 0 0 [.ref (G.2.1 + 0), .int v1, .int v2] (en2 G κ dyn) sz (some (.int r9)) (en2 G κ dyn) sz := by
  refine je_met "MinistryDesks" rfl (by decide +kernel) (Nat.le_of_ble_eq_true rfl) [(0, .ref (G.2.1 + 0)), (1, .int v1), (2, .int v2)] rfl (fun p e s m args below meth c C => ?_)
  unfold pX1_choice at h
  refine je_iconst C (-1) dX1_choice_0 1 rfl ic_m1 ?_
  refine je_istore_n C dX1_choice_1 2 rfl (Nat.le_of_ble_eq_true rfl) [(3, .int (-1 : Int32)), (0, .ref (G.2.1 + 0)), (1, .int v1), (2, .int v2)] rfl ?_
  refine je_iconst C (0) dX1_choice_2 3 rfl ic_0 ?_
  refine je_istore C dX1_choice_3 5 rfl (Nat.le_of_ble_eq_true rfl) [(4, .int (0 : Int32)), (3, .int (-1 : Int32)), (0, .ref (G.2.1 + 0)), (1, .int v1), (2, .int v2)] rfl ?_
  refine je_sub [2, 3, 4, 1, 0] [(0, .ref (G.2.1 + 0)), (1, .int v1), (2, .int v2), (3, .int (-1 : Int32)), (4, .int (0 : Int32))] rfl ?_
  exact wX1_choice_5 C hH F v1 v2 (-1 : Int32) (0 : Int32) h
set_option maxHeartbeats 4000000 in
theorem metX1_gain {l : Launch} {G : je_G} {dyn : Nat → Option je_E} {sz : Nat} {hb : Nat} {hu : hd_T} {κ : kp_K} {v1 : Int32} {v2 : Int32} {r9 : Int32} (hH : HouseRep G dyn hb hu) (h : pX1_gain hb hu κ v1 v2 = some r9) : MetS l G yX1_gain cX1_gain 4 (some .int) 4 120 0 0 [.ref (G.2.1 + 0), .int v1, .int v2] (en2 G κ dyn) sz (some (.int r9)) (en2 G κ dyn) sz := by
  refine je_met "MinistryDesks" rfl (by decide +kernel) (Nat.le_of_ble_eq_true rfl) [(0, .ref (G.2.1 + 0)), (1, .int v1), (2, .int v2)] rfl (fun p e s m args below meth c C => ?_)
  unfold pX1_gain at h
  refine je_aload_n C dX1_gain_0 1 rfl 0 rfl ?_
  refine gX1_58 C dX1_gain_1 4 rfl ?_
  refine je_iload_n C dX1_gain_4 5 rfl 1 rfl ?_
  refine jk_iald C kd55 dX1_gain_5 6 rfl h (fun h => ?_)
  refine je_iconst C (2) dX1_gain_6 7 rfl ic_2 ?_
  refine je_icmp_eq C 12 dX1_gain_7 10 rfl rfl h (fun h => ?_) (fun h => ?_)
  · refine je_aload_n C dX1_gain_12 13 rfl 0 rfl ?_
    refine gX1_62 C dX1_gain_13 16 rfl ?_
    refine je_iload_n C dX1_gain_16 17 rfl 1 rfl ?_
    refine jk_iald C kd56 dX1_gain_17 18 rfl h (fun h => ?_)
    refine je_lti h (fun t18 h => ?_)
    refine je_istore_n C dX1_gain_18 19 rfl (Nat.le_of_ble_eq_true rfl) [(3, .int t18), (0, .ref (G.2.1 + 0)), (1, .int v1), (2, .int v2)] rfl ?_
    refine je_iload_n C dX1_gain_19 20 rfl 3 rfl ?_
    refine je_aload_n C dX1_gain_20 21 rfl 1 rfl ?_
    obtain ⟨hx, h⟩ := p_hs_inv h
    refine gX1_22 C hx dX1_gain_21 24 rfl ?_
    refine jh_listN C hH (t := 3) (by decide) q257 rfl dX1_gain_24 27 rfl ?_
    refine je_iload_n C dX1_gain_27 28 rfl 0 rfl ?_
    obtain ⟨hin3_t18, h⟩ := p_ck_inv h
    refine jh_get (t := 3) (rest := [.int v2]) C hH (by decide) hin3_t18 cwX1_171 ⟨Nat.le_of_ble_eq_true rfl, Nat.le_of_ble_eq_true rfl⟩ (Nat.le_of_ble_eq_true rfl) dX1_gain_28 31 rfl ⟨Nat.le_refl _, Nat.le_refl _⟩ ?_
    refine jh_cast3 C hH hin3_t18 q1394 dX1_gain_31 34 rfl ?_
    refine jh_item3N C hH hin3_t18 (k := 2) (by decide) q1002 rfl dX1_gain_34 37 rfl ?_
    obtain ⟨t37, hg, h⟩ := p_cl_inv h
    refine je_callSi (As := [.int v2, .int (hu.1 32 t18.toNatClampNeg)]) (rest := []) C (metX1_isOf hg) hdX1_isOf cwX1_279 rfl ⟨Nat.le_of_ble_eq_true rfl, Nat.le_of_ble_eq_true rfl⟩ (Nat.le_of_ble_eq_true rfl) dX1_gain_37 40 rfl ⟨Nat.le_refl _, Nat.le_refl _⟩ ?_
    refine je_if_eq C 52 dX1_gain_40 43 rfl rfl h (fun h => ?_) (fun h => ?_)
    · refine je_iconst C (0) dX1_gain_52 53 rfl ic_0 ?_
      cases h
      exact je_iret C dX1_gain_53
    refine je_aload_n C dX1_gain_43 44 rfl 1 rfl ?_
    refine gX1_74 C dX1_gain_44 47 rfl ?_
    refine je_iload_n C dX1_gain_47 48 rfl 0 rfl ?_
    refine jk_iald C kd60 dX1_gain_48 49 rfl h (fun h => ?_)
    refine je_goto C 53 dX1_gain_49 rfl ?_
    cases h
    exact je_iret C dX1_gain_53
  refine je_iconst C (0) dX1_gain_10 11 rfl ic_0 ?_
  cases h
  exact je_iret C dX1_gain_11
set_option maxHeartbeats 4000000 in
theorem wX1_dawned_5 {p : Program} {l : Launch} {e : Env} {s : State} {m : MethodId} {args : Array Value} {below : List Frame} {meth : Method} {c : Code} {G : je_G} {dyn : Nat → Option je_E} {sz : Nat} {F : Nat} {κ : kp_K} {r9 : Int32} (C : Cx p s m args meth c G "MinistryDesks" cX1_dawned 5 (some .int)) : ∀ (n : Nat) (v1 : Int32) (v3 : Int32) (v4 : Int32), bX1_dawned_5 F n κ v1 v3 v4 = some r9 → Js p l e ({ frames := 0, cells := 0, slots := 0, locals := 0 } : Room) s m args below meth c G 5 (MQ below (je_Q G (some (.int r9)) (en2 G κ dyn) sz) args s 0 0 (je_A G)) (en2 G κ dyn) sz 0 0 5 [(0, .ref (G.2.1 + 0)), (1, .int v1), (3, .int v3), (4, .int v4)] [] := by
  intro n
  induction n with
  | zero =>
    intro v1 v3 v4 h
    cases h
  | succ n ih =>
    intro v1 v3 v4 h
    rw [bX1_dawned_5] at h
    refine je_iload C dX1_dawned_5 7 rfl 3 rfl ?_
    refine je_bipush C (7) dX1_dawned_7 9 rfl bp_7 ?_
    refine je_icmp_ge C 48 dX1_dawned_9 12 rfl rfl h (fun h => ?_) (fun h => ?_)
    · refine je_iload_n C dX1_dawned_48 49 rfl 2 rfl ?_
      cases h
      exact je_iret C dX1_dawned_49
    refine je_aload_n C dX1_dawned_12 13 rfl 0 rfl ?_
    refine gX1_68 C dX1_dawned_13 16 rfl ?_
    refine je_bipush C (7) dX1_dawned_16 18 rfl bp_7 ?_
    refine je_iload_n C dX1_dawned_18 19 rfl 1 rfl ?_
    refine je_imul C dX1_dawned_19 20 rfl ?_
    refine je_iload C dX1_dawned_20 22 rfl 3 rfl ?_
    refine je_iadd C dX1_dawned_22 23 rfl ?_
    refine je_lti h (fun i23 h => ?_)
    refine jk_iald C kd58 dX1_dawned_23 24 rfl h (fun h => ?_)
    refine je_aload_n C dX1_dawned_24 25 rfl 0 rfl ?_
    refine gX1_65 C dX1_dawned_25 28 rfl ?_
    refine je_iload_n C dX1_dawned_28 29 rfl 1 rfl ?_
    refine jk_iald C kd57 dX1_dawned_29 30 rfl h (fun h => ?_)
    refine je_icmp_ge C 42 dX1_dawned_30 33 rfl rfl h (fun h => ?_) (fun h => ?_)
    · refine je_iinc C (1) dX1_dawned_42 45 rfl 3 rfl ic_1 (Nat.le_of_ble_eq_true rfl) [(4, .int (v4 + (1 : Int32))), (0, .ref (G.2.1 + 0)), (1, .int v1), (3, .int v3)] rfl ?_
      refine je_goto C 5 dX1_dawned_45 rfl ?_
      refine je_sub [1, 2, 3, 0] [(0, .ref (G.2.1 + 0)), (1, .int v1), (3, .int v3), (4, .int (v4 + (1 : Int32)))] rfl ?_
      exact ih v1 v3 (v4 + (1 : Int32)) h
    refine je_iload_n C dX1_dawned_33 34 rfl 2 rfl ?_
    refine je_iconst C (1) dX1_dawned_34 35 rfl ic_1 ?_
    refine je_iload C dX1_dawned_35 37 rfl 3 rfl ?_
    refine je_ishl C dX1_dawned_37 38 rfl ?_
    refine je_iconst C (-1) dX1_dawned_38 39 rfl ic_m1 ?_
    refine je_ixor C dX1_dawned_39 40 rfl ?_
    refine je_iand C dX1_dawned_40 41 rfl ?_
    refine je_lti h (fun t41 h => ?_)
    refine je_istore_n C dX1_dawned_41 42 rfl (Nat.le_of_ble_eq_true rfl) [(3, .int t41), (0, .ref (G.2.1 + 0)), (1, .int v1), (4, .int v4)] rfl ?_
    refine je_iinc C (1) dX1_dawned_42 45 rfl 3 rfl ic_1 (Nat.le_of_ble_eq_true rfl) [(4, .int (v4 + (1 : Int32))), (3, .int t41), (0, .ref (G.2.1 + 0)), (1, .int v1)] rfl ?_
    refine je_goto C 5 dX1_dawned_45 rfl ?_
    refine je_sub [2, 3, 1, 0] [(0, .ref (G.2.1 + 0)), (1, .int v1), (3, .int t41), (4, .int (v4 + (1 : Int32)))] rfl ?_
    exact ih v1 t41 (v4 + (1 : Int32)) h
set_option maxHeartbeats 4000000 in
theorem metX1_dawned {l : Launch} {G : je_G} {dyn : Nat → Option je_E} {sz : Nat} {F : Nat} {κ : kp_K} {v1 : Int32} {v2 : Int32} {r9 : Int32} (h : pX1_dawned F κ v1 v2 = some r9) : MetS l G yX1_dawned cX1_dawned 5 (some .int) 0 0 0 0 [.ref (G.2.1 + 0), .int v1, .int v2] (en2 G κ dyn) sz (some (.int r9)) (en2 G κ dyn) sz := by
  refine je_met "MinistryDesks" rfl (by decide +kernel) (Nat.le_of_ble_eq_true rfl) [(0, .ref (G.2.1 + 0)), (1, .int v1), (2, .int v2)] rfl (fun p e s m args below meth c C => ?_)
  unfold pX1_dawned at h
  refine je_iload_n C dX1_dawned_0 1 rfl 2 rfl ?_
  refine je_istore_n C dX1_dawned_1 2 rfl (Nat.le_of_ble_eq_true rfl) [(3, .int v2), (0, .ref (G.2.1 + 0)), (1, .int v1), (2, .int v2)] rfl ?_
  refine je_iconst C (0) dX1_dawned_2 3 rfl ic_0 ?_
  refine je_istore C dX1_dawned_3 5 rfl (Nat.le_of_ble_eq_true rfl) [(4, .int (0 : Int32)), (3, .int v2), (0, .ref (G.2.1 + 0)), (1, .int v1), (2, .int v2)] rfl ?_
  refine je_sub [2, 3, 1, 0] [(0, .ref (G.2.1 + 0)), (1, .int v1), (3, .int v2), (4, .int (0 : Int32))] rfl ?_
  exact wX1_dawned_5 C F v1 v2 (0 : Int32) h
theorem hdX1_dawned : je_hd yX1_dawned 2 := ⟨by decide +kernel, by decide +kernel, by decide +kernel⟩
theorem cwX1_296 : GoodIn lw_all (wsV "MinistryDesks" 296 "MinistryDesks" yX1_dawned (ws_ yX1_dawned cX1_dawned 5 (some .int))) := lw_V q1439 q1441 qs63 q161 q1442
set_option maxHeartbeats 4000000 in
theorem metX1_next {l : Launch} {G : je_G} {dyn : Nat → Option je_E} {sz : Nat} {F : Nat} {hb : Nat} {hu : hd_T} {κ : kp_K} {v1 : Int32} {v2 : Int32} {v3 : Int32} {r9 : Int32} (hH : HouseRep G dyn hb hu) (h : pX1_next F hb hu κ v1 v2 v3 = some r9) : MetS l G yX1_next cX1_next 4 (some .int) 5 141 0 0 [.ref (G.2.1 + 0), .int v1, .int v2, .int v3] (en2 G κ dyn) sz (some (.int r9)) (en2 G κ dyn) sz := by
  refine je_met "MinistryDesks" rfl (by decide +kernel) (Nat.le_of_ble_eq_true rfl) [(0, .ref (G.2.1 + 0)), (1, .int v1), (2, .int v2), (3, .int v3)] rfl (fun p e s m args below meth c C => ?_)
  unfold pX1_next at h
  refine je_aload_n C dX1_next_0 1 rfl 0 rfl ?_
  refine gX1_58 C dX1_next_1 4 rfl ?_
  refine je_iload_n C dX1_next_4 5 rfl 2 rfl ?_
  refine jk_iald C kd55 dX1_next_5 6 rfl h (fun h => ?_)
  refine je_if_ne C 16 dX1_next_6 9 rfl rfl h (fun h => ?_) (fun h => ?_)
  · refine je_aload_n C dX1_next_16 17 rfl 0 rfl ?_
    refine gX1_58 C dX1_next_17 20 rfl ?_
    refine je_iload_n C dX1_next_20 21 rfl 2 rfl ?_
    refine jk_iald C kd55 dX1_next_21 22 rfl h (fun h => ?_)
    refine je_iconst C (1) dX1_next_22 23 rfl ic_1 ?_
    refine je_icmp_ne C 60 dX1_next_23 26 rfl rfl h (fun h => ?_) (fun h => ?_)
    · refine je_iload_n C dX1_next_60 61 rfl 3 rfl ?_
      cases h
      exact je_iret C dX1_next_61
    refine je_iload_n C dX1_next_26 27 rfl 3 rfl ?_
    obtain ⟨t27, hg, h⟩ := p_cl_inv h
    refine je_callSi (As := [.int v3]) (rest := []) C (metJ19_bitCount hg) hdJ19_bitCount cwX1_283 rfl ⟨Nat.le_of_ble_eq_true rfl, Nat.le_of_ble_eq_true rfl⟩ (Nat.le_of_ble_eq_true rfl) dX1_next_27 30 rfl ⟨Nat.le_refl _, Nat.le_refl _⟩ ?_
    refine je_aload_n C dX1_next_30 31 rfl 0 rfl ?_
    obtain ⟨hx, h⟩ := p_hs_inv h
    refine gX1_22 C hx dX1_next_31 34 rfl ?_
    refine jh_listN C hH (t := 0) (by decide) q246 rfl dX1_next_34 37 rfl ?_
    refine je_iload_n C dX1_next_37 38 rfl 1 rfl ?_
    obtain ⟨hin0_v1, h⟩ := p_ck_inv h
    refine jh_get (t := 0) (rest := [.int t27]) C hH (by decide) hin0_v1 cwX1_171 ⟨Nat.le_of_ble_eq_true rfl, Nat.le_of_ble_eq_true rfl⟩ (Nat.le_of_ble_eq_true rfl) dX1_next_38 41 rfl ⟨Nat.le_refl _, Nat.le_refl _⟩ ?_
    refine jh_cast0 C hH hin0_v1 q1422 dX1_next_41 44 rfl ?_
    refine jh_item0N C hH hin0_v1 (k := 1) (by decide) q854 rfl dX1_next_44 47 rfl ?_
    refine je_icmp_ge C 60 dX1_next_47 50 rfl rfl h (fun h => ?_) (fun h => ?_)
    · refine je_iload_n C dX1_next_60 61 rfl 3 rfl ?_
      cases h
      exact je_iret C dX1_next_61
    refine je_iload_n C dX1_next_50 51 rfl 3 rfl ?_
    refine je_iconst C (1) dX1_next_51 52 rfl ic_1 ?_
    refine je_aload_n C dX1_next_52 53 rfl 0 rfl ?_
    refine je_iload_n C dX1_next_53 54 rfl 2 rfl ?_
    obtain ⟨t54, hg, h⟩ := p_cl_inv h
    refine je_callVi (As := [.int v2]) (rest := [.int (1 : Int32), .int v3]) C (metX1_comingFact hH hg) (en2_at kd0) rfl hdX1_comingFact rfl cwX1_276 rfl ⟨Nat.le_of_ble_eq_true rfl, Nat.le_of_ble_eq_true rfl⟩ (Nat.le_of_ble_eq_true rfl) dX1_next_54 57 rfl ⟨Nat.le_refl _, Nat.le_refl _⟩ ?_
    refine je_ishl C dX1_next_57 58 rfl ?_
    refine je_ior C dX1_next_58 59 rfl ?_
    cases h
    exact je_iret C dX1_next_59
  refine je_aload_n C dX1_next_9 10 rfl 0 rfl ?_
  refine je_iload_n C dX1_next_10 11 rfl 2 rfl ?_
  refine je_iload_n C dX1_next_11 12 rfl 3 rfl ?_
  obtain ⟨t12, hg, h⟩ := p_cl_inv h
  refine je_callVi (As := [.int v2, .int v3]) (rest := []) C (metX1_dawned hg) (en2_at kd0) rfl hdX1_dawned rfl cwX1_296 rfl ⟨Nat.le_of_ble_eq_true rfl, Nat.le_of_ble_eq_true rfl⟩ (Nat.le_of_ble_eq_true rfl) dX1_next_12 15 rfl ⟨Nat.le_refl _, Nat.le_refl _⟩ ?_
  cases h
  exact je_iret C dX1_next_15
theorem hdX1_choice : je_hd yX1_choice 2 := ⟨by decide +kernel, by decide +kernel, by decide +kernel⟩
theorem hdX1_gain : je_hd yX1_gain 2 := ⟨by decide +kernel, by decide +kernel, by decide +kernel⟩
theorem hdX1_isTime : je_hd yX1_isTime 4 := ⟨by decide +kernel, by decide +kernel, by decide +kernel⟩
theorem hdX1_next : je_hd yX1_next 3 := ⟨by decide +kernel, by decide +kernel, by decide +kernel⟩
theorem cwX1_301 : GoodIn lw_all (wsV "MinistryDesks" 301 "MinistryDesks" yX1_isTime (ws_ yX1_isTime cX1_isTime 5 (some .boolean))) := lw_V q1407 q1409 qs57 q161 q1410
theorem cwX1_305 : GoodIn lw_all (wsV "MinistryDesks" 305 "MinistryDesks" yX1_choice (ws_ yX1_choice cX1_choice 5 (some .int))) := lw_V q1423 q1425 qs59 q161 q1426
theorem cwX1_308 : GoodIn lw_all (wsV "MinistryDesks" 308 "MinistryDesks" yX1_gain (ws_ yX1_gain cX1_gain 4 (some .int))) := lw_V q1431 q1433 qs61 q161 q1434
theorem cwX1_311 : GoodIn lw_all (wsV "MinistryDesks" 311 "MinistryDesks" yX1_next (ws_ yX1_next cX1_next 4 (some .int))) := lw_V q1435 q1437 qs62 q161 q1438
set_option maxHeartbeats 4000000 in
theorem wX1_layMost_190 {p : Program} {l : Launch} {e : Env} {s : State} {m : MethodId} {args : Array Value} {below : List Frame} {meth : Method} {c : Code} {G : je_G} {dyn : Nat → Option je_E} {sz : Nat} {F : Nat} {hb : Nat} {hu : hd_T} {r9 : kp_K} {k63 : kp_K → Int32 → Int32 → Int32 → Option (kp_K)} {k70 : kp_K → Int32 → Int32 → Int32 → Int32 → Option (kp_K)} {k79 : kp_K → Int32 → Int32 → Int32 → Int32 → Int32 → Option (kp_K)} (C : Cx p s m args meth c G "MinistryDesks" cX1_layMost 8 none) (hH : HouseRep G dyn hb hu) (hk63 : ∀ (kq : kp_K) (q1 : Int32) (q2 : Int32) (q3 : Int32), k63 kq q1 q2 q3 = some r9 → Js p l e ({ frames := 7, cells := 0, slots := 0, locals := 188 } : Room) s m args below meth c G 8 (MQ below (je_Q G none (en2 G r9 dyn) sz) args s 0 0 (je_A G)) (en2 G kq dyn) sz 0 0 63 [(0, .ref (G.2.1 + 0)), (1, .int q1), (2, .int q2), (3, .int q3)] []) (hk70 : ∀ (kq : kp_K) (q1 : Int32) (q2 : Int32) (q3 : Int32) (q4 : Int32), k70 kq q1 q2 q3 q4 = some r9 → Js p l e ({ frames := 7, cells := 0, slots := 0, locals := 188 } : Room) s m args below meth c G 8 (MQ below (je_Q G none (en2 G r9 dyn) sz) args s 0 0 (je_A G)) (en2 G kq dyn) sz 0 0 70 [(0, .ref (G.2.1 + 0)), (1, .int q1), (2, .int q2), (3, .int q3), (4, .int q4)] []) (hk79 : ∀ (kq : kp_K) (q1 : Int32) (q2 : Int32) (q3 : Int32) (q4 : Int32) (q5 : Int32), k79 kq q1 q2 q3 q4 q5 = some r9 → Js p l e ({ frames := 7, cells := 0, slots := 0, locals := 188 } : Room) s m args below meth c G 8 (MQ below (je_Q G none (en2 G r9 dyn) sz) args s 0 0 (je_A G)) (en2 G kq dyn) sz 0 0 79 [(0, .ref (G.2.1 + 0)), (1, .int q1), (2, .int q2), (3, .int q3), (4, .int q4), (5, .int q5)] []) (κ : kp_K) (v1 : Int32) (v2 : Int32) (v3 : Int32) (v4 : Int32) (v5 : Int32) (s0 : Int32) (s1 : Int32) (h : bX1_layMost_190 F hb hu k63 k70 k79 κ v1 v2 v3 v4 v5 s0 s1 = some r9) : Js p l e ({ frames := 7, cells := 0, slots := 0, locals := 188 } : Room) s m args below meth c G 8 (MQ below (je_Q G none (en2 G r9 dyn) sz) args s 0 0 (je_A G)) (en2 G κ dyn) sz 0 0 190 [(0, .ref (G.2.1 + 0)), (1, .int v1), (2, .int v2), (3, .int v3), (4, .int v4), (5, .int v5)] [.int s0, .int s1, .ref (G.2.1 + 59)] := by
  unfold bX1_layMost_190 at h
  refine jk_iast C kd59 dX1_layMost_190 191 rfl h (fun h => ?_)
  refine jk_lt h (fun k190 h => ?_)
  refine je_iinc C (1) dX1_layMost_191 194 rfl 5 rfl ic_1 (Nat.le_of_ble_eq_true rfl) [(5, .int (v5 + (1 : Int32))), (0, .ref (G.2.1 + 0)), (1, .int v1), (2, .int v2), (3, .int v3), (4, .int v4)] rfl ?_
  refine je_goto C 79 dX1_layMost_194 rfl ?_
  refine je_sub [1, 2, 3, 4, 5, 0] [(0, .ref (G.2.1 + 0)), (1, .int v1), (2, .int v2), (3, .int v3), (4, .int v4), (5, .int (v5 + (1 : Int32)))] rfl ?_
  exact hk79 k190 v1 v2 v3 v4 (v5 + (1 : Int32)) h
set_option maxHeartbeats 4000000 in
theorem wX1_layMost_117 {p : Program} {l : Launch} {e : Env} {s : State} {m : MethodId} {args : Array Value} {below : List Frame} {meth : Method} {c : Code} {G : je_G} {dyn : Nat → Option je_E} {sz : Nat} {F : Nat} {hb : Nat} {hu : hd_T} {r9 : kp_K} {k63 : kp_K → Int32 → Int32 → Int32 → Option (kp_K)} {k70 : kp_K → Int32 → Int32 → Int32 → Int32 → Option (kp_K)} {k79 : kp_K → Int32 → Int32 → Int32 → Int32 → Int32 → Option (kp_K)} (C : Cx p s m args meth c G "MinistryDesks" cX1_layMost 8 none) (hH : HouseRep G dyn hb hu) (hk63 : ∀ (kq : kp_K) (q1 : Int32) (q2 : Int32) (q3 : Int32), k63 kq q1 q2 q3 = some r9 → Js p l e ({ frames := 7, cells := 0, slots := 0, locals := 188 } : Room) s m args below meth c G 8 (MQ below (je_Q G none (en2 G r9 dyn) sz) args s 0 0 (je_A G)) (en2 G kq dyn) sz 0 0 63 [(0, .ref (G.2.1 + 0)), (1, .int q1), (2, .int q2), (3, .int q3)] []) (hk70 : ∀ (kq : kp_K) (q1 : Int32) (q2 : Int32) (q3 : Int32) (q4 : Int32), k70 kq q1 q2 q3 q4 = some r9 → Js p l e ({ frames := 7, cells := 0, slots := 0, locals := 188 } : Room) s m args below meth c G 8 (MQ below (je_Q G none (en2 G r9 dyn) sz) args s 0 0 (je_A G)) (en2 G kq dyn) sz 0 0 70 [(0, .ref (G.2.1 + 0)), (1, .int q1), (2, .int q2), (3, .int q3), (4, .int q4)] []) (hk79 : ∀ (kq : kp_K) (q1 : Int32) (q2 : Int32) (q3 : Int32) (q4 : Int32) (q5 : Int32), k79 kq q1 q2 q3 q4 q5 = some r9 → Js p l e ({ frames := 7, cells := 0, slots := 0, locals := 188 } : Room) s m args below meth c G 8 (MQ below (je_Q G none (en2 G r9 dyn) sz) args s 0 0 (je_A G)) (en2 G kq dyn) sz 0 0 79 [(0, .ref (G.2.1 + 0)), (1, .int q1), (2, .int q2), (3, .int q3), (4, .int q4), (5, .int q5)] []) (κ : kp_K) (v1 : Int32) (v2 : Int32) (v3 : Int32) (v4 : Int32) (v5 : Int32) (v6 : Int32) (s0 : Int32) (h : bX1_layMost_117 F hb hu k63 k70 k79 κ v1 v2 v3 v4 v5 v6 s0 = some r9) : Js p l e ({ frames := 7, cells := 0, slots := 0, locals := 188 } : Room) s m args below meth c G 8 (MQ below (je_Q G none (en2 G r9 dyn) sz) args s 0 0 (je_A G)) (en2 G κ dyn) sz 0 0 117 [(0, .ref (G.2.1 + 0)), (1, .int v1), (2, .int v2), (3, .int v3), (4, .int v4), (5, .int v5), (6, .int v6)] [.int s0] := by
  unfold bX1_layMost_117 at h
  refine je_istore C dX1_layMost_117 119 rfl (Nat.le_of_ble_eq_true rfl) [(7, .int s0), (0, .ref (G.2.1 + 0)), (1, .int v1), (2, .int v2), (3, .int v3), (4, .int v4), (5, .int v5), (6, .int v6)] rfl ?_
  refine je_aload_n C dX1_layMost_119 120 rfl 1 rfl ?_
  refine gX1_71 C dX1_layMost_120 123 rfl ?_
  refine je_iload_n C dX1_layMost_123 124 rfl 4 rfl ?_
  refine je_iload C dX1_layMost_124 126 rfl 5 rfl ?_
  refine je_iload C dX1_layMost_126 128 rfl 7 rfl ?_
  obtain ⟨t128, hg, h⟩ := p_cl_inv h
  refine je_callSi (As := [.int v3, .int v4, .int v6]) (rest := [.ref (G.2.1 + 59)]) C (metX1_at hg) hdX1_at cwX1_288 rfl ⟨Nat.le_of_ble_eq_true rfl, Nat.le_of_ble_eq_true rfl⟩ (Nat.le_of_ble_eq_true rfl) dX1_layMost_128 131 rfl ⟨Nat.le_refl _, Nat.le_refl _⟩ ?_
  refine je_aload_n C dX1_layMost_131 132 rfl 1 rfl ?_
  refine je_iload_n C dX1_layMost_132 133 rfl 2 rfl ?_
  refine je_iload_n C dX1_layMost_133 134 rfl 4 rfl ?_
  refine je_iload C dX1_layMost_134 136 rfl 5 rfl ?_
  refine je_iload C dX1_layMost_136 138 rfl 7 rfl ?_
  obtain ⟨t138, hg, h⟩ := p_cl_inv h
  refine je_callVi (As := [.int v1, .int v3, .int v4, .int v6]) (rest := [.int t128, .ref (G.2.1 + 59)]) C (metX1_isTime hH hg) (en2_at kd0) rfl hdX1_isTime rfl cwX1_301 rfl ⟨Nat.le_of_ble_eq_true rfl, Nat.le_of_ble_eq_true rfl⟩ (Nat.le_of_ble_eq_true rfl) dX1_layMost_138 141 rfl ⟨Nat.le_refl _, Nat.le_refl _⟩ ?_
  refine je_if_eq C 161 dX1_layMost_141 144 rfl rfl h (fun h => ?_) (fun h => ?_)
  · refine je_aload_n C dX1_layMost_161 162 rfl 1 rfl ?_
    refine je_iload_n C dX1_layMost_162 163 rfl 4 rfl ?_
    refine je_iload C dX1_layMost_163 165 rfl 5 rfl ?_
    obtain ⟨t165, hg, h⟩ := p_cl_inv h
    refine je_callVi (As := [.int v3, .int v4]) (rest := [.int t128, .ref (G.2.1 + 59)]) C (metX1_gain hH hg) (en2_at kd0) rfl hdX1_gain rfl cwX1_308 rfl ⟨Nat.le_of_ble_eq_true rfl, Nat.le_of_ble_eq_true rfl⟩ (Nat.le_of_ble_eq_true rfl) dX1_layMost_165 168 rfl ⟨Nat.le_refl _, Nat.le_refl _⟩ ?_
    refine je_aload_n C dX1_layMost_168 169 rfl 1 rfl ?_
    refine gX1_71 C dX1_layMost_169 172 rfl ?_
    refine je_iload_n C dX1_layMost_172 173 rfl 4 rfl ?_
    refine je_iconst C (1) dX1_layMost_173 174 rfl ic_1 ?_
    refine je_iadd C dX1_layMost_174 175 rfl ?_
    refine je_aload_n C dX1_layMost_175 176 rfl 1 rfl ?_
    refine je_iload_n C dX1_layMost_176 177 rfl 2 rfl ?_
    refine je_iload_n C dX1_layMost_177 178 rfl 4 rfl ?_
    refine je_iload C dX1_layMost_178 180 rfl 5 rfl ?_
    obtain ⟨t180, hg, h⟩ := p_cl_inv h
    refine je_callVi (As := [.int v1, .int v3, .int v4]) (rest := [.int (v3 + (1 : Int32)), .ref (G.2.1 + 59), .int t165, .int t128, .ref (G.2.1 + 59)]) C (metX1_next hH hg) (en2_at kd0) rfl hdX1_next rfl cwX1_311 rfl ⟨Nat.le_of_ble_eq_true rfl, Nat.le_of_ble_eq_true rfl⟩ (Nat.le_of_ble_eq_true rfl) dX1_layMost_180 183 rfl ⟨Nat.le_refl _, Nat.le_refl _⟩ ?_
    refine je_iload C dX1_layMost_183 185 rfl 0 rfl ?_
    obtain ⟨t185, hg, h⟩ := p_cl_inv h
    refine je_callSi (As := [.int (v3 + (1 : Int32)), .int t180, .int s0]) (rest := [.ref (G.2.1 + 59), .int t165, .int t128, .ref (G.2.1 + 59)]) C (metX1_at hg) hdX1_at cwX1_288 rfl ⟨Nat.le_of_ble_eq_true rfl, Nat.le_of_ble_eq_true rfl⟩ (Nat.le_of_ble_eq_true rfl) dX1_layMost_185 188 rfl ⟨Nat.le_refl _, Nat.le_refl _⟩ ?_
    refine jk_iald C kd59 dX1_layMost_188 189 rfl h (fun h => ?_)
    refine je_iadd C dX1_layMost_189 190 rfl ?_
    refine je_sub [1, 2, 3, 4, 5, 6] [(0, .ref (G.2.1 + 0)), (1, .int v1), (2, .int v2), (3, .int v3), (4, .int v4), (5, .int v5)] rfl ?_
    exact wX1_layMost_190 C hH hk63 hk70 hk79 κ v1 v2 v3 v4 v5 (t165 + (κ.1 59 t185.toNatClampNeg)) t128 h
  refine je_aload_n C dX1_layMost_144 145 rfl 1 rfl ?_
  refine je_iload_n C dX1_layMost_145 146 rfl 4 rfl ?_
  refine je_iload C dX1_layMost_146 148 rfl 5 rfl ?_
  refine je_aload_n C dX1_layMost_148 149 rfl 1 rfl ?_
  refine je_iload_n C dX1_layMost_149 150 rfl 4 rfl ?_
  refine je_iload C dX1_layMost_150 152 rfl 5 rfl ?_
  obtain ⟨t152, hg, h⟩ := p_cl_inv h
  refine je_callVi (As := [.int v3, .int v4]) (rest := [.int v4, .int v3, .ref (G.2.1 + 0), .int t128, .ref (G.2.1 + 59)]) C (metX1_choice hH hg) (en2_at kd0) rfl hdX1_choice rfl cwX1_305 rfl ⟨Nat.le_of_ble_eq_true rfl, Nat.le_of_ble_eq_true rfl⟩ (Nat.le_of_ble_eq_true rfl) dX1_layMost_152 155 rfl ⟨Nat.le_refl _, Nat.le_refl _⟩ ?_
  obtain ⟨t155, hg, h⟩ := p_cl_inv h
  refine je_callVi (As := [.int v3, .int v4, .int t152]) (rest := [.int t128, .ref (G.2.1 + 59)]) C (metX1_behind hH hg) (en2_at kd0) rfl hdX1_behind rfl cwX1_292 rfl ⟨Nat.le_of_ble_eq_true rfl, Nat.le_of_ble_eq_true rfl⟩ (Nat.le_of_ble_eq_true rfl) dX1_layMost_155 158 rfl ⟨Nat.le_refl _, Nat.le_refl _⟩ ?_
  refine je_goto C 190 dX1_layMost_158 rfl ?_
  refine je_sub [1, 2, 3, 4, 5, 6] [(0, .ref (G.2.1 + 0)), (1, .int v1), (2, .int v2), (3, .int v3), (4, .int v4), (5, .int v5)] rfl ?_
  exact wX1_layMost_190 C hH hk63 hk70 hk79 κ v1 v2 v3 v4 v5 t155 t128 h
set_option maxHeartbeats 4000000 in
theorem wX1_layMost_116 {p : Program} {l : Launch} {e : Env} {s : State} {m : MethodId} {args : Array Value} {below : List Frame} {meth : Method} {c : Code} {G : je_G} {dyn : Nat → Option je_E} {sz : Nat} {F : Nat} {hb : Nat} {hu : hd_T} {r9 : kp_K} {k63 : kp_K → Int32 → Int32 → Int32 → Option (kp_K)} {k70 : kp_K → Int32 → Int32 → Int32 → Int32 → Option (kp_K)} {k79 : kp_K → Int32 → Int32 → Int32 → Int32 → Int32 → Option (kp_K)} (C : Cx p s m args meth c G "MinistryDesks" cX1_layMost 8 none) (hH : HouseRep G dyn hb hu) (hk63 : ∀ (kq : kp_K) (q1 : Int32) (q2 : Int32) (q3 : Int32), k63 kq q1 q2 q3 = some r9 → Js p l e ({ frames := 7, cells := 0, slots := 0, locals := 188 } : Room) s m args below meth c G 8 (MQ below (je_Q G none (en2 G r9 dyn) sz) args s 0 0 (je_A G)) (en2 G kq dyn) sz 0 0 63 [(0, .ref (G.2.1 + 0)), (1, .int q1), (2, .int q2), (3, .int q3)] []) (hk70 : ∀ (kq : kp_K) (q1 : Int32) (q2 : Int32) (q3 : Int32) (q4 : Int32), k70 kq q1 q2 q3 q4 = some r9 → Js p l e ({ frames := 7, cells := 0, slots := 0, locals := 188 } : Room) s m args below meth c G 8 (MQ below (je_Q G none (en2 G r9 dyn) sz) args s 0 0 (je_A G)) (en2 G kq dyn) sz 0 0 70 [(0, .ref (G.2.1 + 0)), (1, .int q1), (2, .int q2), (3, .int q3), (4, .int q4)] []) (hk79 : ∀ (kq : kp_K) (q1 : Int32) (q2 : Int32) (q3 : Int32) (q4 : Int32) (q5 : Int32), k79 kq q1 q2 q3 q4 q5 = some r9 → Js p l e ({ frames := 7, cells := 0, slots := 0, locals := 188 } : Room) s m args below meth c G 8 (MQ below (je_Q G none (en2 G r9 dyn) sz) args s 0 0 (je_A G)) (en2 G kq dyn) sz 0 0 79 [(0, .ref (G.2.1 + 0)), (1, .int q1), (2, .int q2), (3, .int q3), (4, .int q4), (5, .int q5)] []) (κ : kp_K) (v1 : Int32) (v2 : Int32) (v3 : Int32) (v4 : Int32) (v5 : Int32) (v6 : Int32) (h : bX1_layMost_116 F hb hu k63 k70 k79 κ v1 v2 v3 v4 v5 v6 = some r9) : Js p l e ({ frames := 7, cells := 0, slots := 0, locals := 188 } : Room) s m args below meth c G 8 (MQ below (je_Q G none (en2 G r9 dyn) sz) args s 0 0 (je_A G)) (en2 G κ dyn) sz 0 0 116 [(0, .ref (G.2.1 + 0)), (1, .int v1), (2, .int v2), (3, .int v3), (4, .int v4), (5, .int v5), (6, .int v6)] [] := by
  unfold bX1_layMost_116 at h
  refine je_iconst C (0) dX1_layMost_116 117 rfl ic_0 ?_
  exact wX1_layMost_117 C hH hk63 hk70 hk79 κ v1 v2 v3 v4 v5 v6 (0 : Int32) h
set_option maxHeartbeats 4000000 in
theorem wX1_layMost_96 {p : Program} {l : Launch} {e : Env} {s : State} {m : MethodId} {args : Array Value} {below : List Frame} {meth : Method} {c : Code} {G : je_G} {dyn : Nat → Option je_E} {sz : Nat} {F : Nat} {hb : Nat} {hu : hd_T} {r9 : kp_K} {k63 : kp_K → Int32 → Int32 → Int32 → Option (kp_K)} {k70 : kp_K → Int32 → Int32 → Int32 → Int32 → Option (kp_K)} {k79 : kp_K → Int32 → Int32 → Int32 → Int32 → Int32 → Option (kp_K)} (C : Cx p s m args meth c G "MinistryDesks" cX1_layMost 8 none) (hH : HouseRep G dyn hb hu) (hk63 : ∀ (kq : kp_K) (q1 : Int32) (q2 : Int32) (q3 : Int32), k63 kq q1 q2 q3 = some r9 → Js p l e ({ frames := 7, cells := 0, slots := 0, locals := 188 } : Room) s m args below meth c G 8 (MQ below (je_Q G none (en2 G r9 dyn) sz) args s 0 0 (je_A G)) (en2 G kq dyn) sz 0 0 63 [(0, .ref (G.2.1 + 0)), (1, .int q1), (2, .int q2), (3, .int q3)] []) (hk70 : ∀ (kq : kp_K) (q1 : Int32) (q2 : Int32) (q3 : Int32) (q4 : Int32), k70 kq q1 q2 q3 q4 = some r9 → Js p l e ({ frames := 7, cells := 0, slots := 0, locals := 188 } : Room) s m args below meth c G 8 (MQ below (je_Q G none (en2 G r9 dyn) sz) args s 0 0 (je_A G)) (en2 G kq dyn) sz 0 0 70 [(0, .ref (G.2.1 + 0)), (1, .int q1), (2, .int q2), (3, .int q3), (4, .int q4)] []) (hk79 : ∀ (kq : kp_K) (q1 : Int32) (q2 : Int32) (q3 : Int32) (q4 : Int32) (q5 : Int32), k79 kq q1 q2 q3 q4 q5 = some r9 → Js p l e ({ frames := 7, cells := 0, slots := 0, locals := 188 } : Room) s m args below meth c G 8 (MQ below (je_Q G none (en2 G r9 dyn) sz) args s 0 0 (je_A G)) (en2 G kq dyn) sz 0 0 79 [(0, .ref (G.2.1 + 0)), (1, .int q1), (2, .int q2), (3, .int q3), (4, .int q4), (5, .int q5)] []) (κ : kp_K) (v1 : Int32) (v2 : Int32) (v3 : Int32) (v4 : Int32) (v5 : Int32) (s0 : Int32) (h : bX1_layMost_96 F hb hu k63 k70 k79 κ v1 v2 v3 v4 v5 s0 = some r9) : Js p l e ({ frames := 7, cells := 0, slots := 0, locals := 188 } : Room) s m args below meth c G 8 (MQ below (je_Q G none (en2 G r9 dyn) sz) args s 0 0 (je_A G)) (en2 G κ dyn) sz 0 0 96 [(0, .ref (G.2.1 + 0)), (1, .int v1), (2, .int v2), (3, .int v3), (4, .int v4), (5, .int v5)] [.int s0] := by
  unfold bX1_layMost_96 at h
  refine je_istore C dX1_layMost_96 98 rfl (Nat.le_of_ble_eq_true rfl) [(6, .int s0), (0, .ref (G.2.1 + 0)), (1, .int v1), (2, .int v2), (3, .int v3), (4, .int v4), (5, .int v5)] rfl ?_
  refine je_iload C dX1_layMost_98 100 rfl 0 rfl ?_
  refine je_if_eq C 116 dX1_layMost_100 103 rfl rfl h (fun h => ?_) (fun h => ?_)
  · refine je_sub [1, 2, 3, 4, 5, 6, 0] [(0, .ref (G.2.1 + 0)), (1, .int v1), (2, .int v2), (3, .int v3), (4, .int v4), (5, .int v5), (6, .int s0)] rfl ?_
    exact wX1_layMost_116 C hH hk63 hk70 hk79 κ v1 v2 v3 v4 v5 s0 h
  refine je_aload_n C dX1_layMost_103 104 rfl 1 rfl ?_
  refine gX1_58 C dX1_layMost_104 107 rfl ?_
  refine je_iload_n C dX1_layMost_107 108 rfl 4 rfl ?_
  refine jk_iald C kd55 dX1_layMost_108 109 rfl h (fun h => ?_)
  refine je_if_eq C 116 dX1_layMost_109 112 rfl rfl h (fun h => ?_) (fun h => ?_)
  · refine je_sub [1, 2, 3, 4, 5, 6, 0] [(0, .ref (G.2.1 + 0)), (1, .int v1), (2, .int v2), (3, .int v3), (4, .int v4), (5, .int v5), (6, .int s0)] rfl ?_
    exact wX1_layMost_116 C hH hk63 hk70 hk79 κ v1 v2 v3 v4 v5 s0 h
  refine je_iconst C (1) dX1_layMost_112 113 rfl ic_1 ?_
  refine je_goto C 117 dX1_layMost_113 rfl ?_
  refine je_sub [1, 2, 3, 4, 5, 6, 0] [(0, .ref (G.2.1 + 0)), (1, .int v1), (2, .int v2), (3, .int v3), (4, .int v4), (5, .int v5), (6, .int s0)] rfl ?_
  exact wX1_layMost_117 C hH hk63 hk70 hk79 κ v1 v2 v3 v4 v5 s0 (1 : Int32) h
set_option maxHeartbeats 4000000 in
theorem wX1_layMost_79 {p : Program} {l : Launch} {e : Env} {s : State} {m : MethodId} {args : Array Value} {below : List Frame} {meth : Method} {c : Code} {G : je_G} {dyn : Nat → Option je_E} {sz : Nat} {F : Nat} {hb : Nat} {hu : hd_T} {r9 : kp_K} {k63 : kp_K → Int32 → Int32 → Int32 → Option (kp_K)} {k70 : kp_K → Int32 → Int32 → Int32 → Int32 → Option (kp_K)} (C : Cx p s m args meth c G "MinistryDesks" cX1_layMost 8 none) (hH : HouseRep G dyn hb hu) (hk63 : ∀ (kq : kp_K) (q1 : Int32) (q2 : Int32) (q3 : Int32), k63 kq q1 q2 q3 = some r9 → Js p l e ({ frames := 7, cells := 0, slots := 0, locals := 188 } : Room) s m args below meth c G 8 (MQ below (je_Q G none (en2 G r9 dyn) sz) args s 0 0 (je_A G)) (en2 G kq dyn) sz 0 0 63 [(0, .ref (G.2.1 + 0)), (1, .int q1), (2, .int q2), (3, .int q3)] []) (hk70 : ∀ (kq : kp_K) (q1 : Int32) (q2 : Int32) (q3 : Int32) (q4 : Int32), k70 kq q1 q2 q3 q4 = some r9 → Js p l e ({ frames := 7, cells := 0, slots := 0, locals := 188 } : Room) s m args below meth c G 8 (MQ below (je_Q G none (en2 G r9 dyn) sz) args s 0 0 (je_A G)) (en2 G kq dyn) sz 0 0 70 [(0, .ref (G.2.1 + 0)), (1, .int q1), (2, .int q2), (3, .int q3), (4, .int q4)] []) : ∀ (n : Nat) (κ : kp_K) (v1 : Int32) (v2 : Int32) (v3 : Int32) (v4 : Int32) (v5 : Int32), bX1_layMost_79 F hb hu k63 k70 n κ v1 v2 v3 v4 v5 = some r9 → Js p l e ({ frames := 7, cells := 0, slots := 0, locals := 188 } : Room) s m args below meth c G 8 (MQ below (je_Q G none (en2 G r9 dyn) sz) args s 0 0 (je_A G)) (en2 G κ dyn) sz 0 0 79 [(0, .ref (G.2.1 + 0)), (1, .int v1), (2, .int v2), (3, .int v3), (4, .int v4), (5, .int v5)] [] := by
  intro n
  induction n with
  | zero =>
    intro κ v1 v2 v3 v4 v5 h
    cases h
  | succ n ih =>
    intro κ v1 v2 v3 v4 v5 h
    rw [bX1_layMost_79] at h
    refine je_iload C dX1_layMost_79 81 rfl 5 rfl ?_
    refine je_iconst C (2) dX1_layMost_81 82 rfl ic_2 ?_
    refine je_icmp_ge C 197 dX1_layMost_82 85 rfl rfl h (fun h => ?_) (fun h => ?_)
    · refine je_iinc C (1) dX1_layMost_197 200 rfl 4 rfl ic_1 (Nat.le_of_ble_eq_true rfl) [(4, .int (v4 + (1 : Int32))), (0, .ref (G.2.1 + 0)), (1, .int v1), (2, .int v2), (3, .int v3), (5, .int v5)] rfl ?_
      refine je_goto C 70 dX1_layMost_200 rfl ?_
      refine je_sub [1, 2, 3, 4, 0] [(0, .ref (G.2.1 + 0)), (1, .int v1), (2, .int v2), (3, .int v3), (4, .int (v4 + (1 : Int32)))] rfl ?_
      exact hk70 κ v1 v2 v3 (v4 + (1 : Int32)) h
    refine je_iload C dX1_layMost_85 87 rfl 5 rfl ?_
    refine je_iconst C (1) dX1_layMost_87 88 rfl ic_1 ?_
    refine je_icmp_ne C 95 dX1_layMost_88 91 rfl rfl h (fun h => ?_) (fun h => ?_)
    · refine je_iconst C (0) dX1_layMost_95 96 rfl ic_0 ?_
      exact wX1_layMost_96 C hH hk63 hk70 ih κ v1 v2 v3 v4 v5 (0 : Int32) h
    refine je_iconst C (1) dX1_layMost_91 92 rfl ic_1 ?_
    refine je_goto C 96 dX1_layMost_92 rfl ?_
    exact wX1_layMost_96 C hH hk63 hk70 ih κ v1 v2 v3 v4 v5 (1 : Int32) h
set_option maxHeartbeats 4000000 in
theorem wX1_layMost_70 {p : Program} {l : Launch} {e : Env} {s : State} {m : MethodId} {args : Array Value} {below : List Frame} {meth : Method} {c : Code} {G : je_G} {dyn : Nat → Option je_E} {sz : Nat} {F : Nat} {hb : Nat} {hu : hd_T} {r9 : kp_K} {k63 : kp_K → Int32 → Int32 → Int32 → Option (kp_K)} (C : Cx p s m args meth c G "MinistryDesks" cX1_layMost 8 none) (hH : HouseRep G dyn hb hu) (hk63 : ∀ (kq : kp_K) (q1 : Int32) (q2 : Int32) (q3 : Int32), k63 kq q1 q2 q3 = some r9 → Js p l e ({ frames := 7, cells := 0, slots := 0, locals := 188 } : Room) s m args below meth c G 8 (MQ below (je_Q G none (en2 G r9 dyn) sz) args s 0 0 (je_A G)) (en2 G kq dyn) sz 0 0 63 [(0, .ref (G.2.1 + 0)), (1, .int q1), (2, .int q2), (3, .int q3)] []) : ∀ (n : Nat) (κ : kp_K) (v1 : Int32) (v2 : Int32) (v3 : Int32) (v4 : Int32), bX1_layMost_70 F hb hu k63 n κ v1 v2 v3 v4 = some r9 → Js p l e ({ frames := 7, cells := 0, slots := 0, locals := 188 } : Room) s m args below meth c G 8 (MQ below (je_Q G none (en2 G r9 dyn) sz) args s 0 0 (je_A G)) (en2 G κ dyn) sz 0 0 70 [(0, .ref (G.2.1 + 0)), (1, .int v1), (2, .int v2), (3, .int v3), (4, .int v4)] [] := by
  intro n
  induction n with
  | zero =>
    intro κ v1 v2 v3 v4 h
    cases h
  | succ n ih =>
    intro κ v1 v2 v3 v4 h
    rw [bX1_layMost_70] at h
    refine je_iload C dX1_layMost_70 72 rfl 4 rfl ?_
    refine je_iload_n C dX1_layMost_72 73 rfl 2 rfl ?_
    refine je_icmp_ge C 203 dX1_layMost_73 76 rfl rfl h (fun h => ?_) (fun h => ?_)
    · refine je_iinc C (-1) dX1_layMost_203 206 rfl 3 rfl ic_m1 (Nat.le_of_ble_eq_true rfl) [(3, .int (v3 + (-1 : Int32))), (0, .ref (G.2.1 + 0)), (1, .int v1), (2, .int v2), (4, .int v4)] rfl ?_
      refine je_goto C 63 dX1_layMost_206 rfl ?_
      refine je_sub [1, 2, 3, 0] [(0, .ref (G.2.1 + 0)), (1, .int v1), (2, .int v2), (3, .int (v3 + (-1 : Int32)))] rfl ?_
      exact hk63 κ v1 v2 (v3 + (-1 : Int32)) h
    refine je_iconst C (0) dX1_layMost_76 77 rfl ic_0 ?_
    refine je_istore C dX1_layMost_77 79 rfl (Nat.le_of_ble_eq_true rfl) [(5, .int (0 : Int32)), (0, .ref (G.2.1 + 0)), (1, .int v1), (2, .int v2), (3, .int v3), (4, .int v4)] rfl ?_
    refine je_sub [1, 2, 3, 4, 5, 0] [(0, .ref (G.2.1 + 0)), (1, .int v1), (2, .int v2), (3, .int v3), (4, .int v4), (5, .int (0 : Int32))] rfl ?_
    exact wX1_layMost_79 C hH hk63 ih F κ v1 v2 v3 v4 (0 : Int32) h
set_option maxHeartbeats 4000000 in
theorem wX1_layMost_63 {p : Program} {l : Launch} {e : Env} {s : State} {m : MethodId} {args : Array Value} {below : List Frame} {meth : Method} {c : Code} {G : je_G} {dyn : Nat → Option je_E} {sz : Nat} {F : Nat} {hb : Nat} {hu : hd_T} {r9 : kp_K} (C : Cx p s m args meth c G "MinistryDesks" cX1_layMost 8 none) (hH : HouseRep G dyn hb hu) : ∀ (n : Nat) (κ : kp_K) (v1 : Int32) (v2 : Int32) (v3 : Int32), bX1_layMost_63 F hb hu n κ v1 v2 v3 = some r9 → Js p l e ({ frames := 7, cells := 0, slots := 0, locals := 188 } : Room) s m args below meth c G 8 (MQ below (je_Q G none (en2 G r9 dyn) sz) args s 0 0 (je_A G)) (en2 G κ dyn) sz 0 0 63 [(0, .ref (G.2.1 + 0)), (1, .int v1), (2, .int v2), (3, .int v3)] [] := by
  intro n
  induction n with
  | zero =>
    intro κ v1 v2 v3 h
    cases h
  | succ n ih =>
    intro κ v1 v2 v3 h
    rw [bX1_layMost_63] at h
    refine je_iload_n C dX1_layMost_63 64 rfl 3 rfl ?_
    refine je_if_lt C 209 dX1_layMost_64 67 rfl rfl h (fun h => ?_) (fun h => ?_)
    · cases h
      exact je_vret C dX1_layMost_209
    refine je_iconst C (0) dX1_layMost_67 68 rfl ic_0 ?_
    refine je_istore C dX1_layMost_68 70 rfl (Nat.le_of_ble_eq_true rfl) [(4, .int (0 : Int32)), (0, .ref (G.2.1 + 0)), (1, .int v1), (2, .int v2), (3, .int v3)] rfl ?_
    refine je_sub [1, 2, 3, 4, 0] [(0, .ref (G.2.1 + 0)), (1, .int v1), (2, .int v2), (3, .int v3), (4, .int (0 : Int32))] rfl ?_
    exact wX1_layMost_70 C hH ih F κ v1 v2 v3 (0 : Int32) h
set_option maxHeartbeats 4000000 in
theorem wX1_layMost_15 {p : Program} {l : Launch} {e : Env} {s : State} {m : MethodId} {args : Array Value} {below : List Frame} {meth : Method} {c : Code} {G : je_G} {dyn : Nat → Option je_E} {sz : Nat} {F : Nat} {hb : Nat} {hu : hd_T} {r9 : kp_K} (C : Cx p s m args meth c G "MinistryDesks" cX1_layMost 8 none) (hH : HouseRep G dyn hb hu) : ∀ (n : Nat) (κ : kp_K) (v1 : Int32) (v2 : Int32) (v3 : Int32), bX1_layMost_15 F hb hu n κ v1 v2 v3 = some r9 → Js p l e ({ frames := 7, cells := 0, slots := 0, locals := 188 } : Room) s m args below meth c G 8 (MQ below (je_Q G none (en2 G r9 dyn) sz) args s 0 0 (je_A G)) (en2 G κ dyn) sz 0 0 15 [(0, .ref (G.2.1 + 0)), (1, .int v1), (2, .int v2), (3, .int v3)] [] := by
  intro n
  induction n with
  | zero =>
    intro κ v1 v2 v3 h
    cases h
  | succ n ih =>
    intro κ v1 v2 v3 h
    rw [bX1_layMost_15] at h
    refine je_iload_n C dX1_layMost_15 16 rfl 3 rfl ?_
    refine je_iload_n C dX1_layMost_16 17 rfl 2 rfl ?_
    refine je_icmp_ge C 56 dX1_layMost_17 20 rfl rfl h (fun h => ?_) (fun h => ?_)
    · refine je_aload_n C dX1_layMost_56 57 rfl 0 rfl ?_
      refine gX1_253 C dX1_layMost_57 60 rfl ?_
      refine je_iconst C (1) dX1_layMost_60 61 rfl ic_1 ?_
      refine je_isub C dX1_layMost_61 62 rfl ?_
      refine je_lti h (fun t62 h => ?_)
      refine je_istore_n C dX1_layMost_62 63 rfl (Nat.le_of_ble_eq_true rfl) [(3, .int t62), (0, .ref (G.2.1 + 0)), (1, .int v1), (2, .int v2)] rfl ?_
      refine je_sub [1, 2, 3, 0] [(0, .ref (G.2.1 + 0)), (1, .int v1), (2, .int v2), (3, .int t62)] rfl ?_
      exact wX1_layMost_63 C hH F κ v1 v2 t62 h
    refine je_aload_n C dX1_layMost_20 21 rfl 0 rfl ?_
    refine gX1_71 C dX1_layMost_21 24 rfl ?_
    refine je_aload_n C dX1_layMost_24 25 rfl 0 rfl ?_
    refine gX1_253 C dX1_layMost_25 28 rfl ?_
    refine je_iload_n C dX1_layMost_28 29 rfl 3 rfl ?_
    refine je_iconst C (0) dX1_layMost_29 30 rfl ic_0 ?_
    obtain ⟨t30, hg, h⟩ := p_cl_inv h
    refine je_callSi (As := [.int (κ.1 0 11), .int v3, .int (0 : Int32)]) (rest := [.ref (G.2.1 + 59)]) C (metX1_at hg) hdX1_at cwX1_288 rfl ⟨Nat.le_of_ble_eq_true rfl, Nat.le_of_ble_eq_true rfl⟩ (Nat.le_of_ble_eq_true rfl) dX1_layMost_30 33 rfl ⟨Nat.le_refl _, Nat.le_refl _⟩ ?_
    refine je_iconst C (0) dX1_layMost_33 34 rfl ic_0 ?_
    refine jk_iast C kd59 dX1_layMost_34 35 rfl h (fun h => ?_)
    refine jk_lt h (fun k34 h => ?_)
    refine je_aload_n C dX1_layMost_35 36 rfl 0 rfl ?_
    refine gX1_71 C dX1_layMost_36 39 rfl ?_
    refine je_aload_n C dX1_layMost_39 40 rfl 0 rfl ?_
    refine gX1_253 C dX1_layMost_40 43 rfl ?_
    refine je_iload_n C dX1_layMost_43 44 rfl 3 rfl ?_
    refine je_iconst C (1) dX1_layMost_44 45 rfl ic_1 ?_
    obtain ⟨t45, hg, h⟩ := p_cl_inv h
    refine je_callSi (As := [.int (k34.1 0 11), .int v3, .int (1 : Int32)]) (rest := [.ref (G.2.1 + 59)]) C (metX1_at hg) hdX1_at cwX1_288 rfl ⟨Nat.le_of_ble_eq_true rfl, Nat.le_of_ble_eq_true rfl⟩ (Nat.le_of_ble_eq_true rfl) dX1_layMost_45 48 rfl ⟨Nat.le_refl _, Nat.le_refl _⟩ ?_
    refine je_iconst C (0) dX1_layMost_48 49 rfl ic_0 ?_
    refine jk_iast C kd59 dX1_layMost_49 50 rfl h (fun h => ?_)
    refine jk_lt h (fun k49 h => ?_)
    refine je_iinc C (1) dX1_layMost_50 53 rfl 3 rfl ic_1 (Nat.le_of_ble_eq_true rfl) [(3, .int (v3 + (1 : Int32))), (0, .ref (G.2.1 + 0)), (1, .int v1), (2, .int v2)] rfl ?_
    refine je_goto C 15 dX1_layMost_53 rfl ?_
    refine je_sub [1, 2, 3, 0] [(0, .ref (G.2.1 + 0)), (1, .int v1), (2, .int v2), (3, .int (v3 + (1 : Int32)))] rfl ?_
    exact ih k49 v1 v2 (v3 + (1 : Int32)) h
set_option maxHeartbeats 4000000 in
theorem metX1_layMost {l : Launch} {G : je_G} {dyn : Nat → Option je_E} {sz : Nat} {F : Nat} {hb : Nat} {hu : hd_T} {κ : kp_K} {v1 : Int32} {r9 : kp_K} (hH : HouseRep G dyn hb hu) (h : pX1_layMost F hb hu κ v1 = some r9) : MetS l G yX1_layMost cX1_layMost 8 none 7 188 0 0 [.ref (G.2.1 + 0), .int v1] (en2 G κ dyn) sz none (en2 G r9 dyn) sz := by
  refine je_met "MinistryDesks" rfl (by decide +kernel) (Nat.le_of_ble_eq_true rfl) [(0, .ref (G.2.1 + 0)), (1, .int v1)] rfl (fun p e s m args below meth c C => ?_)
  unfold pX1_layMost at h
  refine je_iconst C (1) dX1_layMost_0 1 rfl ic_1 ?_
  refine je_aload_n C dX1_layMost_1 2 rfl 0 rfl ?_
  obtain ⟨hx, h⟩ := p_hs_inv h
  refine gX1_22 C hx dX1_layMost_2 5 rfl ?_
  refine jh_listN C hH (t := 1) (by decide) q249 rfl dX1_layMost_5 8 rfl ?_
  refine jh_size (t := 1) (rest := [.int (1 : Int32)]) C hH (by decide) cwX1_160 ⟨Nat.le_of_ble_eq_true rfl, Nat.le_of_ble_eq_true rfl⟩ (Nat.le_of_ble_eq_true rfl) dX1_layMost_8 11 rfl ⟨Nat.le_refl _, Nat.le_refl _⟩ ?_
  refine je_ishl C dX1_layMost_11 12 rfl ?_
  refine je_lti h (fun t12 h => ?_)
  refine je_istore_n C dX1_layMost_12 13 rfl (Nat.le_of_ble_eq_true rfl) [(2, .int t12), (0, .ref (G.2.1 + 0)), (1, .int v1)] rfl ?_
  refine je_iconst C (0) dX1_layMost_13 14 rfl ic_0 ?_
  refine je_istore_n C dX1_layMost_14 15 rfl (Nat.le_of_ble_eq_true rfl) [(3, .int (0 : Int32)), (2, .int t12), (0, .ref (G.2.1 + 0)), (1, .int v1)] rfl ?_
  refine je_sub [2, 3, 1, 0] [(0, .ref (G.2.1 + 0)), (1, .int v1), (2, .int t12), (3, .int (0 : Int32))] rfl ?_
  exact wX1_layMost_15 C hH F κ v1 t12 (0 : Int32) h
theorem hdX1_layCounts : je_hd yX1_layCounts 1 := ⟨by decide +kernel, by decide +kernel, by decide +kernel⟩
theorem hdX1_layMost : je_hd yX1_layMost 1 := ⟨by decide +kernel, by decide +kernel, by decide +kernel⟩
theorem hdX1_layPoints : je_hd yX1_layPoints 1 := ⟨by decide +kernel, by decide +kernel, by decide +kernel⟩
theorem cwX1_319 : GoodIn lw_all (wsV "MinistryDesks" 319 "MinistryDesks" yX1_layPoints (ws_ yX1_layPoints cX1_layPoints 4 none)) := lw_V q1385 q1387 qs53 q161 q1388
theorem cwX1_322 : GoodIn lw_all (wsV "MinistryDesks" 322 "MinistryDesks" yX1_layCounts (ws_ yX1_layCounts cX1_layCounts 4 none)) := lw_V q1395 q1397 qs55 q161 q1398
theorem cwX1_326 : GoodIn lw_all (wsV "MinistryDesks" 326 "MinistryDesks" yX1_layMost (ws_ yX1_layMost cX1_layMost 8 none)) := lw_V q1400 q1402 qs56 q161 q1403
set_option maxHeartbeats 4000000 in
theorem metX1_layBest {l : Launch} {G : je_G} {dyn : Nat → Option je_E} {sz : Nat} {F : Nat} {hb : Nat} {hu : hd_T} {κ : kp_K} {v1 : Int32} {r9 : kp_K} (hH : HouseRep G dyn hb hu) (h : pX1_layBest F hb hu κ v1 = some r9) : MetS l G yX1_layBest cX1_layBest 2 none 8 215 0 0 [.ref (G.2.1 + 0), .int v1] (en2 G κ dyn) sz none (en2 G r9 dyn) sz := by
  refine je_met "MinistryDesks" rfl (by decide +kernel) (Nat.le_of_ble_eq_true rfl) [(0, .ref (G.2.1 + 0)), (1, .int v1)] rfl (fun p e s m args below meth c C => ?_)
  unfold pX1_layBest at h
  refine je_aload_n C dX1_layBest_0 1 rfl 0 rfl ?_
  refine je_iload_n C dX1_layBest_1 2 rfl 1 rfl ?_
  obtain ⟨k2, hg, h⟩ := p_cl_inv h
  refine je_callVv (As := [.int v1]) (rest := []) C (metX1_layPoints hH hg) (en2_at kd0) rfl hdX1_layPoints rfl cwX1_319 rfl ⟨Nat.le_of_ble_eq_true rfl, Nat.le_of_ble_eq_true rfl⟩ (Nat.le_of_ble_eq_true rfl) dX1_layBest_2 5 rfl ⟨Nat.le_refl _, Nat.le_refl _⟩ ?_
  refine je_aload_n C dX1_layBest_5 6 rfl 0 rfl ?_
  refine je_iconst C (1) dX1_layBest_6 7 rfl ic_1 ?_
  obtain ⟨k7, hg, h⟩ := p_cl_inv h
  refine je_callVv (As := [.int (1 : Int32)]) (rest := []) C (metX1_layCounts hH hg) (en2_at kd0) rfl hdX1_layCounts rfl cwX1_322 rfl ⟨Nat.le_of_ble_eq_true rfl, Nat.le_of_ble_eq_true rfl⟩ (Nat.le_of_ble_eq_true rfl) dX1_layBest_7 10 rfl ⟨Nat.le_refl _, Nat.le_refl _⟩ ?_
  refine je_aload_n C dX1_layBest_10 11 rfl 0 rfl ?_
  refine je_iload_n C dX1_layBest_11 12 rfl 1 rfl ?_
  obtain ⟨k12, hg, h⟩ := p_cl_inv h
  refine je_callVv (As := [.int v1]) (rest := []) C (metX1_layMost hH hg) (en2_at kd0) rfl hdX1_layMost rfl cwX1_326 rfl ⟨Nat.le_of_ble_eq_true rfl, Nat.le_of_ble_eq_true rfl⟩ (Nat.le_of_ble_eq_true rfl) dX1_layBest_12 15 rfl ⟨Nat.le_refl _, Nat.le_refl _⟩ ?_
  cases h
  exact je_vret C dX1_layBest_15
theorem hdX1_layBest : je_hd yX1_layBest 1 := ⟨by decide +kernel, by decide +kernel, by decide +kernel⟩
theorem cwX1_329 : GoodIn lw_all (wsV "MinistryDesks" 329 "MinistryDesks" yX1_layBest (ws_ yX1_layBest cX1_layBest 2 none)) := lw_V q1381 q1383 qs52 q161 q1384
set_option maxHeartbeats 4000000 in
theorem metX1_best {l : Launch} {G : je_G} {dyn : Nat → Option je_E} {sz : Nat} {F : Nat} {hb : Nat} {hu : hd_T} {κ : kp_K} {v1 : Int32} {r9 : Int32 × kp_K} (hH : HouseRep G dyn hb hu) (h : pX1_best F hb hu κ v1 = some r9) : MetS l G yX1_best cX1_best 2 (some .int) 9 236 0 0 [.ref (G.2.1 + 0), .int v1] (en2 G κ dyn) sz (some (.int r9.1)) (en2 G r9.2 dyn) sz := by
  refine je_met "MinistryDesks" rfl (by decide +kernel) (Nat.le_of_ble_eq_true rfl) [(0, .ref (G.2.1 + 0)), (1, .int v1)] rfl (fun p e s m args below meth c C => ?_)
  unfold pX1_best at h
  refine je_aload_n C dX1_best_0 1 rfl 0 rfl ?_
  refine je_iload_n C dX1_best_1 2 rfl 1 rfl ?_
  obtain ⟨t2, hg, h⟩ := p_cl_inv h
  refine je_callVi (As := [.int v1]) (rest := []) C (metX1_isDesk hH hg) (en2_at kd0) rfl hdX1_isDesk rfl cwX1_198 rfl ⟨Nat.le_of_ble_eq_true rfl, Nat.le_of_ble_eq_true rfl⟩ (Nat.le_of_ble_eq_true rfl) dX1_best_2 5 rfl ⟨Nat.le_refl _, Nat.le_refl _⟩ ?_
  refine je_if_ne C 10 dX1_best_5 8 rfl rfl h (fun h => ?_) (fun h => ?_)
  · refine je_aload_n C dX1_best_10 11 rfl 0 rfl ?_
    refine je_iload_n C dX1_best_11 12 rfl 1 rfl ?_
    obtain ⟨k12, hg, h⟩ := p_cl_inv h
    refine je_callVv (As := [.int v1]) (rest := []) C (metX1_layBest hH hg) (en2_at kd0) rfl hdX1_layBest rfl cwX1_329 rfl ⟨Nat.le_of_ble_eq_true rfl, Nat.le_of_ble_eq_true rfl⟩ (Nat.le_of_ble_eq_true rfl) dX1_best_12 15 rfl ⟨Nat.le_refl _, Nat.le_refl _⟩ ?_
    refine je_aload_n C dX1_best_15 16 rfl 0 rfl ?_
    refine gX1_71 C dX1_best_16 19 rfl ?_
    refine je_iconst C (0) dX1_best_19 20 rfl ic_0 ?_
    refine je_iconst C (0) dX1_best_20 21 rfl ic_0 ?_
    refine je_iconst C (0) dX1_best_21 22 rfl ic_0 ?_
    obtain ⟨t22, hg, h⟩ := p_cl_inv h
    refine je_callSi (As := [.int (0 : Int32), .int (0 : Int32), .int (0 : Int32)]) (rest := [.ref (G.2.1 + 59)]) C (metX1_at hg) hdX1_at cwX1_288 rfl ⟨Nat.le_of_ble_eq_true rfl, Nat.le_of_ble_eq_true rfl⟩ (Nat.le_of_ble_eq_true rfl) dX1_best_22 25 rfl ⟨Nat.le_refl _, Nat.le_refl _⟩ ?_
    refine jk_iald C kd59 dX1_best_25 26 rfl h (fun h => ?_)
    cases h
    exact je_iret C dX1_best_26
  refine je_iconst C (-1) dX1_best_8 9 rfl ic_m1 ?_
  cases h
  exact je_iret C dX1_best_9
theorem gX1_332 {p : Program} {l : Launch} {e : Env} {R : Room} {s : State} {m : MethodId} {args : Array Value} {below : List Frame} {meth : Method} {c : Code} {Q : State → Prop} {G : je_G} {cc : ByteArray} {nL : Nat} {rt : Option FieldType} {sz cells slots pc : Nat} {L : List (Nat × Value)} {st : List Value} {κ : kp_K} {dyn : Nat → Option je_E} (C : Cx p s m args meth c G "MinistryDesks" cc nL rt) (d : decode cc pc = .ok (.getfield 332, 3)) (n : Nat) (hn : pc + 3 = n) (kk : Js p l e R s m args below meth c G nL Q (en2 G κ dyn) sz cells slots n L (.int (κ.1 0 18) :: st)) : Js p l e R s m args below meth c G nL Q (en2 G κ dyn) sz cells slots pc L (.ref (G.2.1 + 0) :: st) := jk_getI (k := 18) C kd0 rfl in_X1 rfl (by decide) q460 rfl d n hn kk
theorem sX1_332 {p : Program} {l : Launch} {e : Env} {R : Room} {s : State} {m : MethodId} {args : Array Value} {below : List Frame} {meth : Method} {c : Code} {Q : State → Prop} {G : je_G} {cc : ByteArray} {nL : Nat} {rt : Option FieldType} {sz cells slots pc : Nat} {L : List (Nat × Value)} {st : List Value} {κ : kp_K} {dyn : Nat → Option je_E} (C : Cx p s m args meth c G "MinistryDesks" cc nL rt) {v : Int32} (d : decode cc pc = .ok (.putfield 332, 3)) (n : Nat) (hn : pc + 3 = n) (kk : Js p l e R s m args below meth c G nL Q (en2 G (s_i κ 0 18 v) dyn) sz cells slots n L st) : Js p l e R s m args below meth c G nL Q (en2 G κ dyn) sz cells slots pc L (.int v :: .ref (G.2.1 + 0) :: st) := jk_putI (k := 18) C kd0 rfl in_X1 tyX1 tyX1_ok nmX1 rfl (by decide) q460 rfl rfl rfl d n hn kk
theorem sX1_335 {p : Program} {l : Launch} {e : Env} {R : Room} {s : State} {m : MethodId} {args : Array Value} {below : List Frame} {meth : Method} {c : Code} {Q : State → Prop} {G : je_G} {cc : ByteArray} {nL : Nat} {rt : Option FieldType} {sz cells slots pc : Nat} {L : List (Nat × Value)} {st : List Value} {κ : kp_K} {dyn : Nat → Option je_E} (C : Cx p s m args meth c G "MinistryDesks" cc nL rt) {v : Int32} (d : decode cc pc = .ok (.putfield 335, 3)) (n : Nat) (hn : pc + 3 = n) (kk : Js p l e R s m args below meth c G nL Q (en2 G (s_i κ 0 19 v) dyn) sz cells slots n L st) : Js p l e R s m args below meth c G nL Q (en2 G κ dyn) sz cells slots pc L (.int v :: .ref (G.2.1 + 0) :: st) := jk_putI (k := 19) C kd0 rfl in_X1 tyX1 tyX1_ok nmX1 rfl (by decide) q461 rfl rfl rfl d n hn kk
set_option maxHeartbeats 4000000 in
theorem wX1_goAlong_161 {p : Program} {l : Launch} {e : Env} {s : State} {m : MethodId} {args : Array Value} {below : List Frame} {meth : Method} {c : Code} {G : je_G} {dyn : Nat → Option je_E} {sz : Nat} {F : Nat} {hb : Nat} {hu : hd_T} {r9 : Int32 × kp_K} {k17 : kp_K → Int32 → Int32 → Option Nat → Int32 → Int32 → Int32 → Int32 → Option (Int32 × kp_K)} (C : Cx p s m args meth c G "MinistryDesks" cX1_goAlong 9 (some .int)) (hH : HouseRep G dyn hb hu) (hk17 : ∀ (kq : kp_K) (q1 : Int32) (q2 : Int32) (q3 : Option Nat) (q4 : Int32) (q5 : Int32) (q6 : Int32) (q7 : Int32), k17 kq q1 q2 q3 q4 q5 q6 q7 = some r9 → Js p l e ({ frames := 7, cells := 0, slots := 0, locals := 188 } : Room) s m args below meth c G 9 (MQ below (je_Q G (some (.int r9.1)) (en2 G r9.2 dyn) sz) args s 0 0 (je_A G)) (en2 G kq dyn) sz 0 0 17 [(0, .ref (G.2.1 + 0)), (1, .int q1), (2, .int q2), (3, va_rf (Option.map (fun q => G.2.1 + q) q3)), (4, .int q4), (5, .int q5), (6, .int q6), (7, .int q7)] []) (κ : kp_K) (v1 : Int32) (v2 : Int32) (o3 : Option Nat) (v4 : Int32) (v5 : Int32) (v6 : Int32) (v7 : Int32) (v8 : Int32) (h : bX1_goAlong_161 F hb hu k17 κ v1 v2 o3 v4 v5 v6 v7 v8 = some r9) : Js p l e ({ frames := 7, cells := 0, slots := 0, locals := 188 } : Room) s m args below meth c G 9 (MQ below (je_Q G (some (.int r9.1)) (en2 G r9.2 dyn) sz) args s 0 0 (je_A G)) (en2 G κ dyn) sz 0 0 161 [(0, .ref (G.2.1 + 0)), (1, .int v1), (2, .int v2), (3, va_rf (Option.map (fun q => G.2.1 + q) o3)), (4, .int v4), (5, .int v5), (6, .int v6), (7, .int v7), (8, .int v8)] [] := by
  unfold bX1_goAlong_161 at h
  refine je_aload_n C dX1_goAlong_161 162 rfl 0 rfl ?_
  refine je_dup C dX1_goAlong_162 163 rfl rfl ?_
  refine gX1_332 C dX1_goAlong_163 166 rfl ?_
  refine je_iconst C (1) dX1_goAlong_166 167 rfl ic_1 ?_
  refine je_iadd C dX1_goAlong_167 168 rfl ?_
  refine sX1_332 C dX1_goAlong_168 171 rfl ?_
  refine jk_lt h (fun k168 h => ?_)
  refine je_iload C dX1_goAlong_171 173 rfl 8 rfl ?_
  refine je_if_ge C 179 dX1_goAlong_173 176 rfl rfl h (fun h => ?_) (fun h => ?_)
  · refine je_iload C dX1_goAlong_179 181 rfl 4 rfl ?_
    refine je_iconst C (1) dX1_goAlong_181 182 rfl ic_1 ?_
    refine je_iload C dX1_goAlong_182 184 rfl 8 rfl ?_
    refine je_ishl C dX1_goAlong_184 185 rfl ?_
    refine je_iconst C (-1) dX1_goAlong_185 186 rfl ic_m1 ?_
    refine je_ixor C dX1_goAlong_186 187 rfl ?_
    refine je_iand C dX1_goAlong_187 188 rfl ?_
    refine je_iconst C (1) dX1_goAlong_188 189 rfl ic_1 ?_
    refine je_aload_n C dX1_goAlong_189 190 rfl 0 rfl ?_
    refine je_iload C dX1_goAlong_190 192 rfl 7 rfl ?_
    obtain ⟨t192, hg, h⟩ := p_cl_inv h
    refine je_callVi (As := [.int v7]) (rest := [.int (1 : Int32), .int (v4 &&& (((1 : Int32) <<< (v8 &&& 31)) ^^^ (-1 : Int32)))]) C (metX1_comingFact hH hg) (en2_at kd0) rfl hdX1_comingFact rfl cwX1_276 rfl ⟨Nat.le_of_ble_eq_true rfl, Nat.le_of_ble_eq_true rfl⟩ (Nat.le_of_ble_eq_true rfl) dX1_goAlong_192 195 rfl ⟨Nat.le_refl _, Nat.le_refl _⟩ ?_
    refine je_ishl C dX1_goAlong_195 196 rfl ?_
    refine je_ior C dX1_goAlong_196 197 rfl ?_
    refine je_lti h (fun t197 h => ?_)
    refine je_istore C dX1_goAlong_197 199 rfl (Nat.le_of_ble_eq_true rfl) [(4, .int t197), (0, .ref (G.2.1 + 0)), (1, .int v1), (2, .int v2), (3, va_rf (Option.map (fun q => G.2.1 + q) o3)), (5, .int v5), (6, .int v6), (7, .int v7), (8, .int v8)] (by cases o3 <;> rfl) ?_
    refine je_iconst C (1) dX1_goAlong_199 200 rfl ic_1 ?_
    refine je_istore C dX1_goAlong_200 202 rfl (Nat.le_of_ble_eq_true rfl) [(5, .int (1 : Int32)), (4, .int t197), (0, .ref (G.2.1 + 0)), (1, .int v1), (2, .int v2), (3, va_rf (Option.map (fun q => G.2.1 + q) o3)), (6, .int v6), (7, .int v7), (8, .int v8)] rfl ?_
    refine je_iinc C (1) dX1_goAlong_202 205 rfl 7 rfl ic_1 (Nat.le_of_ble_eq_true rfl) [(7, .int (v7 + (1 : Int32))), (5, .int (1 : Int32)), (4, .int t197), (0, .ref (G.2.1 + 0)), (1, .int v1), (2, .int v2), (3, va_rf (Option.map (fun q => G.2.1 + q) o3)), (6, .int v6), (8, .int v8)] rfl ?_
    refine je_goto C 17 dX1_goAlong_205 rfl ?_
    refine je_sub [3, 4, 5, 6, 2, 1, 7, 0] [(0, .ref (G.2.1 + 0)), (1, .int v1), (2, .int v2), (3, va_rf (Option.map (fun q => G.2.1 + q) o3)), (4, .int t197), (5, .int (1 : Int32)), (6, .int v6), (7, .int (v7 + (1 : Int32)))] rfl ?_
    exact hk17 k168 v1 v2 o3 t197 (1 : Int32) v6 (v7 + (1 : Int32)) h
  refine je_goto C 202 dX1_goAlong_176 rfl ?_
  refine je_iinc C (1) dX1_goAlong_202 205 rfl 7 rfl ic_1 (Nat.le_of_ble_eq_true rfl) [(7, .int (v7 + (1 : Int32))), (0, .ref (G.2.1 + 0)), (1, .int v1), (2, .int v2), (3, va_rf (Option.map (fun q => G.2.1 + q) o3)), (4, .int v4), (5, .int v5), (6, .int v6), (8, .int v8)] rfl ?_
  refine je_goto C 17 dX1_goAlong_205 rfl ?_
  refine je_sub [1, 2, 3, 4, 5, 6, 7, 0] [(0, .ref (G.2.1 + 0)), (1, .int v1), (2, .int v2), (3, va_rf (Option.map (fun q => G.2.1 + q) o3)), (4, .int v4), (5, .int v5), (6, .int v6), (7, .int (v7 + (1 : Int32)))] rfl ?_
  exact hk17 k168 v1 v2 o3 v4 v5 v6 (v7 + (1 : Int32)) h
set_option maxHeartbeats 4000000 in
theorem wX1_goAlong_109 {p : Program} {l : Launch} {e : Env} {s : State} {m : MethodId} {args : Array Value} {below : List Frame} {meth : Method} {c : Code} {G : je_G} {dyn : Nat → Option je_E} {sz : Nat} {F : Nat} {hb : Nat} {hu : hd_T} {r9 : Int32 × kp_K} {k17 : kp_K → Int32 → Int32 → Option Nat → Int32 → Int32 → Int32 → Int32 → Option (Int32 × kp_K)} (C : Cx p s m args meth c G "MinistryDesks" cX1_goAlong 9 (some .int)) (hH : HouseRep G dyn hb hu) (hk17 : ∀ (kq : kp_K) (q1 : Int32) (q2 : Int32) (q3 : Option Nat) (q4 : Int32) (q5 : Int32) (q6 : Int32) (q7 : Int32), k17 kq q1 q2 q3 q4 q5 q6 q7 = some r9 → Js p l e ({ frames := 7, cells := 0, slots := 0, locals := 188 } : Room) s m args below meth c G 9 (MQ below (je_Q G (some (.int r9.1)) (en2 G r9.2 dyn) sz) args s 0 0 (je_A G)) (en2 G kq dyn) sz 0 0 17 [(0, .ref (G.2.1 + 0)), (1, .int q1), (2, .int q2), (3, va_rf (Option.map (fun q => G.2.1 + q) q3)), (4, .int q4), (5, .int q5), (6, .int q6), (7, .int q7)] []) (κ : kp_K) (v1 : Int32) (v2 : Int32) (o3 : Option Nat) (v4 : Int32) (v5 : Int32) (v6 : Int32) (v7 : Int32) (h : bX1_goAlong_109 F hb hu k17 κ v1 v2 o3 v4 v5 v6 v7 = some r9) : Js p l e ({ frames := 7, cells := 0, slots := 0, locals := 188 } : Room) s m args below meth c G 9 (MQ below (je_Q G (some (.int r9.1)) (en2 G r9.2 dyn) sz) args s 0 0 (je_A G)) (en2 G κ dyn) sz 0 0 109 [(0, .ref (G.2.1 + 0)), (1, .int v1), (2, .int v2), (3, va_rf (Option.map (fun q => G.2.1 + q) o3)), (4, .int v4), (5, .int v5), (6, .int v6), (7, .int v7)] [] := by
  unfold bX1_goAlong_109 at h
  refine je_aload_n C dX1_goAlong_109 110 rfl 0 rfl ?_
  refine je_iload_n C dX1_goAlong_110 111 rfl 1 rfl ?_
  refine je_iload C dX1_goAlong_111 113 rfl 7 rfl ?_
  refine je_iload C dX1_goAlong_113 115 rfl 4 rfl ?_
  refine je_iload C dX1_goAlong_115 117 rfl 5 rfl ?_
  obtain ⟨t117, hg, h⟩ := p_cl_inv h
  refine je_callVi (As := [.int v1, .int v7, .int v4, .int v5]) (rest := []) C (metX1_isTime hH hg) (en2_at kd0) rfl hdX1_isTime rfl cwX1_301 rfl ⟨Nat.le_of_ble_eq_true rfl, Nat.le_of_ble_eq_true rfl⟩ (Nat.le_of_ble_eq_true rfl) dX1_goAlong_117 120 rfl ⟨Nat.le_refl _, Nat.le_refl _⟩ ?_
  refine je_if_ne C 137 dX1_goAlong_120 123 rfl rfl h (fun h => ?_) (fun h => ?_)
  · refine je_aload_n C dX1_goAlong_137 138 rfl 0 rfl ?_
    refine je_iload C dX1_goAlong_138 140 rfl 7 rfl ?_
    refine je_iload C dX1_goAlong_140 142 rfl 4 rfl ?_
    obtain ⟨t142, hg, h⟩ := p_cl_inv h
    refine je_callVi (As := [.int v7, .int v4]) (rest := []) C (metX1_choice hH hg) (en2_at kd0) rfl hdX1_choice rfl cwX1_305 rfl ⟨Nat.le_of_ble_eq_true rfl, Nat.le_of_ble_eq_true rfl⟩ (Nat.le_of_ble_eq_true rfl) dX1_goAlong_142 145 rfl ⟨Nat.le_refl _, Nat.le_refl _⟩ ?_
    refine je_istore C dX1_goAlong_145 147 rfl (Nat.le_of_ble_eq_true rfl) [(8, .int t142), (0, .ref (G.2.1 + 0)), (1, .int v1), (2, .int v2), (3, va_rf (Option.map (fun q => G.2.1 + q) o3)), (4, .int v4), (5, .int v5), (6, .int v6), (7, .int v7)] rfl ?_
    refine je_aload_n C dX1_goAlong_147 148 rfl 1 rfl ?_
    refine gX1_332 C dX1_goAlong_148 151 rfl ?_
    refine je_iload_n C dX1_goAlong_151 152 rfl 3 rfl ?_
    refine je_icmp_ne C 161 dX1_goAlong_152 155 rfl rfl h (fun h => ?_) (fun h => ?_)
    · refine je_sub [1, 2, 3, 4, 5, 6, 7, 8, 0] [(0, .ref (G.2.1 + 0)), (1, .int v1), (2, .int v2), (3, va_rf (Option.map (fun q => G.2.1 + q) o3)), (4, .int v4), (5, .int v5), (6, .int v6), (7, .int v7), (8, .int t142)] rfl ?_
      exact wX1_goAlong_161 C hH hk17 κ v1 v2 o3 v4 v5 v6 v7 t142 h
    refine je_aload_n C dX1_goAlong_155 156 rfl 1 rfl ?_
    refine je_iload C dX1_goAlong_156 158 rfl 0 rfl ?_
    refine sX1_335 C dX1_goAlong_158 161 rfl ?_
    refine jk_lt h (fun k158 h => ?_)
    refine je_sub [1, 2, 3, 4, 5, 6, 7, 8, 0] [(0, .ref (G.2.1 + 0)), (1, .int v1), (2, .int v2), (3, va_rf (Option.map (fun q => G.2.1 + q) o3)), (4, .int v4), (5, .int v5), (6, .int v6), (7, .int v7), (8, .int t142)] rfl ?_
    exact wX1_goAlong_161 C hH hk17 k158 v1 v2 o3 v4 v5 v6 v7 t142 h
  refine je_aload_n C dX1_goAlong_123 124 rfl 0 rfl ?_
  refine je_iload_n C dX1_goAlong_124 125 rfl 1 rfl ?_
  refine je_iload C dX1_goAlong_125 127 rfl 7 rfl ?_
  refine je_iload C dX1_goAlong_127 129 rfl 4 rfl ?_
  obtain ⟨t129, hg, h⟩ := p_cl_inv h
  refine je_callVi (As := [.int v1, .int v7, .int v4]) (rest := []) C (metX1_next hH hg) (en2_at kd0) rfl hdX1_next rfl cwX1_311 rfl ⟨Nat.le_of_ble_eq_true rfl, Nat.le_of_ble_eq_true rfl⟩ (Nat.le_of_ble_eq_true rfl) dX1_goAlong_129 132 rfl ⟨Nat.le_refl _, Nat.le_refl _⟩ ?_
  refine je_istore C dX1_goAlong_132 134 rfl (Nat.le_of_ble_eq_true rfl) [(4, .int t129), (0, .ref (G.2.1 + 0)), (1, .int v1), (2, .int v2), (3, va_rf (Option.map (fun q => G.2.1 + q) o3)), (5, .int v5), (6, .int v6), (7, .int v7)] (by cases o3 <;> rfl) ?_
  refine je_goto C 202 dX1_goAlong_134 rfl ?_
  refine je_iinc C (1) dX1_goAlong_202 205 rfl 7 rfl ic_1 (Nat.le_of_ble_eq_true rfl) [(7, .int (v7 + (1 : Int32))), (4, .int t129), (0, .ref (G.2.1 + 0)), (1, .int v1), (2, .int v2), (3, va_rf (Option.map (fun q => G.2.1 + q) o3)), (5, .int v5), (6, .int v6)] rfl ?_
  refine je_goto C 17 dX1_goAlong_205 rfl ?_
  refine je_sub [2, 3, 4, 5, 1, 6, 7, 0] [(0, .ref (G.2.1 + 0)), (1, .int v1), (2, .int v2), (3, va_rf (Option.map (fun q => G.2.1 + q) o3)), (4, .int t129), (5, .int v5), (6, .int v6), (7, .int (v7 + (1 : Int32)))] rfl ?_
  exact hk17 κ v1 v2 o3 t129 v5 v6 (v7 + (1 : Int32)) h
set_option maxHeartbeats 4000000 in
theorem wX1_goAlong_39 {p : Program} {l : Launch} {e : Env} {s : State} {m : MethodId} {args : Array Value} {below : List Frame} {meth : Method} {c : Code} {G : je_G} {dyn : Nat → Option je_E} {sz : Nat} {F : Nat} {hb : Nat} {hu : hd_T} {r9 : Int32 × kp_K} {k17 : kp_K → Int32 → Int32 → Option Nat → Int32 → Int32 → Int32 → Int32 → Option (Int32 × kp_K)} (C : Cx p s m args meth c G "MinistryDesks" cX1_goAlong 9 (some .int)) (hH : HouseRep G dyn hb hu) (hk17 : ∀ (kq : kp_K) (q1 : Int32) (q2 : Int32) (q3 : Option Nat) (q4 : Int32) (q5 : Int32) (q6 : Int32) (q7 : Int32), k17 kq q1 q2 q3 q4 q5 q6 q7 = some r9 → Js p l e ({ frames := 7, cells := 0, slots := 0, locals := 188 } : Room) s m args below meth c G 9 (MQ below (je_Q G (some (.int r9.1)) (en2 G r9.2 dyn) sz) args s 0 0 (je_A G)) (en2 G kq dyn) sz 0 0 17 [(0, .ref (G.2.1 + 0)), (1, .int q1), (2, .int q2), (3, va_rf (Option.map (fun q => G.2.1 + q) q3)), (4, .int q4), (5, .int q5), (6, .int q6), (7, .int q7)] []) (κ : kp_K) (v1 : Int32) (v2 : Int32) (o3 : Option Nat) (v4 : Int32) (v5 : Int32) (v6 : Int32) (v7 : Int32) (h : bX1_goAlong_39 F hb hu k17 κ v1 v2 o3 v4 v5 v6 v7 = some r9) : Js p l e ({ frames := 7, cells := 0, slots := 0, locals := 188 } : Room) s m args below meth c G 9 (MQ below (je_Q G (some (.int r9.1)) (en2 G r9.2 dyn) sz) args s 0 0 (je_A G)) (en2 G κ dyn) sz 0 0 39 [(0, .ref (G.2.1 + 0)), (1, .int v1), (2, .int v2), (3, va_rf (Option.map (fun q => G.2.1 + q) o3)), (4, .int v4), (5, .int v5), (6, .int v6), (7, .int v7)] [] := by
  unfold bX1_goAlong_39 at h
  refine je_aload_n C dX1_goAlong_39 40 rfl 0 rfl ?_
  refine gX1_58 C dX1_goAlong_40 43 rfl ?_
  refine je_iload C dX1_goAlong_43 45 rfl 7 rfl ?_
  refine jk_iald C kd55 dX1_goAlong_45 46 rfl h (fun h => ?_)
  refine je_iconst C (2) dX1_goAlong_46 47 rfl ic_2 ?_
  refine je_icmp_ne C 109 dX1_goAlong_47 50 rfl rfl h (fun h => ?_) (fun h => ?_)
  · exact wX1_goAlong_109 C hH hk17 κ v1 v2 o3 v4 v5 v6 v7 h
  refine je_aloadR_n C dX1_goAlong_50 51 rfl 3 rfl ?_
  refine je_ifnullM C 109 dX1_goAlong_51 54 rfl rfl h (fun h => ?_) (fun h => ?_)
  · exact wX1_goAlong_109 C hH hk17 κ v1 v2 o3 v4 v5 v6 v7 h
  refine je_aloadR_n C dX1_goAlong_54 55 rfl 3 rfl ?_
  refine je_aload_n C dX1_goAlong_55 56 rfl 0 rfl ?_
  refine gX1_62 C dX1_goAlong_56 59 rfl ?_
  refine je_iload C dX1_goAlong_59 61 rfl 7 rfl ?_
  refine jk_iald C kd56 dX1_goAlong_61 62 rfl h (fun h => ?_)
  refine je_lti h (fun i62 h => ?_)
  obtain ⟨z_o3, n_o3, he, hz9, h⟩ := p_zn_inv h
  refine jk_zaldM C he hz9 dX1_goAlong_62 63 rfl h (fun h => ?_)
  refine je_if_eq C 109 dX1_goAlong_63 66 rfl rfl h (fun h => ?_) (fun h => ?_)
  · exact wX1_goAlong_109 C hH hk17 κ v1 v2 o3 v4 v5 v6 v7 h
  refine je_aload_n C dX1_goAlong_66 67 rfl 0 rfl ?_
  refine je_iload C dX1_goAlong_67 69 rfl 7 rfl ?_
  refine je_iload C dX1_goAlong_69 71 rfl 4 rfl ?_
  obtain ⟨t71, hg, h⟩ := p_cl_inv h
  refine je_callVi (As := [.int v7, .int v4]) (rest := []) C (metX1_gain hH hg) (en2_at kd0) rfl hdX1_gain rfl cwX1_308 rfl ⟨Nat.le_of_ble_eq_true rfl, Nat.le_of_ble_eq_true rfl⟩ (Nat.le_of_ble_eq_true rfl) dX1_goAlong_71 74 rfl ⟨Nat.le_refl _, Nat.le_refl _⟩ ?_
  refine je_if_le C 109 dX1_goAlong_74 77 rfl rfl h (fun h => ?_) (fun h => ?_)
  · exact wX1_goAlong_109 C hH hk17 κ v1 v2 o3 v4 v5 v6 v7 h
  refine je_iload C dX1_goAlong_77 79 rfl 6 rfl ?_
  refine je_aload_n C dX1_goAlong_79 80 rfl 0 rfl ?_
  refine je_aload_n C dX1_goAlong_80 81 rfl 0 rfl ?_
  obtain ⟨hx, h⟩ := p_hs_inv h
  refine gX1_22 C hx dX1_goAlong_81 84 rfl ?_
  refine jh_listN C hH (t := 3) (by decide) q257 rfl dX1_goAlong_84 87 rfl ?_
  refine je_aload_n C dX1_goAlong_87 88 rfl 0 rfl ?_
  refine gX1_62 C dX1_goAlong_88 91 rfl ?_
  refine je_iload C dX1_goAlong_91 93 rfl 7 rfl ?_
  refine jk_iald C kd56 dX1_goAlong_93 94 rfl h (fun h => ?_)
  refine je_lti h (fun t94 h => ?_)
  obtain ⟨hin3_t94, h⟩ := p_ck_inv h
  refine jh_get (t := 3) (rest := [.ref (G.2.1 + 0), .int v6]) C hH (by decide) hin3_t94 cwX1_171 ⟨Nat.le_of_ble_eq_true rfl, Nat.le_of_ble_eq_true rfl⟩ (Nat.le_of_ble_eq_true rfl) dX1_goAlong_94 97 rfl ⟨Nat.le_refl _, Nat.le_refl _⟩ ?_
  refine jh_cast3 C hH hin3_t94 q1394 dX1_goAlong_97 100 rfl ?_
  refine jh_item3N C hH hin3_t94 (k := 2) (by decide) q1002 rfl dX1_goAlong_100 103 rfl ?_
  obtain ⟨t103, hg, h⟩ := p_cl_inv h
  refine je_callVi (As := [.int (hu.1 32 t94.toNatClampNeg)]) (rest := [.int v6]) C (metX1_worth hH hg) (en2_at kd0) rfl hdX1_worth rfl cwX1_314 rfl ⟨Nat.le_of_ble_eq_true rfl, Nat.le_of_ble_eq_true rfl⟩ (Nat.le_of_ble_eq_true rfl) dX1_goAlong_103 106 rfl ⟨Nat.le_refl _, Nat.le_refl _⟩ ?_
  refine je_iadd C dX1_goAlong_106 107 rfl ?_
  refine je_lti h (fun t107 h => ?_)
  refine je_istore C dX1_goAlong_107 109 rfl (Nat.le_of_ble_eq_true rfl) [(6, .int t107), (0, .ref (G.2.1 + 0)), (1, .int v1), (2, .int v2), (3, va_rf (Option.map (fun q => G.2.1 + q) o3)), (4, .int v4), (5, .int v5), (7, .int v7)] rfl ?_
  refine je_sub [1, 2, 3, 4, 5, 6, 0, 7] [(0, .ref (G.2.1 + 0)), (1, .int v1), (2, .int v2), (3, va_rf (Option.map (fun q => G.2.1 + q) o3)), (4, .int v4), (5, .int v5), (6, .int t107), (7, .int v7)] rfl ?_
  exact wX1_goAlong_109 C hH hk17 κ v1 v2 o3 v4 v5 t107 v7 h
set_option maxHeartbeats 4000000 in
theorem wX1_goAlong_17 {p : Program} {l : Launch} {e : Env} {s : State} {m : MethodId} {args : Array Value} {below : List Frame} {meth : Method} {c : Code} {G : je_G} {dyn : Nat → Option je_E} {sz : Nat} {F : Nat} {hb : Nat} {hu : hd_T} {r9 : Int32 × kp_K} (C : Cx p s m args meth c G "MinistryDesks" cX1_goAlong 9 (some .int)) (hH : HouseRep G dyn hb hu) : ∀ (n : Nat) (κ : kp_K) (v1 : Int32) (v2 : Int32) (o3 : Option Nat) (v4 : Int32) (v5 : Int32) (v6 : Int32) (v7 : Int32), bX1_goAlong_17 F hb hu n κ v1 v2 o3 v4 v5 v6 v7 = some r9 → Js p l e ({ frames := 7, cells := 0, slots := 0, locals := 188 } : Room) s m args below meth c G 9 (MQ below (je_Q G (some (.int r9.1)) (en2 G r9.2 dyn) sz) args s 0 0 (je_A G)) (en2 G κ dyn) sz 0 0 17 [(0, .ref (G.2.1 + 0)), (1, .int v1), (2, .int v2), (3, va_rf (Option.map (fun q => G.2.1 + q) o3)), (4, .int v4), (5, .int v5), (6, .int v6), (7, .int v7)] [] := by
  intro n
  induction n with
  | zero =>
    intro κ v1 v2 o3 v4 v5 v6 v7 h
    cases h
  | succ n ih =>
    intro κ v1 v2 o3 v4 v5 v6 v7 h
    rw [bX1_goAlong_17] at h
    refine je_iload C dX1_goAlong_17 19 rfl 7 rfl ?_
    refine je_aload_n C dX1_goAlong_19 20 rfl 0 rfl ?_
    refine gX1_253 C dX1_goAlong_20 23 rfl ?_
    refine je_icmp_ge C 208 dX1_goAlong_23 26 rfl rfl h (fun h => ?_) (fun h => ?_)
    · refine je_iload C dX1_goAlong_208 210 rfl 6 rfl ?_
      cases h
      exact je_iret C dX1_goAlong_210
    refine je_aload_n C dX1_goAlong_26 27 rfl 0 rfl ?_
    refine gX1_58 C dX1_goAlong_27 30 rfl ?_
    refine je_iload C dX1_goAlong_30 32 rfl 7 rfl ?_
    refine jk_iald C kd55 dX1_goAlong_32 33 rfl h (fun h => ?_)
    refine je_if_ne C 39 dX1_goAlong_33 36 rfl rfl h (fun h => ?_) (fun h => ?_)
    · exact wX1_goAlong_39 C hH ih κ v1 v2 o3 v4 v5 v6 v7 h
    refine je_iconst C (0) dX1_goAlong_36 37 rfl ic_0 ?_
    refine je_istore C dX1_goAlong_37 39 rfl (Nat.le_of_ble_eq_true rfl) [(5, .int (0 : Int32)), (0, .ref (G.2.1 + 0)), (1, .int v1), (2, .int v2), (3, va_rf (Option.map (fun q => G.2.1 + q) o3)), (4, .int v4), (6, .int v6), (7, .int v7)] rfl ?_
    refine je_sub [1, 2, 3, 4, 5, 0, 6, 7] [(0, .ref (G.2.1 + 0)), (1, .int v1), (2, .int v2), (3, va_rf (Option.map (fun q => G.2.1 + q) o3)), (4, .int v4), (5, .int (0 : Int32)), (6, .int v6), (7, .int v7)] rfl ?_
    exact wX1_goAlong_39 C hH ih κ v1 v2 o3 v4 (0 : Int32) v6 v7 h
set_option maxHeartbeats 4000000 in
theorem metX1_goAlong {l : Launch} {G : je_G} {dyn : Nat → Option je_E} {sz : Nat} {F : Nat} {hb : Nat} {hu : hd_T} {κ : kp_K} {v1 : Int32} {v2 : Int32} {o3 : Option Nat} {r9 : Int32 × kp_K} (hH : HouseRep G dyn hb hu) (h : pX1_goAlong F hb hu κ v1 v2 o3 = some r9) : MetS l G yX1_goAlong cX1_goAlong 9 (some .int) 7 188 0 0 [.ref (G.2.1 + 0), .int v1, .int v2, va_rf (Option.map (fun q => G.2.1 + q) o3)] (en2 G κ dyn) sz (some (.int r9.1)) (en2 G r9.2 dyn) sz := by
  refine je_met "MinistryDesks" rfl (by decide +kernel) (by cases o3 <;> exact Nat.le_of_ble_eq_true rfl) [(0, .ref (G.2.1 + 0)), (1, .int v1), (2, .int v2), (3, va_rf (Option.map (fun q => G.2.1 + q) o3))] (by cases o3 <;> rfl) (fun p e s m args below meth c C => ?_)
  unfold pX1_goAlong at h
  refine je_iconst C (0) dX1_goAlong_0 1 rfl ic_0 ?_
  refine je_istore C dX1_goAlong_1 3 rfl (Nat.le_of_ble_eq_true rfl) [(4, .int (0 : Int32)), (0, .ref (G.2.1 + 0)), (1, .int v1), (2, .int v2), (3, va_rf (Option.map (fun q => G.2.1 + q) o3))] (by cases o3 <;> rfl) ?_
  refine je_iconst C (0) dX1_goAlong_3 4 rfl ic_0 ?_
  refine je_istore C dX1_goAlong_4 6 rfl (Nat.le_of_ble_eq_true rfl) [(5, .int (0 : Int32)), (4, .int (0 : Int32)), (0, .ref (G.2.1 + 0)), (1, .int v1), (2, .int v2), (3, va_rf (Option.map (fun q => G.2.1 + q) o3))] rfl ?_
  refine je_iconst C (0) dX1_goAlong_6 7 rfl ic_0 ?_
  refine je_istore C dX1_goAlong_7 9 rfl (Nat.le_of_ble_eq_true rfl) [(6, .int (0 : Int32)), (5, .int (0 : Int32)), (4, .int (0 : Int32)), (0, .ref (G.2.1 + 0)), (1, .int v1), (2, .int v2), (3, va_rf (Option.map (fun q => G.2.1 + q) o3))] rfl ?_
  refine je_aload_n C dX1_goAlong_9 10 rfl 3 rfl ?_
  refine je_iconst C (0) dX1_goAlong_10 11 rfl ic_0 ?_
  refine sX1_332 C dX1_goAlong_11 14 rfl ?_
  refine jk_lt h (fun k11 h => ?_)
  refine je_iconst C (0) dX1_goAlong_14 15 rfl ic_0 ?_
  refine je_istore C dX1_goAlong_15 17 rfl (Nat.le_of_ble_eq_true rfl) [(7, .int (0 : Int32)), (6, .int (0 : Int32)), (5, .int (0 : Int32)), (4, .int (0 : Int32)), (0, .ref (G.2.1 + 0)), (1, .int v1), (2, .int v2), (3, va_rf (Option.map (fun q => G.2.1 + q) o3))] rfl ?_
  refine je_sub [4, 5, 6, 7, 3, 2, 1, 0] [(0, .ref (G.2.1 + 0)), (1, .int v1), (2, .int v2), (3, va_rf (Option.map (fun q => G.2.1 + q) o3)), (4, .int (0 : Int32)), (5, .int (0 : Int32)), (6, .int (0 : Int32)), (7, .int (0 : Int32))] rfl ?_
  exact wX1_goAlong_17 C hH F k11 v1 v2 o3 (0 : Int32) (0 : Int32) (0 : Int32) (0 : Int32) h
theorem hdX1_goAlong : je_hd yX1_goAlong 3 := ⟨by decide +kernel, by decide +kernel, by decide +kernel⟩
theorem cwX1_338 : GoodIn lw_all (wsV "MinistryDesks" 338 "MinistryDesks" yX1_goAlong (ws_ yX1_goAlong cX1_goAlong 9 (some .int))) := lw_V q1447 q1449 qs64 q161 q1450
theorem gX1_335 {p : Program} {l : Launch} {e : Env} {R : Room} {s : State} {m : MethodId} {args : Array Value} {below : List Frame} {meth : Method} {c : Code} {Q : State → Prop} {G : je_G} {cc : ByteArray} {nL : Nat} {rt : Option FieldType} {sz cells slots pc : Nat} {L : List (Nat × Value)} {st : List Value} {κ : kp_K} {dyn : Nat → Option je_E} (C : Cx p s m args meth c G "MinistryDesks" cc nL rt) (d : decode cc pc = .ok (.getfield 335, 3)) (n : Nat) (hn : pc + 3 = n) (kk : Js p l e R s m args below meth c G nL Q (en2 G κ dyn) sz cells slots n L (.int (κ.1 0 19) :: st)) : Js p l e R s m args below meth c G nL Q (en2 G κ dyn) sz cells slots pc L (.ref (G.2.1 + 0) :: st) := jk_getI (k := 19) C kd0 rfl in_X1 rfl (by decide) q461 rfl d n hn kk
set_option maxHeartbeats 4000000 in
theorem metX1_goes {l : Launch} {G : je_G} {dyn : Nat → Option je_E} {sz : Nat} {F : Nat} {hb : Nat} {hu : hd_T} {κ : kp_K} {v1 : Int32} {v2 : Int32} {r9 : Int32 × kp_K} (hH : HouseRep G dyn hb hu) (h : pX1_goes F hb hu κ v1 v2 = some r9) : MetS l G yX1_goes cX1_goes 3 (some .int) 9 236 0 0 [.ref (G.2.1 + 0), .int v1, .int v2] (en2 G κ dyn) sz (some (.int r9.1)) (en2 G r9.2 dyn) sz := by
  refine je_met "MinistryDesks" rfl (by decide +kernel) (Nat.le_of_ble_eq_true rfl) [(0, .ref (G.2.1 + 0)), (1, .int v1), (2, .int v2)] rfl (fun p e s m args below meth c C => ?_)
  unfold pX1_goes at h
  refine je_aload_n C dX1_goes_0 1 rfl 0 rfl ?_
  refine je_iload_n C dX1_goes_1 2 rfl 1 rfl ?_
  obtain ⟨t2, hg, h⟩ := p_cl_inv h
  refine je_callVi (As := [.int v1]) (rest := []) C (metX1_isDesk hH hg) (en2_at kd0) rfl hdX1_isDesk rfl cwX1_198 rfl ⟨Nat.le_of_ble_eq_true rfl, Nat.le_of_ble_eq_true rfl⟩ (Nat.le_of_ble_eq_true rfl) dX1_goes_2 5 rfl ⟨Nat.le_refl _, Nat.le_refl _⟩ ?_
  refine je_if_eq C 12 dX1_goes_5 8 rfl rfl h (fun h => ?_) (fun h => ?_)
  · refine je_iconst C (-1) dX1_goes_12 13 rfl ic_m1 ?_
    cases h
    exact je_iret C dX1_goes_13
  refine je_iload_n C dX1_goes_8 9 rfl 2 rfl ?_
  refine je_if_ge C 14 dX1_goes_9 12 rfl rfl h (fun h => ?_) (fun h => ?_)
  · refine je_aload_n C dX1_goes_14 15 rfl 0 rfl ?_
    refine je_iload_n C dX1_goes_15 16 rfl 1 rfl ?_
    obtain ⟨k16, hg, h⟩ := p_cl_inv h
    refine je_callVv (As := [.int v1]) (rest := []) C (metX1_layBest hH hg) (en2_at kd0) rfl hdX1_layBest rfl cwX1_329 rfl ⟨Nat.le_of_ble_eq_true rfl, Nat.le_of_ble_eq_true rfl⟩ (Nat.le_of_ble_eq_true rfl) dX1_goes_16 19 rfl ⟨Nat.le_refl _, Nat.le_refl _⟩ ?_
    refine je_aload_n C dX1_goes_19 20 rfl 0 rfl ?_
    refine je_iload_n C dX1_goes_20 21 rfl 1 rfl ?_
    refine je_iload_n C dX1_goes_21 22 rfl 2 rfl ?_
    refine je_nullR C dX1_goes_22 23 rfl ?_
    obtain ⟨q23, hg, h⟩ := p_cl_inv h
    refine je_callVi (As := [.int v1, .int v2, va_rf (Option.map (fun q => G.2.1 + q) none)]) (rest := []) C (metX1_goAlong hH hg) (en2_at kd0) rfl hdX1_goAlong rfl cwX1_338 rfl ⟨Nat.le_of_ble_eq_true rfl, Nat.le_of_ble_eq_true rfl⟩ (Nat.le_of_ble_eq_true rfl) dX1_goes_23 26 rfl ⟨Nat.le_refl _, Nat.le_refl _⟩ ?_
    refine je_lti h (fun t23 h => ?_)
    refine jk_lt h (fun k23 h => ?_)
    refine je_pop C dX1_goes_26 27 rfl rfl ?_
    refine je_iload_n C dX1_goes_27 28 rfl 2 rfl ?_
    refine je_aload_n C dX1_goes_28 29 rfl 0 rfl ?_
    refine gX1_332 C dX1_goes_29 32 rfl ?_
    refine je_icmp_lt C 40 dX1_goes_32 35 rfl rfl h (fun h => ?_) (fun h => ?_)
    · refine je_aload_n C dX1_goes_40 41 rfl 0 rfl ?_
      refine gX1_335 C dX1_goes_41 44 rfl ?_
      refine je_if_ge C 52 dX1_goes_44 47 rfl rfl h (fun h => ?_) (fun h => ?_)
      · refine je_aload_n C dX1_goes_52 53 rfl 0 rfl ?_
        refine gX1_335 C dX1_goes_53 56 rfl ?_
        cases h
        exact je_iret C dX1_goes_56
      refine je_bipush C (-2) dX1_goes_47 49 rfl bp_m2 ?_
      refine je_goto C 56 dX1_goes_49 rfl ?_
      cases h
      exact je_iret C dX1_goes_56
    refine je_bipush C (-3) dX1_goes_35 37 rfl bp_m3 ?_
    refine je_goto C 56 dX1_goes_37 rfl ?_
    cases h
    exact je_iret C dX1_goes_56
  refine je_iconst C (-1) dX1_goes_12 13 rfl ic_m1 ?_
  cases h
  exact je_iret C dX1_goes_13
theorem gX1_77 {p : Program} {l : Launch} {e : Env} {R : Room} {s : State} {m : MethodId} {args : Array Value} {below : List Frame} {meth : Method} {c : Code} {Q : State → Prop} {G : je_G} {cc : ByteArray} {nL : Nat} {rt : Option FieldType} {sz cells slots pc : Nat} {L : List (Nat × Value)} {st : List Value} {κ : kp_K} {dyn : Nat → Option je_E} (C : Cx p s m args meth c G "MinistryDesks" cc nL rt) (d : decode cc pc = .ok (.getfield 77, 3)) (n : Nat) (hn : pc + 3 = n) (kk : Js p l e R s m args below meth c G nL Q (en2 G κ dyn) sz cells slots n L (.ref (G.2.1 + 61) :: st)) : Js p l e R s m args below meth c G nL Q (en2 G κ dyn) sz cells slots pc L (.ref (G.2.1 + 0) :: st) := jk_getR (k := 20) (z := 0) C kd0 rfl in_X1 61 rfl (by decide) q462 rfl d n hn kk
set_option maxHeartbeats 4000000 in
theorem wX1_knew_141 {p : Program} {l : Launch} {e : Env} {s : State} {m : MethodId} {args : Array Value} {below : List Frame} {meth : Method} {c : Code} {G : je_G} {dyn : Nat → Option je_E} {sz : Nat} {F : Nat} {hb : Nat} {hu : hd_T} {r9 : Int32 × kp_K} (C : Cx p s m args meth c G "MinistryDesks" cX1_knew 7 (some .int)) (hH : HouseRep G dyn hb hu) : ∀ (n : Nat) (κ : kp_K) (v1 : Int32) (v6 : Int32), bX1_knew_141 F hb hu n κ v1 v6 = some r9 → Js p l e ({ frames := 9, cells := 0, slots := 0, locals := 236 } : Room) s m args below meth c G 7 (MQ below (je_Q G (some (.int r9.1)) (en2 G r9.2 dyn) sz) args s 0 0 (je_A G)) (en2 G κ dyn) sz 0 0 141 [(0, .ref (G.2.1 + 0)), (1, .int v1), (6, .int v6)] [] := by
  intro n
  induction n with
  | zero =>
    intro κ v1 v6 h
    cases h
  | succ n ih =>
    intro κ v1 v6 h
    rw [bX1_knew_141] at h
    refine je_iload C dX1_knew_141 143 rfl 2 rfl ?_
    refine je_aload_n C dX1_knew_143 144 rfl 0 rfl ?_
    obtain ⟨hx, h⟩ := p_hs_inv h
    refine gX1_22 C hx dX1_knew_144 147 rfl ?_
    refine jh_listN C hH (t := 3) (by decide) q257 rfl dX1_knew_147 150 rfl ?_
    refine jh_size (t := 3) (rest := [.int v6]) C hH (by decide) cwX1_160 ⟨Nat.le_of_ble_eq_true rfl, Nat.le_of_ble_eq_true rfl⟩ (Nat.le_of_ble_eq_true rfl) dX1_knew_150 153 rfl ⟨Nat.le_refl _, Nat.le_refl _⟩ ?_
    refine je_icmp_ge C 180 dX1_knew_153 156 rfl rfl h (fun h => ?_) (fun h => ?_)
    · refine je_aload_n C dX1_knew_180 181 rfl 0 rfl ?_
      refine je_iload_n C dX1_knew_181 182 rfl 1 rfl ?_
      obtain ⟨k182, hg, h⟩ := p_cl_inv h
      refine je_callVv (As := [.int v1]) (rest := []) C (metX1_layMost hH hg) (en2_at kd0) rfl hdX1_layMost rfl cwX1_326 rfl ⟨Nat.le_of_ble_eq_true rfl, Nat.le_of_ble_eq_true rfl⟩ (Nat.le_of_ble_eq_true rfl) dX1_knew_182 185 rfl ⟨Nat.le_refl _, Nat.le_refl _⟩ ?_
      refine je_aload_n C dX1_knew_185 186 rfl 0 rfl ?_
      refine gX1_71 C dX1_knew_186 189 rfl ?_
      refine je_iconst C (0) dX1_knew_189 190 rfl ic_0 ?_
      refine je_iconst C (0) dX1_knew_190 191 rfl ic_0 ?_
      refine je_iconst C (0) dX1_knew_191 192 rfl ic_0 ?_
      obtain ⟨t192, hg, h⟩ := p_cl_inv h
      refine je_callSi (As := [.int (0 : Int32), .int (0 : Int32), .int (0 : Int32)]) (rest := [.ref (G.2.1 + 59)]) C (metX1_at hg) hdX1_at cwX1_288 rfl ⟨Nat.le_of_ble_eq_true rfl, Nat.le_of_ble_eq_true rfl⟩ (Nat.le_of_ble_eq_true rfl) dX1_knew_192 195 rfl ⟨Nat.le_refl _, Nat.le_refl _⟩ ?_
      refine jk_iald C kd59 dX1_knew_195 196 rfl h (fun h => ?_)
      cases h
      exact je_iret C dX1_knew_196
    refine je_aload_n C dX1_knew_156 157 rfl 0 rfl ?_
    refine gX1_77 C dX1_knew_157 160 rfl ?_
    refine je_iload C dX1_knew_160 162 rfl 2 rfl ?_
    refine jk_zald C kd61 dX1_knew_162 163 rfl h (fun h => ?_)
    refine je_if_ne C 174 dX1_knew_163 166 rfl rfl h (fun h => ?_) (fun h => ?_)
    · refine je_iinc C (1) dX1_knew_174 177 rfl 2 rfl ic_1 (Nat.le_of_ble_eq_true rfl) [(6, .int (v6 + (1 : Int32))), (0, .ref (G.2.1 + 0)), (1, .int v1)] rfl ?_
      refine je_goto C 141 dX1_knew_177 rfl ?_
      refine je_sub [1, 2, 0] [(0, .ref (G.2.1 + 0)), (1, .int v1), (6, .int (v6 + (1 : Int32)))] rfl ?_
      exact ih κ v1 (v6 + (1 : Int32)) h
    refine je_aload_n C dX1_knew_166 167 rfl 0 rfl ?_
    refine gX1_74 C dX1_knew_167 170 rfl ?_
    refine je_iload C dX1_knew_170 172 rfl 2 rfl ?_
    refine je_iconst C (0) dX1_knew_172 173 rfl ic_0 ?_
    refine jk_iast C kd60 dX1_knew_173 174 rfl h (fun h => ?_)
    refine jk_lt h (fun k173 h => ?_)
    refine je_iinc C (1) dX1_knew_174 177 rfl 2 rfl ic_1 (Nat.le_of_ble_eq_true rfl) [(6, .int (v6 + (1 : Int32))), (0, .ref (G.2.1 + 0)), (1, .int v1)] rfl ?_
    refine je_goto C 141 dX1_knew_177 rfl ?_
    refine je_sub [1, 2, 0] [(0, .ref (G.2.1 + 0)), (1, .int v1), (6, .int (v6 + (1 : Int32)))] rfl ?_
    exact ih k173 v1 (v6 + (1 : Int32)) h
set_option maxHeartbeats 4000000 in
theorem wX1_knew_105 {p : Program} {l : Launch} {e : Env} {s : State} {m : MethodId} {args : Array Value} {below : List Frame} {meth : Method} {c : Code} {G : je_G} {dyn : Nat → Option je_E} {sz : Nat} {F : Nat} {hb : Nat} {hu : hd_T} {r9 : Int32 × kp_K} {k30 : kp_K → Int32 → Int32 → Int64 → Int32 → Option (Int32 × kp_K)} (C : Cx p s m args meth c G "MinistryDesks" cX1_knew 7 (some .int)) (hH : HouseRep G dyn hb hu) (hk30 : ∀ (kq : kp_K) (q1 : Int32) (q3 : Int32) (q4 : Int64) (q6 : Int32), k30 kq q1 q3 q4 q6 = some r9 → Js p l e ({ frames := 9, cells := 0, slots := 0, locals := 236 } : Room) s m args below meth c G 7 (MQ below (je_Q G (some (.int r9.1)) (en2 G r9.2 dyn) sz) args s 0 0 (je_A G)) (en2 G kq dyn) sz 0 0 30 [(0, .ref (G.2.1 + 0)), (1, .int q1), (3, .int q3), (4, .long q4), (6, .int q6)] []) (κ : kp_K) (v1 : Int32) (v3 : Int32) (v4 : Int64) (v6 : Int32) (s0 : Int32) (s1 : Int32) (h : bX1_knew_105 F hb hu k30 κ v1 v3 v4 v6 s0 s1 = some r9) : Js p l e ({ frames := 9, cells := 0, slots := 0, locals := 236 } : Room) s m args below meth c G 7 (MQ below (je_Q G (some (.int r9.1)) (en2 G r9.2 dyn) sz) args s 0 0 (je_A G)) (en2 G κ dyn) sz 0 0 105 [(0, .ref (G.2.1 + 0)), (1, .int v1), (3, .int v3), (4, .long v4), (6, .int v6)] [.int s0, .int s1, .ref (G.2.1 + 61)] := by
  unfold bX1_knew_105 at h
  obtain ⟨hz, h⟩ := p_cz_inv h
  refine jk_zast C kd61 dX1_knew_105 106 rfl hz h (fun h => ?_)
  refine jk_lt h (fun k105 h => ?_)
  refine je_iinc C (1) dX1_knew_106 109 rfl 4 rfl ic_1 (Nat.le_of_ble_eq_true rfl) [(6, .int (v6 + (1 : Int32))), (0, .ref (G.2.1 + 0)), (1, .int v1), (3, .int v3), (4, .long v4)] rfl ?_
  refine je_goto C 30 dX1_knew_109 rfl ?_
  refine je_sub [1, 2, 3, 4, 0] [(0, .ref (G.2.1 + 0)), (1, .int v1), (3, .int v3), (4, .long v4), (6, .int (v6 + (1 : Int32)))] rfl ?_
  exact hk30 k105 v1 v3 v4 (v6 + (1 : Int32)) h
set_option maxHeartbeats 4000000 in
theorem wX1_knew_30 {p : Program} {l : Launch} {e : Env} {s : State} {m : MethodId} {args : Array Value} {below : List Frame} {meth : Method} {c : Code} {G : je_G} {dyn : Nat → Option je_E} {sz : Nat} {F : Nat} {hb : Nat} {hu : hd_T} {r9 : Int32 × kp_K} (C : Cx p s m args meth c G "MinistryDesks" cX1_knew 7 (some .int)) (hH : HouseRep G dyn hb hu) : ∀ (n : Nat) (κ : kp_K) (v1 : Int32) (v3 : Int32) (v4 : Int64) (v6 : Int32), bX1_knew_30 F hb hu n κ v1 v3 v4 v6 = some r9 → Js p l e ({ frames := 9, cells := 0, slots := 0, locals := 236 } : Room) s m args below meth c G 7 (MQ below (je_Q G (some (.int r9.1)) (en2 G r9.2 dyn) sz) args s 0 0 (je_A G)) (en2 G κ dyn) sz 0 0 30 [(0, .ref (G.2.1 + 0)), (1, .int v1), (3, .int v3), (4, .long v4), (6, .int v6)] [] := by
  intro n
  induction n with
  | zero =>
    intro κ v1 v3 v4 v6 h
    cases h
  | succ n ih =>
    intro κ v1 v3 v4 v6 h
    rw [bX1_knew_30] at h
    refine je_iload C dX1_knew_30 32 rfl 4 rfl ?_
    refine je_aload_n C dX1_knew_32 33 rfl 0 rfl ?_
    obtain ⟨hx, h⟩ := p_hs_inv h
    refine gX1_22 C hx dX1_knew_33 36 rfl ?_
    refine jh_listN C hH (t := 3) (by decide) q257 rfl dX1_knew_36 39 rfl ?_
    refine jh_size (t := 3) (rest := [.int v6]) C hH (by decide) cwX1_160 ⟨Nat.le_of_ble_eq_true rfl, Nat.le_of_ble_eq_true rfl⟩ (Nat.le_of_ble_eq_true rfl) dX1_knew_39 42 rfl ⟨Nat.le_refl _, Nat.le_refl _⟩ ?_
    refine je_icmp_ge C 112 dX1_knew_42 45 rfl rfl h (fun h => ?_) (fun h => ?_)
    · refine je_aload_n C dX1_knew_112 113 rfl 0 rfl ?_
      refine je_iload_n C dX1_knew_113 114 rfl 1 rfl ?_
      obtain ⟨k114, hg, h⟩ := p_cl_inv h
      refine je_callVv (As := [.int v1]) (rest := []) C (metX1_layBest hH hg) (en2_at kd0) rfl hdX1_layBest rfl cwX1_329 rfl ⟨Nat.le_of_ble_eq_true rfl, Nat.le_of_ble_eq_true rfl⟩ (Nat.le_of_ble_eq_true rfl) dX1_knew_114 117 rfl ⟨Nat.le_refl _, Nat.le_refl _⟩ ?_
      refine je_iload_n C dX1_knew_117 118 rfl 2 rfl ?_
      refine je_iconst C (1) dX1_knew_118 119 rfl ic_1 ?_
      refine je_icmp_ne C 133 dX1_knew_119 122 rfl rfl h (fun h => ?_) (fun h => ?_)
      · refine je_aload_n C dX1_knew_133 134 rfl 0 rfl ?_
        refine je_iconst C (0) dX1_knew_134 135 rfl ic_0 ?_
        obtain ⟨k135, hg, h⟩ := p_cl_inv h
        refine je_callVv (As := [.int (0 : Int32)]) (rest := []) C (metX1_layCounts hH hg) (en2_at kd0) rfl hdX1_layCounts rfl cwX1_322 rfl ⟨Nat.le_of_ble_eq_true rfl, Nat.le_of_ble_eq_true rfl⟩ (Nat.le_of_ble_eq_true rfl) dX1_knew_135 138 rfl ⟨Nat.le_refl _, Nat.le_refl _⟩ ?_
        refine je_iconst C (0) dX1_knew_138 139 rfl ic_0 ?_
        refine je_istore C dX1_knew_139 141 rfl (Nat.le_of_ble_eq_true rfl) [(6, .int (0 : Int32)), (0, .ref (G.2.1 + 0)), (1, .int v1), (3, .int v3), (4, .long v4)] rfl ?_
        refine je_sub [1, 2, 0] [(0, .ref (G.2.1 + 0)), (1, .int v1), (6, .int (0 : Int32))] rfl ?_
        exact wX1_knew_141 C hH F k135 v1 (0 : Int32) h
      refine je_aload_n C dX1_knew_122 123 rfl 0 rfl ?_
      refine je_iload_n C dX1_knew_123 124 rfl 1 rfl ?_
      refine je_iconst C (-1) dX1_knew_124 125 rfl ic_m1 ?_
      refine je_aload_n C dX1_knew_125 126 rfl 0 rfl ?_
      refine gX1_77 C dX1_knew_126 129 rfl ?_
      obtain ⟨q129, hg, h⟩ := p_cl_inv h
      refine je_callVi (As := [.int v1, .int (-1 : Int32), .ref (G.2.1 + 61)]) (rest := []) C (metX1_goAlong hH hg) (en2_at kd0) rfl hdX1_goAlong rfl cwX1_338 rfl ⟨Nat.le_of_ble_eq_true rfl, Nat.le_of_ble_eq_true rfl⟩ (Nat.le_of_ble_eq_true rfl) dX1_knew_129 132 rfl ⟨Nat.le_refl _, Nat.le_refl _⟩ ?_
      refine je_lti h (fun t129 h => ?_)
      refine jk_lt h (fun k129 h => ?_)
      cases h
      exact je_iret C dX1_knew_132
    refine je_lload C dX1_knew_45 47 rfl 3 rfl ?_
    refine je_ldc2 C q1455 dX1_knew_47 50 rfl ?_
    refine je_lmul C dX1_knew_50 51 rfl ?_
    refine je_ldc2 C q1456 dX1_knew_51 54 rfl ?_
    refine je_ladd C dX1_knew_54 55 rfl ?_
    refine je_ldc2 C q1457 dX1_knew_55 58 rfl ?_
    refine je_land C dX1_knew_58 59 rfl ?_
    refine je_ltl h (fun t59 h => ?_)
    refine je_lstore C dX1_knew_59 61 rfl (Nat.le_of_ble_eq_true rfl) [(4, .long t59), (0, .ref (G.2.1 + 0)), (1, .int v1), (3, .int v3), (6, .int v6)] rfl ?_
    refine je_aload_n C dX1_knew_61 62 rfl 1 rfl ?_
    refine gX1_77 C dX1_knew_62 65 rfl ?_
    refine je_iload C dX1_knew_65 67 rfl 4 rfl ?_
    refine je_lload C dX1_knew_67 69 rfl 0 rfl ?_
    refine je_ldc2 C q1458 dX1_knew_69 72 rfl ?_
    obtain ⟨hne, h⟩ := p_cdl_inv h
    refine je_ldiv C dX1_knew_72 73 rfl hne ?_
    refine je_ldc2 C q1459 dX1_knew_73 76 rfl ?_
    obtain ⟨hne, h⟩ := p_cdl_inv h
    refine je_lrem C dX1_knew_76 77 rfl hne ?_
    refine je_aload_n C dX1_knew_77 78 rfl 1 rfl ?_
    obtain ⟨hx, h⟩ := p_hs_inv h
    refine gX1_22 C hx dX1_knew_78 81 rfl ?_
    refine jh_listN C hH (t := 3) (by decide) q257 rfl dX1_knew_81 84 rfl ?_
    refine je_iload C dX1_knew_84 86 rfl 4 rfl ?_
    obtain ⟨hin3_v6, h⟩ := p_ck_inv h
    refine jh_get (t := 3) (rest := [.long ((t59 / (65536 : Int64)) - (t59 / (65536 : Int64)) / (100 : Int64) * (100 : Int64)), .int v6, .ref (G.2.1 + 61)]) C hH (by decide) hin3_v6 cwX1_171 ⟨Nat.le_of_ble_eq_true rfl, Nat.le_of_ble_eq_true rfl⟩ (Nat.le_of_ble_eq_true rfl) dX1_knew_86 89 rfl ⟨Nat.le_refl _, Nat.le_refl _⟩ ?_
    refine jh_cast3 C hH hin3_v6 q1394 dX1_knew_89 92 rfl ?_
    refine jh_item3N C hH hin3_v6 (k := 3) (by decide) q1004 rfl dX1_knew_92 95 rfl ?_
    refine je_i2l C dX1_knew_95 96 rfl ?_
    refine je_lcmp C dX1_knew_96 97 rfl ?_
    refine je_if_ge C 104 dX1_knew_97 100 rfl rfl h (fun h => ?_) (fun h => ?_)
    · refine je_iconst C (0) dX1_knew_104 105 rfl ic_0 ?_
      refine je_sub [1, 2, 3, 0, 4] [(0, .ref (G.2.1 + 0)), (1, .int v1), (3, .int v3), (4, .long t59), (6, .int v6)] rfl ?_
      exact wX1_knew_105 C hH ih κ v1 v3 t59 v6 (0 : Int32) v6 h
    refine je_iconst C (1) dX1_knew_100 101 rfl ic_1 ?_
    refine je_goto C 105 dX1_knew_101 rfl ?_
    refine je_sub [1, 2, 3, 0, 4] [(0, .ref (G.2.1 + 0)), (1, .int v1), (3, .int v3), (4, .long t59), (6, .int v6)] rfl ?_
    exact wX1_knew_105 C hH ih κ v1 v3 t59 v6 (1 : Int32) v6 h
set_option maxHeartbeats 4000000 in
theorem metX1_knew {l : Launch} {G : je_G} {dyn : Nat → Option je_E} {sz : Nat} {F : Nat} {hb : Nat} {hu : hd_T} {κ : kp_K} {v1 : Int32} {v2 : Int32} {v3 : Int32} {r9 : Int32 × kp_K} (hH : HouseRep G dyn hb hu) (h : pX1_knew F hb hu κ v1 v2 v3 = some r9) : MetS l G yX1_knew cX1_knew 7 (some .int) 9 236 0 0 [.ref (G.2.1 + 0), .int v1, .int v2, .int v3] (en2 G κ dyn) sz (some (.int r9.1)) (en2 G r9.2 dyn) sz := by
  refine je_met "MinistryDesks" rfl (by decide +kernel) (Nat.le_of_ble_eq_true rfl) [(0, .ref (G.2.1 + 0)), (1, .int v1), (2, .int v2), (3, .int v3)] rfl (fun p e s m args below meth c C => ?_)
  unfold pX1_knew at h
  refine je_aload_n C dX1_knew_0 1 rfl 0 rfl ?_
  refine je_iload_n C dX1_knew_1 2 rfl 1 rfl ?_
  obtain ⟨t2, hg, h⟩ := p_cl_inv h
  refine je_callVi (As := [.int v1]) (rest := []) C (metX1_isDesk hH hg) (en2_at kd0) rfl hdX1_isDesk rfl cwX1_198 rfl ⟨Nat.le_of_ble_eq_true rfl, Nat.le_of_ble_eq_true rfl⟩ (Nat.le_of_ble_eq_true rfl) dX1_knew_2 5 rfl ⟨Nat.le_refl _, Nat.le_refl _⟩ ?_
  refine je_if_eq C 21 dX1_knew_5 8 rfl rfl h (fun h => ?_) (fun h => ?_)
  · refine je_iconst C (-1) dX1_knew_21 22 rfl ic_m1 ?_
    cases h
    exact je_iret C dX1_knew_22
  refine je_iload_n C dX1_knew_8 9 rfl 2 rfl ?_
  refine je_if_lt C 21 dX1_knew_9 12 rfl rfl h (fun h => ?_) (fun h => ?_)
  · refine je_iconst C (-1) dX1_knew_21 22 rfl ic_m1 ?_
    cases h
    exact je_iret C dX1_knew_22
  refine je_iload_n C dX1_knew_12 13 rfl 3 rfl ?_
  refine je_iconst C (0) dX1_knew_13 14 rfl ic_0 ?_
  refine je_iconst C (1) dX1_knew_14 15 rfl ic_1 ?_
  obtain ⟨t15, hg, h⟩ := p_cl_inv h
  refine je_callSi (As := [.int v3, .int (0 : Int32), .int (1 : Int32)]) (rest := []) C (metX1_isIn hg) hdX1_isIn cwX1_107 rfl ⟨Nat.le_of_ble_eq_true rfl, Nat.le_of_ble_eq_true rfl⟩ (Nat.le_of_ble_eq_true rfl) dX1_knew_15 18 rfl ⟨Nat.le_refl _, Nat.le_refl _⟩ ?_
  refine je_if_ne C 23 dX1_knew_18 21 rfl rfl h (fun h => ?_) (fun h => ?_)
  · refine je_iload_n C dX1_knew_23 24 rfl 2 rfl ?_
    refine je_i2l C dX1_knew_24 25 rfl ?_
    refine je_ltl h (fun t25 h => ?_)
    refine je_lstore C dX1_knew_25 27 rfl (Nat.le_of_ble_eq_true rfl) [(4, .long t25), (0, .ref (G.2.1 + 0)), (1, .int v1), (2, .int v2), (3, .int v3)] rfl ?_
    refine je_iconst C (0) dX1_knew_27 28 rfl ic_0 ?_
    refine je_istore C dX1_knew_28 30 rfl (Nat.le_of_ble_eq_true rfl) [(6, .int (0 : Int32)), (4, .long t25), (0, .ref (G.2.1 + 0)), (1, .int v1), (2, .int v2), (3, .int v3)] rfl ?_
    refine je_sub [2, 3, 5, 1, 0] [(0, .ref (G.2.1 + 0)), (1, .int v1), (3, .int v3), (4, .long t25), (6, .int (0 : Int32))] rfl ?_
    exact wX1_knew_30 C hH F κ v1 v3 t25 (0 : Int32) h
  refine je_iconst C (-1) dX1_knew_21 22 rfl ic_m1 ?_
  cases h
  exact je_iret C dX1_knew_22
set_option maxHeartbeats 4000000 in
theorem metX1_isFact {l : Launch} {G : je_G} {dyn : Nat → Option je_E} {sz : Nat} {hb : Nat} {hu : hd_T} {κ : kp_K} {v1 : Int32} {r9 : Int32} (hH : HouseRep G dyn hb hu) (h : pX1_isFact hb hu κ v1 = some r9) : MetS l G yX1_isFact cX1_isFact 2 (some .boolean) 4 120 0 0 [.ref (G.2.1 + 0), .int v1] (en2 G κ dyn) sz (some (.int r9)) (en2 G κ dyn) sz := by
  refine je_met "MinistryDesks" rfl (by decide +kernel) (Nat.le_of_ble_eq_true rfl) [(0, .ref (G.2.1 + 0)), (1, .int v1)] rfl (fun p e s m args below meth c C => ?_)
  unfold pX1_isFact at h
  refine je_iload_n C dX1_isFact_0 1 rfl 1 rfl ?_
  refine je_iconst C (0) dX1_isFact_1 2 rfl ic_0 ?_
  refine je_aload_n C dX1_isFact_2 3 rfl 0 rfl ?_
  obtain ⟨hx, h⟩ := p_hs_inv h
  refine gX1_22 C hx dX1_isFact_3 6 rfl ?_
  refine jh_listN C hH (t := 1) (by decide) q249 rfl dX1_isFact_6 9 rfl ?_
  refine jh_size (t := 1) (rest := [.int (0 : Int32), .int v1]) C hH (by decide) cwX1_160 ⟨Nat.le_of_ble_eq_true rfl, Nat.le_of_ble_eq_true rfl⟩ (Nat.le_of_ble_eq_true rfl) dX1_isFact_9 12 rfl ⟨Nat.le_refl _, Nat.le_refl _⟩ ?_
  refine je_iconst C (1) dX1_isFact_12 13 rfl ic_1 ?_
  refine je_isub C dX1_isFact_13 14 rfl ?_
  obtain ⟨t14, hg, h⟩ := p_cl_inv h
  refine je_callSi (As := [.int v1, .int (0 : Int32), .int ((Int32.ofNat (hu.2.1 1)) - (1 : Int32))]) (rest := []) C (metX1_isIn hg) hdX1_isIn cwX1_107 rfl ⟨Nat.le_of_ble_eq_true rfl, Nat.le_of_ble_eq_true rfl⟩ (Nat.le_of_ble_eq_true rfl) dX1_isFact_14 17 rfl ⟨Nat.le_refl _, Nat.le_refl _⟩ ?_
  obtain ⟨hz, h⟩ := p_cz_inv h
  cases h
  exact je_zret C dX1_isFact_17 hz
set_option maxHeartbeats 4000000 in
theorem wX1_shareOf_139 {p : Program} {l : Launch} {e : Env} {s : State} {m : MethodId} {args : Array Value} {below : List Frame} {meth : Method} {c : Code} {G : je_G} {dyn : Nat → Option je_E} {sz : Nat} {F : Nat} {hb : Nat} {hu : hd_T} {κ : kp_K} {r9 : Int32} {k6 : kp_K → Int32 → Int32 → Int32 → Int32 → Int32 → Option (Int32)} (C : Cx p s m args meth c G "MinistryDesks" cX1_shareOf 10 (some .int)) (hH : HouseRep G dyn hb hu) (hk6 : ∀ (q1 : Int32) (q2 : Int32) (q3 : Int32) (q4 : Int32) (q5 : Int32), k6 κ q1 q2 q3 q4 q5 = some r9 → Js p l e ({ frames := 5, cells := 0, slots := 0, locals := 141 } : Room) s m args below meth c G 10 (MQ below (je_Q G (some (.int r9)) (en2 G κ dyn) sz) args s 0 0 (je_A G)) (en2 G κ dyn) sz 0 0 6 [(0, .ref (G.2.1 + 0)), (1, .int q1), (2, .int q2), (3, .int q3), (4, .int q4), (5, .int q5)] []) (v1 : Int32) (v2 : Int32) (v3 : Int32) (v5 : Int32) (s0 : Int32) (h : bX1_shareOf_139 F hb hu k6 κ v1 v2 v3 v5 s0 = some r9) : Js p l e ({ frames := 5, cells := 0, slots := 0, locals := 141 } : Room) s m args below meth c G 10 (MQ below (je_Q G (some (.int r9)) (en2 G κ dyn) sz) args s 0 0 (je_A G)) (en2 G κ dyn) sz 0 0 139 [(0, .ref (G.2.1 + 0)), (1, .int v1), (2, .int v2), (3, .int v3), (5, .int v5)] [.int s0] := by
  unfold bX1_shareOf_139 at h
  refine je_aload_n C dX1_shareOf_139 140 rfl 0 rfl ?_
  refine je_iload_n C dX1_shareOf_140 141 rfl 1 rfl ?_
  obtain ⟨t141, hg, h⟩ := p_cl_inv h
  refine je_callVi (As := [.int v1]) (rest := [.int s0]) C (metX1_worth hH hg) (en2_at kd0) rfl hdX1_worth rfl cwX1_314 rfl ⟨Nat.le_of_ble_eq_true rfl, Nat.le_of_ble_eq_true rfl⟩ (Nat.le_of_ble_eq_true rfl) dX1_shareOf_141 144 rfl ⟨Nat.le_refl _, Nat.le_refl _⟩ ?_
  refine je_goto C 148 dX1_shareOf_144 rfl ?_
  refine je_iadd C dX1_shareOf_148 149 rfl ?_
  refine je_lti h (fun t149 h => ?_)
  refine je_istore C dX1_shareOf_149 151 rfl (Nat.le_of_ble_eq_true rfl) [(4, .int t149), (0, .ref (G.2.1 + 0)), (1, .int v1), (2, .int v2), (3, .int v3), (5, .int v5)] rfl ?_
  refine je_iinc C (1) dX1_shareOf_151 154 rfl 5 rfl ic_1 (Nat.le_of_ble_eq_true rfl) [(5, .int (v5 + (1 : Int32))), (4, .int t149), (0, .ref (G.2.1 + 0)), (1, .int v1), (2, .int v2), (3, .int v3)] rfl ?_
  refine je_goto C 6 dX1_shareOf_154 rfl ?_
  refine je_sub [2, 3, 4, 5, 1, 0] [(0, .ref (G.2.1 + 0)), (1, .int v1), (2, .int v2), (3, .int v3), (4, .int t149), (5, .int (v5 + (1 : Int32)))] rfl ?_
  exact hk6 v1 v2 v3 t149 (v5 + (1 : Int32)) h
set_option maxHeartbeats 4000000 in
theorem wX1_shareOf_147 {p : Program} {l : Launch} {e : Env} {s : State} {m : MethodId} {args : Array Value} {below : List Frame} {meth : Method} {c : Code} {G : je_G} {dyn : Nat → Option je_E} {sz : Nat} {F : Nat} {hb : Nat} {hu : hd_T} {κ : kp_K} {r9 : Int32} {k6 : kp_K → Int32 → Int32 → Int32 → Int32 → Int32 → Option (Int32)} (C : Cx p s m args meth c G "MinistryDesks" cX1_shareOf 10 (some .int)) (hH : HouseRep G dyn hb hu) (hk6 : ∀ (q1 : Int32) (q2 : Int32) (q3 : Int32) (q4 : Int32) (q5 : Int32), k6 κ q1 q2 q3 q4 q5 = some r9 → Js p l e ({ frames := 5, cells := 0, slots := 0, locals := 141 } : Room) s m args below meth c G 10 (MQ below (je_Q G (some (.int r9)) (en2 G κ dyn) sz) args s 0 0 (je_A G)) (en2 G κ dyn) sz 0 0 6 [(0, .ref (G.2.1 + 0)), (1, .int q1), (2, .int q2), (3, .int q3), (4, .int q4), (5, .int q5)] []) (v1 : Int32) (v2 : Int32) (v3 : Int32) (v5 : Int32) (s0 : Int32) (h : bX1_shareOf_147 F hb hu k6 κ v1 v2 v3 v5 s0 = some r9) : Js p l e ({ frames := 5, cells := 0, slots := 0, locals := 141 } : Room) s m args below meth c G 10 (MQ below (je_Q G (some (.int r9)) (en2 G κ dyn) sz) args s 0 0 (je_A G)) (en2 G κ dyn) sz 0 0 147 [(0, .ref (G.2.1 + 0)), (1, .int v1), (2, .int v2), (3, .int v3), (5, .int v5)] [.int s0] := by
  unfold bX1_shareOf_147 at h
  refine je_iconst C (0) dX1_shareOf_147 148 rfl ic_0 ?_
  refine je_iadd C dX1_shareOf_148 149 rfl ?_
  refine je_lti h (fun t149 h => ?_)
  refine je_istore C dX1_shareOf_149 151 rfl (Nat.le_of_ble_eq_true rfl) [(4, .int t149), (0, .ref (G.2.1 + 0)), (1, .int v1), (2, .int v2), (3, .int v3), (5, .int v5)] rfl ?_
  refine je_iinc C (1) dX1_shareOf_151 154 rfl 5 rfl ic_1 (Nat.le_of_ble_eq_true rfl) [(5, .int (v5 + (1 : Int32))), (4, .int t149), (0, .ref (G.2.1 + 0)), (1, .int v1), (2, .int v2), (3, .int v3)] rfl ?_
  refine je_goto C 6 dX1_shareOf_154 rfl ?_
  refine je_sub [2, 3, 4, 5, 1, 0] [(0, .ref (G.2.1 + 0)), (1, .int v1), (2, .int v2), (3, .int v3), (4, .int t149), (5, .int (v5 + (1 : Int32)))] rfl ?_
  exact hk6 v1 v2 v3 t149 (v5 + (1 : Int32)) h
set_option maxHeartbeats 4000000 in
theorem wX1_shareOf_129 {p : Program} {l : Launch} {e : Env} {s : State} {m : MethodId} {args : Array Value} {below : List Frame} {meth : Method} {c : Code} {G : je_G} {dyn : Nat → Option je_E} {sz : Nat} {F : Nat} {hb : Nat} {hu : hd_T} {κ : kp_K} {r9 : Int32} {k6 : kp_K → Int32 → Int32 → Int32 → Int32 → Int32 → Option (Int32)} (C : Cx p s m args meth c G "MinistryDesks" cX1_shareOf 10 (some .int)) (hH : HouseRep G dyn hb hu) (hk6 : ∀ (q1 : Int32) (q2 : Int32) (q3 : Int32) (q4 : Int32) (q5 : Int32), k6 κ q1 q2 q3 q4 q5 = some r9 → Js p l e ({ frames := 5, cells := 0, slots := 0, locals := 141 } : Room) s m args below meth c G 10 (MQ below (je_Q G (some (.int r9)) (en2 G κ dyn) sz) args s 0 0 (je_A G)) (en2 G κ dyn) sz 0 0 6 [(0, .ref (G.2.1 + 0)), (1, .int q1), (2, .int q2), (3, .int q3), (4, .int q4), (5, .int q5)] []) (v1 : Int32) (v2 : Int32) (v3 : Int32) (v5 : Int32) (v8 : Int32) (v9 : Int32) (s0 : Int32) (h : bX1_shareOf_129 F hb hu k6 κ v1 v2 v3 v5 v8 v9 s0 = some r9) : Js p l e ({ frames := 5, cells := 0, slots := 0, locals := 141 } : Room) s m args below meth c G 10 (MQ below (je_Q G (some (.int r9)) (en2 G κ dyn) sz) args s 0 0 (je_A G)) (en2 G κ dyn) sz 0 0 129 [(0, .ref (G.2.1 + 0)), (1, .int v1), (2, .int v2), (3, .int v3), (5, .int v5), (8, .int v8), (9, .int v9)] [.int s0] := by
  unfold bX1_shareOf_129 at h
  refine je_iload C dX1_shareOf_129 131 rfl 5 rfl ?_
  refine je_if_ne C 139 dX1_shareOf_131 134 rfl rfl h (fun h => ?_) (fun h => ?_)
  · refine je_sub [0, 1, 2, 3, 4] [(0, .ref (G.2.1 + 0)), (1, .int v1), (2, .int v2), (3, .int v3), (5, .int v5)] rfl ?_
    exact wX1_shareOf_139 C hH hk6 v1 v2 v3 v5 s0 h
  refine je_iload C dX1_shareOf_134 136 rfl 6 rfl ?_
  refine je_if_eq C 147 dX1_shareOf_136 139 rfl rfl h (fun h => ?_) (fun h => ?_)
  · refine je_sub [0, 1, 2, 3, 4] [(0, .ref (G.2.1 + 0)), (1, .int v1), (2, .int v2), (3, .int v3), (5, .int v5)] rfl ?_
    exact wX1_shareOf_147 C hH hk6 v1 v2 v3 v5 s0 h
  refine je_sub [0, 1, 2, 3, 4] [(0, .ref (G.2.1 + 0)), (1, .int v1), (2, .int v2), (3, .int v3), (5, .int v5)] rfl ?_
  exact wX1_shareOf_139 C hH hk6 v1 v2 v3 v5 s0 h
set_option maxHeartbeats 4000000 in
theorem wX1_shareOf_103 {p : Program} {l : Launch} {e : Env} {s : State} {m : MethodId} {args : Array Value} {below : List Frame} {meth : Method} {c : Code} {G : je_G} {dyn : Nat → Option je_E} {sz : Nat} {F : Nat} {hb : Nat} {hu : hd_T} {κ : kp_K} {r9 : Int32} {k6 : kp_K → Int32 → Int32 → Int32 → Int32 → Int32 → Option (Int32)} (C : Cx p s m args meth c G "MinistryDesks" cX1_shareOf 10 (some .int)) (hH : HouseRep G dyn hb hu) (hk6 : ∀ (q1 : Int32) (q2 : Int32) (q3 : Int32) (q4 : Int32) (q5 : Int32), k6 κ q1 q2 q3 q4 q5 = some r9 → Js p l e ({ frames := 5, cells := 0, slots := 0, locals := 141 } : Room) s m args below meth c G 10 (MQ below (je_Q G (some (.int r9)) (en2 G κ dyn) sz) args s 0 0 (je_A G)) (en2 G κ dyn) sz 0 0 6 [(0, .ref (G.2.1 + 0)), (1, .int q1), (2, .int q2), (3, .int q3), (4, .int q4), (5, .int q5)] []) (v1 : Int32) (v2 : Int32) (v3 : Int32) (v4 : Int32) (v5 : Int32) (v7 : Int32) (v8 : Int32) (s0 : Int32) (h : bX1_shareOf_103 F hb hu k6 κ v1 v2 v3 v4 v5 v7 v8 s0 = some r9) : Js p l e ({ frames := 5, cells := 0, slots := 0, locals := 141 } : Room) s m args below meth c G 10 (MQ below (je_Q G (some (.int r9)) (en2 G κ dyn) sz) args s 0 0 (je_A G)) (en2 G κ dyn) sz 0 0 103 [(0, .ref (G.2.1 + 0)), (1, .int v1), (2, .int v2), (3, .int v3), (4, .int v4), (5, .int v5), (7, .int v7), (8, .int v8)] [.int s0] := by
  unfold bX1_shareOf_103 at h
  refine je_istore C dX1_shareOf_103 105 rfl (Nat.le_of_ble_eq_true rfl) [(9, .int s0), (0, .ref (G.2.1 + 0)), (1, .int v1), (2, .int v2), (3, .int v3), (4, .int v4), (5, .int v5), (7, .int v7), (8, .int v8)] rfl ?_
  refine je_iload C dX1_shareOf_105 107 rfl 5 rfl ?_
  refine je_iload_n C dX1_shareOf_107 108 rfl 4 rfl ?_
  refine je_if_eq C 129 dX1_shareOf_108 111 rfl rfl h (fun h => ?_) (fun h => ?_)
  · refine je_sub [1, 2, 3, 4, 6, 8, 0] [(0, .ref (G.2.1 + 0)), (1, .int v1), (2, .int v2), (3, .int v3), (5, .int v5), (8, .int v8), (9, .int s0)] rfl ?_
    exact wX1_shareOf_129 C hH hk6 v1 v2 v3 v5 v8 s0 v4 h
  refine je_iload C dX1_shareOf_111 113 rfl 7 rfl ?_
  refine je_if_lt C 129 dX1_shareOf_113 116 rfl rfl h (fun h => ?_) (fun h => ?_)
  · refine je_sub [1, 2, 3, 4, 6, 8, 0] [(0, .ref (G.2.1 + 0)), (1, .int v1), (2, .int v2), (3, .int v3), (5, .int v5), (8, .int v8), (9, .int s0)] rfl ?_
    exact wX1_shareOf_129 C hH hk6 v1 v2 v3 v5 v8 s0 v4 h
  refine je_iload C dX1_shareOf_116 118 rfl 8 rfl ?_
  refine je_if_eq C 147 dX1_shareOf_118 121 rfl rfl h (fun h => ?_) (fun h => ?_)
  · refine je_sub [1, 2, 3, 4, 6] [(0, .ref (G.2.1 + 0)), (1, .int v1), (2, .int v2), (3, .int v3), (5, .int v5)] rfl ?_
    exact wX1_shareOf_147 C hH hk6 v1 v2 v3 v5 v4 h
  refine je_iload C dX1_shareOf_121 123 rfl 0 rfl ?_
  refine je_if_eq C 147 dX1_shareOf_123 126 rfl rfl h (fun h => ?_) (fun h => ?_)
  · refine je_sub [1, 2, 3, 4, 6] [(0, .ref (G.2.1 + 0)), (1, .int v1), (2, .int v2), (3, .int v3), (5, .int v5)] rfl ?_
    exact wX1_shareOf_147 C hH hk6 v1 v2 v3 v5 v4 h
  refine je_goto C 139 dX1_shareOf_126 rfl ?_
  refine je_sub [1, 2, 3, 4, 6] [(0, .ref (G.2.1 + 0)), (1, .int v1), (2, .int v2), (3, .int v3), (5, .int v5)] rfl ?_
  exact wX1_shareOf_139 C hH hk6 v1 v2 v3 v5 v4 h
set_option maxHeartbeats 4000000 in
theorem wX1_shareOf_102 {p : Program} {l : Launch} {e : Env} {s : State} {m : MethodId} {args : Array Value} {below : List Frame} {meth : Method} {c : Code} {G : je_G} {dyn : Nat → Option je_E} {sz : Nat} {F : Nat} {hb : Nat} {hu : hd_T} {κ : kp_K} {r9 : Int32} {k6 : kp_K → Int32 → Int32 → Int32 → Int32 → Int32 → Option (Int32)} (C : Cx p s m args meth c G "MinistryDesks" cX1_shareOf 10 (some .int)) (hH : HouseRep G dyn hb hu) (hk6 : ∀ (q1 : Int32) (q2 : Int32) (q3 : Int32) (q4 : Int32) (q5 : Int32), k6 κ q1 q2 q3 q4 q5 = some r9 → Js p l e ({ frames := 5, cells := 0, slots := 0, locals := 141 } : Room) s m args below meth c G 10 (MQ below (je_Q G (some (.int r9)) (en2 G κ dyn) sz) args s 0 0 (je_A G)) (en2 G κ dyn) sz 0 0 6 [(0, .ref (G.2.1 + 0)), (1, .int q1), (2, .int q2), (3, .int q3), (4, .int q4), (5, .int q5)] []) (v1 : Int32) (v2 : Int32) (v3 : Int32) (v4 : Int32) (v5 : Int32) (v7 : Int32) (v8 : Int32) (h : bX1_shareOf_102 F hb hu k6 κ v1 v2 v3 v4 v5 v7 v8 = some r9) : Js p l e ({ frames := 5, cells := 0, slots := 0, locals := 141 } : Room) s m args below meth c G 10 (MQ below (je_Q G (some (.int r9)) (en2 G κ dyn) sz) args s 0 0 (je_A G)) (en2 G κ dyn) sz 0 0 102 [(0, .ref (G.2.1 + 0)), (1, .int v1), (2, .int v2), (3, .int v3), (4, .int v4), (5, .int v5), (7, .int v7), (8, .int v8)] [] := by
  unfold bX1_shareOf_102 at h
  refine je_iconst C (0) dX1_shareOf_102 103 rfl ic_0 ?_
  exact wX1_shareOf_103 C hH hk6 v1 v2 v3 v4 v5 v7 v8 (0 : Int32) h
set_option maxHeartbeats 4000000 in
theorem wX1_shareOf_6 {p : Program} {l : Launch} {e : Env} {s : State} {m : MethodId} {args : Array Value} {below : List Frame} {meth : Method} {c : Code} {G : je_G} {dyn : Nat → Option je_E} {sz : Nat} {F : Nat} {hb : Nat} {hu : hd_T} {κ : kp_K} {r9 : Int32} (C : Cx p s m args meth c G "MinistryDesks" cX1_shareOf 10 (some .int)) (hH : HouseRep G dyn hb hu) : ∀ (n : Nat) (v1 : Int32) (v2 : Int32) (v3 : Int32) (v4 : Int32) (v5 : Int32), bX1_shareOf_6 F hb hu n κ v1 v2 v3 v4 v5 = some r9 → Js p l e ({ frames := 5, cells := 0, slots := 0, locals := 141 } : Room) s m args below meth c G 10 (MQ below (je_Q G (some (.int r9)) (en2 G κ dyn) sz) args s 0 0 (je_A G)) (en2 G κ dyn) sz 0 0 6 [(0, .ref (G.2.1 + 0)), (1, .int v1), (2, .int v2), (3, .int v3), (4, .int v4), (5, .int v5)] [] := by
  intro n
  induction n with
  | zero =>
    intro v1 v2 v3 v4 v5 h
    cases h
  | succ n ih =>
    intro v1 v2 v3 v4 v5 h
    rw [bX1_shareOf_6] at h
    refine je_iload C dX1_shareOf_6 8 rfl 5 rfl ?_
    refine je_aload_n C dX1_shareOf_8 9 rfl 0 rfl ?_
    obtain ⟨hx, h⟩ := p_hs_inv h
    refine gX1_22 C hx dX1_shareOf_9 12 rfl ?_
    refine jh_listN C hH (t := 3) (by decide) q257 rfl dX1_shareOf_12 15 rfl ?_
    refine jh_size (t := 3) (rest := [.int v5]) C hH (by decide) cwX1_160 ⟨Nat.le_of_ble_eq_true rfl, Nat.le_of_ble_eq_true rfl⟩ (Nat.le_of_ble_eq_true rfl) dX1_shareOf_15 18 rfl ⟨Nat.le_refl _, Nat.le_refl _⟩ ?_
    refine je_icmp_ge C 157 dX1_shareOf_18 21 rfl rfl h (fun h => ?_) (fun h => ?_)
    · refine je_iload C dX1_shareOf_157 159 rfl 4 rfl ?_
      cases h
      exact je_iret C dX1_shareOf_159
    refine je_aload_n C dX1_shareOf_21 22 rfl 0 rfl ?_
    obtain ⟨hx, h⟩ := p_hs_inv h
    refine gX1_22 C hx dX1_shareOf_22 25 rfl ?_
    refine jh_listN C hH (t := 3) (by decide) q257 rfl dX1_shareOf_25 28 rfl ?_
    refine je_iload C dX1_shareOf_28 30 rfl 5 rfl ?_
    obtain ⟨hin3_v5, h⟩ := p_ck_inv h
    refine jh_get (t := 3) (rest := []) C hH (by decide) hin3_v5 cwX1_171 ⟨Nat.le_of_ble_eq_true rfl, Nat.le_of_ble_eq_true rfl⟩ (Nat.le_of_ble_eq_true rfl) dX1_shareOf_30 33 rfl ⟨Nat.le_refl _, Nat.le_refl _⟩ ?_
    refine jh_cast3 C hH hin3_v5 q1394 dX1_shareOf_33 36 rfl ?_
    refine je_astore C dX1_shareOf_36 38 rfl (Nat.le_of_ble_eq_true rfl) [(6, .ref (G.2.1 + (hu.2.2.2.2.1 3 v5.toNatClampNeg))), (0, .ref (G.2.1 + 0)), (1, .int v1), (2, .int v2), (3, .int v3), (4, .int v4), (5, .int v5)] rfl ?_
    refine je_aload C dX1_shareOf_38 40 rfl 0 rfl ?_
    refine jh_item3N C hH hin3_v5 (k := 2) (by decide) q1002 rfl dX1_shareOf_40 43 rfl ?_
    refine je_iload_n C dX1_shareOf_43 44 rfl 2 rfl ?_
    refine je_icmp_eq C 50 dX1_shareOf_44 47 rfl rfl h (fun h => ?_) (fun h => ?_)
    · refine je_aload_n C dX1_shareOf_50 51 rfl 1 rfl ?_
      obtain ⟨hx, h⟩ := p_hs_inv h
      refine gX1_22 C hx dX1_shareOf_51 54 rfl ?_
      refine jh_listN C hH (t := 0) (by decide) q246 rfl dX1_shareOf_54 57 rfl ?_
      refine je_aload C dX1_shareOf_57 59 rfl 0 rfl ?_
      refine jh_item3N C hH hin3_v5 (k := 1) (by decide) q999 rfl dX1_shareOf_59 62 rfl ?_
      refine je_lti h (fun t62 h => ?_)
      obtain ⟨hin0_t62, h⟩ := p_ck_inv h
      refine jh_get (t := 0) (rest := []) C hH (by decide) hin0_t62 cwX1_171 ⟨Nat.le_of_ble_eq_true rfl, Nat.le_of_ble_eq_true rfl⟩ (Nat.le_of_ble_eq_true rfl) dX1_shareOf_62 65 rfl ⟨Nat.le_refl _, Nat.le_refl _⟩ ?_
      refine jh_cast0 C hH hin0_t62 q1422 dX1_shareOf_65 68 rfl ?_
      refine jh_item0N C hH hin0_t62 (k := 2) (by decide) q857 rfl dX1_shareOf_68 71 rfl ?_
      refine je_lti h (fun t71 h => ?_)
      refine je_istore C dX1_shareOf_71 73 rfl (Nat.le_of_ble_eq_true rfl) [(7, .int t71), (6, .ref (G.2.1 + (hu.2.2.2.2.1 3 v5.toNatClampNeg))), (0, .ref (G.2.1 + 0)), (1, .int v1), (2, .int v2), (3, .int v3), (4, .int v4), (5, .int v5)] rfl ?_
      refine je_iload_n C dX1_shareOf_73 74 rfl 4 rfl ?_
      refine je_aload C dX1_shareOf_74 76 rfl 1 rfl ?_
      refine jh_item3N C hH hin3_v5 (k := 1) (by decide) q999 rfl dX1_shareOf_76 79 rfl ?_
      obtain ⟨t79, hg, h⟩ := p_cl_inv h
      refine je_callSi (As := [.int v2, .int (hu.1 31 v5.toNatClampNeg)]) (rest := []) C (metX1_isOf hg) hdX1_isOf cwX1_279 rfl ⟨Nat.le_of_ble_eq_true rfl, Nat.le_of_ble_eq_true rfl⟩ (Nat.le_of_ble_eq_true rfl) dX1_shareOf_79 82 rfl ⟨Nat.le_refl _, Nat.le_refl _⟩ ?_
      refine je_istore C dX1_shareOf_82 84 rfl (Nat.le_of_ble_eq_true rfl) [(8, .int t79), (7, .int t71), (6, .ref (G.2.1 + (hu.2.2.2.2.1 3 v5.toNatClampNeg))), (0, .ref (G.2.1 + 0)), (1, .int v1), (2, .int v2), (3, .int v3), (4, .int v4), (5, .int v5)] rfl ?_
      refine je_iload C dX1_shareOf_84 86 rfl 1 rfl ?_
      refine je_if_lt C 102 dX1_shareOf_86 89 rfl rfl h (fun h => ?_) (fun h => ?_)
      · refine je_sub [3, 4, 5, 6, 7, 8, 1, 0] [(0, .ref (G.2.1 + 0)), (1, .int v1), (2, .int v2), (3, .int v3), (4, .int v4), (5, .int v5), (7, .int t71), (8, .int t79)] rfl ?_
        exact wX1_shareOf_102 C hH ih v1 v2 v3 v4 v5 t71 t79 h
      refine je_iload_n C dX1_shareOf_89 90 rfl 5 rfl ?_
      refine je_iload C dX1_shareOf_90 92 rfl 1 rfl ?_
      obtain ⟨t92, hg, h⟩ := p_cl_inv h
      refine je_callSi (As := [.int v2, .int t71]) (rest := []) C (metX1_isOf hg) hdX1_isOf cwX1_279 rfl ⟨Nat.le_of_ble_eq_true rfl, Nat.le_of_ble_eq_true rfl⟩ (Nat.le_of_ble_eq_true rfl) dX1_shareOf_92 95 rfl ⟨Nat.le_refl _, Nat.le_refl _⟩ ?_
      refine je_if_eq C 102 dX1_shareOf_95 98 rfl rfl h (fun h => ?_) (fun h => ?_)
      · refine je_sub [3, 4, 5, 6, 7, 8, 1, 0] [(0, .ref (G.2.1 + 0)), (1, .int v1), (2, .int v2), (3, .int v3), (4, .int v4), (5, .int v5), (7, .int t71), (8, .int t79)] rfl ?_
        exact wX1_shareOf_102 C hH ih v1 v2 v3 v4 v5 t71 t79 h
      refine je_iconst C (1) dX1_shareOf_98 99 rfl ic_1 ?_
      refine je_goto C 103 dX1_shareOf_99 rfl ?_
      refine je_sub [3, 4, 5, 6, 7, 8, 1, 0] [(0, .ref (G.2.1 + 0)), (1, .int v1), (2, .int v2), (3, .int v3), (4, .int v4), (5, .int v5), (7, .int t71), (8, .int t79)] rfl ?_
      exact wX1_shareOf_103 C hH ih v1 v2 v3 v4 v5 t71 t79 (1 : Int32) h
    refine je_goto C 151 dX1_shareOf_47 rfl ?_
    refine je_iinc C (1) dX1_shareOf_151 154 rfl 6 rfl ic_1 (Nat.le_of_ble_eq_true rfl) [(5, .int (v5 + (1 : Int32))), (6, .ref (G.2.1 + (hu.2.2.2.2.1 3 v5.toNatClampNeg))), (0, .ref (G.2.1 + 0)), (1, .int v1), (2, .int v2), (3, .int v3), (4, .int v4)] rfl ?_
    refine je_goto C 6 dX1_shareOf_154 rfl ?_
    refine je_sub [2, 3, 4, 5, 6, 0] [(0, .ref (G.2.1 + 0)), (1, .int v1), (2, .int v2), (3, .int v3), (4, .int v4), (5, .int (v5 + (1 : Int32)))] rfl ?_
    exact ih v1 v2 v3 v4 (v5 + (1 : Int32)) h
set_option maxHeartbeats 4000000 in
theorem metX1_shareOf {l : Launch} {G : je_G} {dyn : Nat → Option je_E} {sz : Nat} {F : Nat} {hb : Nat} {hu : hd_T} {κ : kp_K} {v1 : Int32} {v2 : Int32} {v3 : Int32} {r9 : Int32} (hH : HouseRep G dyn hb hu) (h : pX1_shareOf F hb hu κ v1 v2 v3 = some r9) : MetS l G yX1_shareOf cX1_shareOf 10 (some .int) 5 141 0 0 [.ref (G.2.1 + 0), .int v1, .int v2, .int v3] (en2 G κ dyn) sz (some (.int r9)) (en2 G κ dyn) sz := by
  refine je_met "MinistryDesks" rfl (by decide +kernel) (Nat.le_of_ble_eq_true rfl) [(0, .ref (G.2.1 + 0)), (1, .int v1), (2, .int v2), (3, .int v3)] rfl (fun p e s m args below meth c C => ?_)
  unfold pX1_shareOf at h
  refine je_iconst C (0) dX1_shareOf_0 1 rfl ic_0 ?_
  refine je_istore C dX1_shareOf_1 3 rfl (Nat.le_of_ble_eq_true rfl) [(4, .int (0 : Int32)), (0, .ref (G.2.1 + 0)), (1, .int v1), (2, .int v2), (3, .int v3)] rfl ?_
  refine je_iconst C (0) dX1_shareOf_3 4 rfl ic_0 ?_
  refine je_istore C dX1_shareOf_4 6 rfl (Nat.le_of_ble_eq_true rfl) [(5, .int (0 : Int32)), (4, .int (0 : Int32)), (0, .ref (G.2.1 + 0)), (1, .int v1), (2, .int v2), (3, .int v3)] rfl ?_
  refine je_sub [2, 3, 4, 5, 1, 0] [(0, .ref (G.2.1 + 0)), (1, .int v1), (2, .int v2), (3, .int v3), (4, .int (0 : Int32)), (5, .int (0 : Int32))] rfl ?_
  exact wX1_shareOf_6 C hH F v1 v2 v3 (0 : Int32) (0 : Int32) h
set_option maxHeartbeats 4000000 in
theorem wX1_keeping_40 {p : Program} {l : Launch} {e : Env} {s : State} {m : MethodId} {args : Array Value} {below : List Frame} {meth : Method} {c : Code} {G : je_G} {σ : Nat → Option je_E} {sz : Nat} {F : Nat} {r9 : Int32} {k8 : Int32 → Int32 → Int32 → Int32 → Int32 → Option (Int32)} (C : Cx p s m args meth c G "MinistryDesks" cX1_keeping 6 (some .int)) (hk8 : ∀ (q1 : Int32) (q2 : Int32) (q3 : Int32) (q4 : Int32) (q5 : Int32), k8 q1 q2 q3 q4 q5 = some r9 → Js p l e ({ frames := 1, cells := 0, slots := 0, locals := 21 } : Room) s m args below meth c G 6 (MQ below (je_Q G (some (.int r9)) σ sz) args s 0 0 (je_A G)) σ sz 0 0 8 [(0, .ref (G.2.1 + 0)), (1, .int q1), (2, .int q2), (3, .int q3), (4, .int q4), (5, .int q5)] []) (v1 : Int32) (v2 : Int32) (v3 : Int32) (v4 : Int32) (v5 : Int32) (h : bX1_keeping_40 F k8 v1 v2 v3 v4 v5 = some r9) : Js p l e ({ frames := 1, cells := 0, slots := 0, locals := 21 } : Room) s m args below meth c G 6 (MQ below (je_Q G (some (.int r9)) σ sz) args s 0 0 (je_A G)) σ sz 0 0 40 [(0, .ref (G.2.1 + 0)), (1, .int v1), (2, .int v2), (3, .int v3), (4, .int v4), (5, .int v5)] [] := by
  unfold bX1_keeping_40 at h
  refine je_iload C dX1_keeping_40 42 rfl 4 rfl ?_
  refine je_bipush C (7) dX1_keeping_42 44 rfl bp_7 ?_
  refine je_imul C dX1_keeping_44 45 rfl ?_
  refine je_lti h (fun t45 h => ?_)
  refine je_istore C dX1_keeping_45 47 rfl (Nat.le_of_ble_eq_true rfl) [(4, .int t45), (0, .ref (G.2.1 + 0)), (1, .int v1), (2, .int v2), (3, .int v3), (5, .int v5)] rfl ?_
  refine je_iinc C (1) dX1_keeping_47 50 rfl 5 rfl ic_1 (Nat.le_of_ble_eq_true rfl) [(5, .int (v5 + (1 : Int32))), (4, .int t45), (0, .ref (G.2.1 + 0)), (1, .int v1), (2, .int v2), (3, .int v3)] rfl ?_
  refine je_goto C 8 dX1_keeping_50 rfl ?_
  refine je_sub [2, 3, 4, 5, 1, 0] [(0, .ref (G.2.1 + 0)), (1, .int v1), (2, .int v2), (3, .int v3), (4, .int t45), (5, .int (v5 + (1 : Int32)))] rfl ?_
  exact hk8 v1 v2 v3 t45 (v5 + (1 : Int32)) h
set_option maxHeartbeats 4000000 in
theorem wX1_keeping_8 {p : Program} {l : Launch} {e : Env} {s : State} {m : MethodId} {args : Array Value} {below : List Frame} {meth : Method} {c : Code} {G : je_G} {σ : Nat → Option je_E} {sz : Nat} {F : Nat} {r9 : Int32} (C : Cx p s m args meth c G "MinistryDesks" cX1_keeping 6 (some .int)) : ∀ (n : Nat) (v1 : Int32) (v2 : Int32) (v3 : Int32) (v4 : Int32) (v5 : Int32), bX1_keeping_8 F n v1 v2 v3 v4 v5 = some r9 → Js p l e ({ frames := 1, cells := 0, slots := 0, locals := 21 } : Room) s m args below meth c G 6 (MQ below (je_Q G (some (.int r9)) σ sz) args s 0 0 (je_A G)) σ sz 0 0 8 [(0, .ref (G.2.1 + 0)), (1, .int v1), (2, .int v2), (3, .int v3), (4, .int v4), (5, .int v5)] [] := by
  intro n
  induction n with
  | zero =>
    intro v1 v2 v3 v4 v5 h
    cases h
  | succ n ih =>
    intro v1 v2 v3 v4 v5 h
    rw [bX1_keeping_8] at h
    refine je_iload C dX1_keeping_8 10 rfl 5 rfl ?_
    refine je_iconst C (4) dX1_keeping_10 11 rfl ic_4 ?_
    refine je_icmp_ge C 53 dX1_keeping_11 14 rfl rfl h (fun h => ?_) (fun h => ?_)
    · refine je_iload_n C dX1_keeping_53 54 rfl 3 rfl ?_
      cases h
      exact je_iret C dX1_keeping_54
    refine je_iload_n C dX1_keeping_14 15 rfl 2 rfl ?_
    refine je_iload C dX1_keeping_15 17 rfl 5 rfl ?_
    obtain ⟨t17, hg, h⟩ := p_cl_inv h
    refine je_callSi (As := [.int v2, .int v5]) (rest := []) C (metX1_isOf hg) hdX1_isOf cwX1_279 rfl ⟨Nat.le_of_ble_eq_true rfl, Nat.le_of_ble_eq_true rfl⟩ (Nat.le_of_ble_eq_true rfl) dX1_keeping_17 20 rfl ⟨Nat.le_refl _, Nat.le_refl _⟩ ?_
    refine je_if_eq C 40 dX1_keeping_20 23 rfl rfl h (fun h => ?_) (fun h => ?_)
    · exact wX1_keeping_40 C ih v1 v2 v3 v4 v5 h
    refine je_iload_n C dX1_keeping_23 24 rfl 1 rfl ?_
    refine je_iload C dX1_keeping_24 26 rfl 4 rfl ?_
    obtain ⟨hne, h⟩ := p_cd_inv h
    refine je_idiv C dX1_keeping_26 27 rfl hne ?_
    refine je_bipush C (7) dX1_keeping_27 29 rfl bp_7 ?_
    obtain ⟨hne, h⟩ := p_cd_inv h
    refine je_irem C dX1_keeping_29 30 rfl hne ?_
    refine je_if_ne C 35 dX1_keeping_30 33 rfl rfl h (fun h => ?_) (fun h => ?_)
    · refine je_iload_n C dX1_keeping_35 36 rfl 3 rfl ?_
      refine je_iload C dX1_keeping_36 38 rfl 4 rfl ?_
      refine je_isub C dX1_keeping_38 39 rfl ?_
      refine je_lti h (fun t39 h => ?_)
      refine je_istore_n C dX1_keeping_39 40 rfl (Nat.le_of_ble_eq_true rfl) [(3, .int t39), (0, .ref (G.2.1 + 0)), (1, .int v1), (2, .int v2), (4, .int v4), (5, .int v5)] rfl ?_
      refine je_sub [1, 2, 3, 0, 4, 5] [(0, .ref (G.2.1 + 0)), (1, .int v1), (2, .int v2), (3, .int t39), (4, .int v4), (5, .int v5)] rfl ?_
      exact wX1_keeping_40 C ih v1 v2 t39 v4 v5 h
    refine je_iconst C (-1) dX1_keeping_33 34 rfl ic_m1 ?_
    cases h
    exact je_iret C dX1_keeping_34
set_option maxHeartbeats 4000000 in
theorem metX1_keeping {l : Launch} {G : je_G} {σ : Nat → Option je_E} {sz : Nat} {F : Nat} {v1 : Int32} {v2 : Int32} {r9 : Int32} (h : pX1_keeping F v1 v2 = some r9) : MetS l G yX1_keeping cX1_keeping 6 (some .int) 1 21 0 0 [.ref (G.2.1 + 0), .int v1, .int v2] σ sz (some (.int r9)) σ sz := by
  refine je_met "MinistryDesks" rfl (by decide +kernel) (Nat.le_of_ble_eq_true rfl) [(0, .ref (G.2.1 + 0)), (1, .int v1), (2, .int v2)] rfl (fun p e s m args below meth c C => ?_)
  unfold pX1_keeping at h
  refine je_iload_n C dX1_keeping_0 1 rfl 1 rfl ?_
  refine je_istore_n C dX1_keeping_1 2 rfl (Nat.le_of_ble_eq_true rfl) [(3, .int v1), (0, .ref (G.2.1 + 0)), (1, .int v1), (2, .int v2)] rfl ?_
  refine je_iconst C (1) dX1_keeping_2 3 rfl ic_1 ?_
  refine je_istore C dX1_keeping_3 5 rfl (Nat.le_of_ble_eq_true rfl) [(4, .int (1 : Int32)), (3, .int v1), (0, .ref (G.2.1 + 0)), (1, .int v1), (2, .int v2)] rfl ?_
  refine je_iconst C (0) dX1_keeping_5 6 rfl ic_0 ?_
  refine je_istore C dX1_keeping_6 8 rfl (Nat.le_of_ble_eq_true rfl) [(5, .int (0 : Int32)), (4, .int (1 : Int32)), (3, .int v1), (0, .ref (G.2.1 + 0)), (1, .int v1), (2, .int v2)] rfl ?_
  refine je_sub [3, 4, 5, 2, 1, 0] [(0, .ref (G.2.1 + 0)), (1, .int v1), (2, .int v2), (3, .int v1), (4, .int (1 : Int32)), (5, .int (0 : Int32))] rfl ?_
  exact wX1_keeping_8 C F v1 v2 v1 (1 : Int32) (0 : Int32) h
theorem hdX1_keeping : je_hd yX1_keeping 2 := ⟨by decide +kernel, by decide +kernel, by decide +kernel⟩
theorem hdX1_shareOf : je_hd yX1_shareOf 3 := ⟨by decide +kernel, by decide +kernel, by decide +kernel⟩
theorem cwX1_352 : GoodIn lw_all (wsV "MinistryDesks" 352 "MinistryDesks" yX1_shareOf (ws_ yX1_shareOf cX1_shareOf 10 (some .int))) := lw_V q1472 q1474 qs67 q161 q1475
theorem cwX1_355 : GoodIn lw_all (wsV "MinistryDesks" 355 "MinistryDesks" yX1_keeping (ws_ yX1_keeping cX1_keeping 6 (some .int))) := lw_V q1476 q1478 qs68 q161 q1479
theorem mlX1_358 : Cond.methodLink "MinistryDesks" 358 Lib.Math.max.name ∈ lw_all ∧ Cond.static Lib.Math.max.name ∈ lw_all ∧ Cond.initialized "java/lang/Math" ∈ lw_all ∧ Cond.code Lib.Math.max.name Lib.Math.max.code 2 (some .int) ∈ lw_all := ⟨q1480, q628, q173, q629⟩
theorem gX1_81 {p : Program} {l : Launch} {e : Env} {R : Room} {s : State} {m : MethodId} {args : Array Value} {below : List Frame} {meth : Method} {c : Code} {Q : State → Prop} {G : je_G} {cc : ByteArray} {nL : Nat} {rt : Option FieldType} {sz cells slots pc : Nat} {L : List (Nat × Value)} {st : List Value} {κ : kp_K} {dyn : Nat → Option je_E} (C : Cx p s m args meth c G "MinistryDesks" cc nL rt) (d : decode cc pc = .ok (.getfield 81, 3)) (n : Nat) (hn : pc + 3 = n) (kk : Js p l e R s m args below meth c G nL Q (en2 G κ dyn) sz cells slots n L (.ref (G.2.1 + 62) :: st)) : Js p l e R s m args below meth c G nL Q (en2 G κ dyn) sz cells slots pc L (.ref (G.2.1 + 0) :: st) := jk_getR (k := 21) (z := 0) C kd0 rfl in_X1 62 rfl (by decide) q463 rfl d n hn kk
set_option maxHeartbeats 4000000 in
theorem wX1_layShares_105 {p : Program} {l : Launch} {e : Env} {s : State} {m : MethodId} {args : Array Value} {below : List Frame} {meth : Method} {c : Code} {G : je_G} {dyn : Nat → Option je_E} {sz : Nat} {F : Nat} {hb : Nat} {hu : hd_T} {r9 : kp_K} {k43 : kp_K → Int32 → Int32 → Option (kp_K)} {k81 : kp_K → Int32 → Int32 → Int32 → Option (kp_K)} (C : Cx p s m args meth c G "MinistryDesks" cX1_layShares 8 none) (hH : HouseRep G dyn hb hu) (hk43 : ∀ (kq : kp_K) (q1 : Int32) (q3 : Int32), k43 kq q1 q3 = some r9 → Js p l e ({ frames := 6, cells := 0, slots := 0, locals := 170 } : Room) s m args below meth c G 8 (MQ below (je_Q G none (en2 G r9 dyn) sz) args s 0 0 (je_A G)) (en2 G kq dyn) sz 0 0 43 [(0, .ref (G.2.1 + 0)), (1, .int q1), (3, .int q3)] []) (hk81 : ∀ (kq : kp_K) (q1 : Int32) (q3 : Int32) (q4 : Int32), k81 kq q1 q3 q4 = some r9 → Js p l e ({ frames := 6, cells := 0, slots := 0, locals := 170 } : Room) s m args below meth c G 8 (MQ below (je_Q G none (en2 G r9 dyn) sz) args s 0 0 (je_A G)) (en2 G kq dyn) sz 0 0 81 [(0, .ref (G.2.1 + 0)), (1, .int q1), (3, .int q3), (4, .int q4)] []) : ∀ (n : Nat) (κ : kp_K) (v1 : Int32) (v3 : Int32) (v4 : Int32) (v5 : Int32) (v6 : Int32), bX1_layShares_105 F hb hu k43 k81 n κ v1 v3 v4 v5 v6 = some r9 → Js p l e ({ frames := 6, cells := 0, slots := 0, locals := 170 } : Room) s m args below meth c G 8 (MQ below (je_Q G none (en2 G r9 dyn) sz) args s 0 0 (je_A G)) (en2 G κ dyn) sz 0 0 105 [(0, .ref (G.2.1 + 0)), (1, .int v1), (3, .int v3), (4, .int v4), (5, .int v5), (6, .int v6)] [] := by
  intro n
  induction n with
  | zero =>
    intro κ v1 v3 v4 v5 v6 h
    cases h
  | succ n ih =>
    intro κ v1 v3 v4 v5 v6 h
    rw [bX1_layShares_105] at h
    refine je_iload C dX1_layShares_105 107 rfl 5 rfl ?_
    refine je_sipush C (2401) dX1_layShares_107 110 rfl sp_2401 ?_
    refine je_icmp_ge C 181 dX1_layShares_110 113 rfl rfl h (fun h => ?_) (fun h => ?_)
    · refine je_iinc C (1) dX1_layShares_181 184 rfl 3 rfl ic_1 (Nat.le_of_ble_eq_true rfl) [(4, .int (v4 + (1 : Int32))), (0, .ref (G.2.1 + 0)), (1, .int v1), (3, .int v3), (5, .int v5), (6, .int v6)] rfl ?_
      refine je_goto C 81 dX1_layShares_184 rfl ?_
      refine je_sub [1, 2, 3, 0] [(0, .ref (G.2.1 + 0)), (1, .int v1), (3, .int v3), (4, .int (v4 + (1 : Int32)))] rfl ?_
      exact hk81 κ v1 v3 (v4 + (1 : Int32)) h
    refine je_aload_n C dX1_layShares_113 114 rfl 0 rfl ?_
    refine je_iload C dX1_layShares_114 116 rfl 5 rfl ?_
    refine je_iload C dX1_layShares_116 118 rfl 3 rfl ?_
    obtain ⟨t118, hg, h⟩ := p_cl_inv h
    refine je_callVi (As := [.int v6, .int v4]) (rest := []) C (metX1_keeping hg) (en2_at kd0) rfl hdX1_keeping rfl cwX1_355 rfl ⟨Nat.le_of_ble_eq_true rfl, Nat.le_of_ble_eq_true rfl⟩ (Nat.le_of_ble_eq_true rfl) dX1_layShares_118 121 rfl ⟨Nat.le_refl _, Nat.le_refl _⟩ ?_
    refine je_istore C dX1_layShares_121 123 rfl (Nat.le_of_ble_eq_true rfl) [(7, .int t118), (0, .ref (G.2.1 + 0)), (1, .int v1), (3, .int v3), (4, .int v4), (5, .int v5), (6, .int v6)] rfl ?_
    refine je_iload C dX1_layShares_123 125 rfl 0 rfl ?_
    refine je_if_lt C 175 dX1_layShares_125 128 rfl rfl h (fun h => ?_) (fun h => ?_)
    · refine je_iinc C (1) dX1_layShares_175 178 rfl 6 rfl ic_1 (Nat.le_of_ble_eq_true rfl) [(6, .int (v6 + (1 : Int32))), (7, .int t118), (0, .ref (G.2.1 + 0)), (1, .int v1), (3, .int v3), (4, .int v4), (5, .int v5)] rfl ?_
      refine je_goto C 105 dX1_layShares_178 rfl ?_
      refine je_sub [2, 3, 4, 5, 6, 0] [(0, .ref (G.2.1 + 0)), (1, .int v1), (3, .int v3), (4, .int v4), (5, .int v5), (6, .int (v6 + (1 : Int32)))] rfl ?_
      exact ih κ v1 v3 v4 v5 (v6 + (1 : Int32)) h
    refine je_aload_n C dX1_layShares_128 129 rfl 1 rfl ?_
    refine gX1_81 C dX1_layShares_129 132 rfl ?_
    refine je_sipush C (2401) dX1_layShares_132 135 rfl sp_2401 ?_
    refine je_iload_n C dX1_layShares_135 136 rfl 3 rfl ?_
    refine je_imul C dX1_layShares_136 137 rfl ?_
    refine je_iload C dX1_layShares_137 139 rfl 6 rfl ?_
    refine je_iadd C dX1_layShares_139 140 rfl ?_
    refine je_aload_n C dX1_layShares_140 141 rfl 1 rfl ?_
    refine gX1_81 C dX1_layShares_141 144 rfl ?_
    refine je_sipush C (2401) dX1_layShares_144 147 rfl sp_2401 ?_
    refine je_iload_n C dX1_layShares_147 148 rfl 3 rfl ?_
    refine je_imul C dX1_layShares_148 149 rfl ?_
    refine je_iload C dX1_layShares_149 151 rfl 6 rfl ?_
    refine je_iadd C dX1_layShares_151 152 rfl ?_
    refine je_lti h (fun i152 h => ?_)
    refine jk_iald C kd62 dX1_layShares_152 153 rfl h (fun h => ?_)
    refine je_iload C dX1_layShares_153 155 rfl 5 rfl ?_
    refine je_aload_n C dX1_layShares_155 156 rfl 1 rfl ?_
    refine gX1_81 C dX1_layShares_156 159 rfl ?_
    refine je_sipush C (2401) dX1_layShares_159 162 rfl sp_2401 ?_
    refine je_iload_n C dX1_layShares_162 163 rfl 3 rfl ?_
    refine je_iconst C (1) dX1_layShares_163 164 rfl ic_1 ?_
    refine je_iadd C dX1_layShares_164 165 rfl ?_
    refine je_imul C dX1_layShares_165 166 rfl ?_
    refine je_iload C dX1_layShares_166 168 rfl 0 rfl ?_
    refine je_iadd C dX1_layShares_168 169 rfl ?_
    refine je_lti h (fun i169 h => ?_)
    refine jk_iald C kd62 dX1_layShares_169 170 rfl h (fun h => ?_)
    refine je_iadd C dX1_layShares_170 171 rfl ?_
    refine je_mmax C ⟨Nat.le_of_ble_eq_true rfl, Nat.le_of_ble_eq_true rfl⟩ (Nat.le_of_ble_eq_true rfl) mlX1_358 dX1_layShares_171 174 rfl ⟨Nat.le_refl _, Nat.le_refl _⟩ ?_
    refine jk_iast C kd62 dX1_layShares_174 175 rfl h (fun h => ?_)
    refine jk_lt h (fun k174 h => ?_)
    refine je_iinc C (1) dX1_layShares_175 178 rfl 6 rfl ic_1 (Nat.le_of_ble_eq_true rfl) [(6, .int (v6 + (1 : Int32))), (7, .int t118), (0, .ref (G.2.1 + 0)), (1, .int v1), (3, .int v3), (4, .int v4), (5, .int v5)] rfl ?_
    refine je_goto C 105 dX1_layShares_178 rfl ?_
    refine je_sub [2, 3, 4, 5, 6, 0] [(0, .ref (G.2.1 + 0)), (1, .int v1), (3, .int v3), (4, .int v4), (5, .int v5), (6, .int (v6 + (1 : Int32)))] rfl ?_
    exact ih k174 v1 v3 v4 v5 (v6 + (1 : Int32)) h
set_option maxHeartbeats 4000000 in
theorem wX1_layShares_81 {p : Program} {l : Launch} {e : Env} {s : State} {m : MethodId} {args : Array Value} {below : List Frame} {meth : Method} {c : Code} {G : je_G} {dyn : Nat → Option je_E} {sz : Nat} {F : Nat} {hb : Nat} {hu : hd_T} {r9 : kp_K} {k43 : kp_K → Int32 → Int32 → Option (kp_K)} (C : Cx p s m args meth c G "MinistryDesks" cX1_layShares 8 none) (hH : HouseRep G dyn hb hu) (hk43 : ∀ (kq : kp_K) (q1 : Int32) (q3 : Int32), k43 kq q1 q3 = some r9 → Js p l e ({ frames := 6, cells := 0, slots := 0, locals := 170 } : Room) s m args below meth c G 8 (MQ below (je_Q G none (en2 G r9 dyn) sz) args s 0 0 (je_A G)) (en2 G kq dyn) sz 0 0 43 [(0, .ref (G.2.1 + 0)), (1, .int q1), (3, .int q3)] []) : ∀ (n : Nat) (κ : kp_K) (v1 : Int32) (v3 : Int32) (v4 : Int32), bX1_layShares_81 F hb hu k43 n κ v1 v3 v4 = some r9 → Js p l e ({ frames := 6, cells := 0, slots := 0, locals := 170 } : Room) s m args below meth c G 8 (MQ below (je_Q G none (en2 G r9 dyn) sz) args s 0 0 (je_A G)) (en2 G κ dyn) sz 0 0 81 [(0, .ref (G.2.1 + 0)), (1, .int v1), (3, .int v3), (4, .int v4)] [] := by
  intro n
  induction n with
  | zero =>
    intro κ v1 v3 v4 h
    cases h
  | succ n ih =>
    intro κ v1 v3 v4 h
    rw [bX1_layShares_81] at h
    refine je_iload C dX1_layShares_81 83 rfl 3 rfl ?_
    refine je_iconst C (1) dX1_layShares_83 84 rfl ic_1 ?_
    refine je_aload_n C dX1_layShares_84 85 rfl 0 rfl ?_
    obtain ⟨t85, hg, h⟩ := p_cl_inv h
    refine je_callVi (As := []) (rest := [.int (1 : Int32), .int v4]) C (metX1_desks hH hg) (en2_at kd0) rfl hdX1_desks rfl cwX1_166 rfl ⟨Nat.le_of_ble_eq_true rfl, Nat.le_of_ble_eq_true rfl⟩ (Nat.le_of_ble_eq_true rfl) dX1_layShares_85 88 rfl ⟨Nat.le_refl _, Nat.le_refl _⟩ ?_
    refine je_ishl C dX1_layShares_88 89 rfl ?_
    refine je_icmp_ge C 187 dX1_layShares_89 92 rfl rfl h (fun h => ?_) (fun h => ?_)
    · refine je_iinc C (-1) dX1_layShares_187 190 rfl 2 rfl ic_m1 (Nat.le_of_ble_eq_true rfl) [(3, .int (v3 + (-1 : Int32))), (0, .ref (G.2.1 + 0)), (1, .int v1), (4, .int v4)] rfl ?_
      refine je_goto C 43 dX1_layShares_190 rfl ?_
      refine je_sub [1, 2, 0] [(0, .ref (G.2.1 + 0)), (1, .int v1), (3, .int (v3 + (-1 : Int32)))] rfl ?_
      exact hk43 κ v1 (v3 + (-1 : Int32)) h
    refine je_aload_n C dX1_layShares_92 93 rfl 0 rfl ?_
    refine je_iload_n C dX1_layShares_93 94 rfl 2 rfl ?_
    refine je_iload C dX1_layShares_94 96 rfl 3 rfl ?_
    refine je_iload_n C dX1_layShares_96 97 rfl 1 rfl ?_
    obtain ⟨t97, hg, h⟩ := p_cl_inv h
    refine je_callVi (As := [.int v3, .int v4, .int v1]) (rest := []) C (metX1_shareOf hH hg) (en2_at kd0) rfl hdX1_shareOf rfl cwX1_352 rfl ⟨Nat.le_of_ble_eq_true rfl, Nat.le_of_ble_eq_true rfl⟩ (Nat.le_of_ble_eq_true rfl) dX1_layShares_97 100 rfl ⟨Nat.le_refl _, Nat.le_refl _⟩ ?_
    refine je_istore C dX1_layShares_100 102 rfl (Nat.le_of_ble_eq_true rfl) [(5, .int t97), (0, .ref (G.2.1 + 0)), (1, .int v1), (3, .int v3), (4, .int v4)] rfl ?_
    refine je_iconst C (0) dX1_layShares_102 103 rfl ic_0 ?_
    refine je_istore C dX1_layShares_103 105 rfl (Nat.le_of_ble_eq_true rfl) [(6, .int (0 : Int32)), (5, .int t97), (0, .ref (G.2.1 + 0)), (1, .int v1), (3, .int v3), (4, .int v4)] rfl ?_
    refine je_sub [2, 3, 4, 5, 1, 0] [(0, .ref (G.2.1 + 0)), (1, .int v1), (3, .int v3), (4, .int v4), (5, .int t97), (6, .int (0 : Int32))] rfl ?_
    exact wX1_layShares_105 C hH hk43 ih F κ v1 v3 v4 t97 (0 : Int32) h
set_option maxHeartbeats 4000000 in
theorem wX1_layShares_50 {p : Program} {l : Launch} {e : Env} {s : State} {m : MethodId} {args : Array Value} {below : List Frame} {meth : Method} {c : Code} {G : je_G} {dyn : Nat → Option je_E} {sz : Nat} {F : Nat} {hb : Nat} {hu : hd_T} {r9 : kp_K} {k43 : kp_K → Int32 → Int32 → Option (kp_K)} (C : Cx p s m args meth c G "MinistryDesks" cX1_layShares 8 none) (hH : HouseRep G dyn hb hu) (hk43 : ∀ (kq : kp_K) (q1 : Int32) (q3 : Int32), k43 kq q1 q3 = some r9 → Js p l e ({ frames := 6, cells := 0, slots := 0, locals := 170 } : Room) s m args below meth c G 8 (MQ below (je_Q G none (en2 G r9 dyn) sz) args s 0 0 (je_A G)) (en2 G kq dyn) sz 0 0 43 [(0, .ref (G.2.1 + 0)), (1, .int q1), (3, .int q3)] []) : ∀ (n : Nat) (κ : kp_K) (v1 : Int32) (v3 : Int32) (v4 : Int32), bX1_layShares_50 F hb hu k43 n κ v1 v3 v4 = some r9 → Js p l e ({ frames := 6, cells := 0, slots := 0, locals := 170 } : Room) s m args below meth c G 8 (MQ below (je_Q G none (en2 G r9 dyn) sz) args s 0 0 (je_A G)) (en2 G κ dyn) sz 0 0 50 [(0, .ref (G.2.1 + 0)), (1, .int v1), (3, .int v3), (4, .int v4)] [] := by
  intro n
  induction n with
  | zero =>
    intro κ v1 v3 v4 h
    cases h
  | succ n ih =>
    intro κ v1 v3 v4 h
    rw [bX1_layShares_50] at h
    refine je_iload C dX1_layShares_50 52 rfl 3 rfl ?_
    refine je_sipush C (2401) dX1_layShares_52 55 rfl sp_2401 ?_
    refine je_icmp_ge C 78 dX1_layShares_55 58 rfl rfl h (fun h => ?_) (fun h => ?_)
    · refine je_iconst C (0) dX1_layShares_78 79 rfl ic_0 ?_
      refine je_istore C dX1_layShares_79 81 rfl (Nat.le_of_ble_eq_true rfl) [(4, .int (0 : Int32)), (0, .ref (G.2.1 + 0)), (1, .int v1), (3, .int v3)] rfl ?_
      refine je_sub [1, 2, 3, 0] [(0, .ref (G.2.1 + 0)), (1, .int v1), (3, .int v3), (4, .int (0 : Int32))] rfl ?_
      exact wX1_layShares_81 C hH hk43 F κ v1 v3 (0 : Int32) h
    refine je_aload_n C dX1_layShares_58 59 rfl 0 rfl ?_
    refine gX1_81 C dX1_layShares_59 62 rfl ?_
    refine je_sipush C (2401) dX1_layShares_62 65 rfl sp_2401 ?_
    refine je_iload_n C dX1_layShares_65 66 rfl 2 rfl ?_
    refine je_imul C dX1_layShares_66 67 rfl ?_
    refine je_iload C dX1_layShares_67 69 rfl 3 rfl ?_
    refine je_iadd C dX1_layShares_69 70 rfl ?_
    refine je_iconst C (0) dX1_layShares_70 71 rfl ic_0 ?_
    refine jk_iast C kd62 dX1_layShares_71 72 rfl h (fun h => ?_)
    refine jk_lt h (fun k71 h => ?_)
    refine je_iinc C (1) dX1_layShares_72 75 rfl 3 rfl ic_1 (Nat.le_of_ble_eq_true rfl) [(4, .int (v4 + (1 : Int32))), (0, .ref (G.2.1 + 0)), (1, .int v1), (3, .int v3)] rfl ?_
    refine je_goto C 50 dX1_layShares_75 rfl ?_
    refine je_sub [1, 2, 3, 0] [(0, .ref (G.2.1 + 0)), (1, .int v1), (3, .int v3), (4, .int (v4 + (1 : Int32)))] rfl ?_
    exact ih k71 v1 v3 (v4 + (1 : Int32)) h
set_option maxHeartbeats 4000000 in
theorem wX1_layShares_43 {p : Program} {l : Launch} {e : Env} {s : State} {m : MethodId} {args : Array Value} {below : List Frame} {meth : Method} {c : Code} {G : je_G} {dyn : Nat → Option je_E} {sz : Nat} {F : Nat} {hb : Nat} {hu : hd_T} {r9 : kp_K} (C : Cx p s m args meth c G "MinistryDesks" cX1_layShares 8 none) (hH : HouseRep G dyn hb hu) : ∀ (n : Nat) (κ : kp_K) (v1 : Int32) (v3 : Int32), bX1_layShares_43 F hb hu n κ v1 v3 = some r9 → Js p l e ({ frames := 6, cells := 0, slots := 0, locals := 170 } : Room) s m args below meth c G 8 (MQ below (je_Q G none (en2 G r9 dyn) sz) args s 0 0 (je_A G)) (en2 G κ dyn) sz 0 0 43 [(0, .ref (G.2.1 + 0)), (1, .int v1), (3, .int v3)] [] := by
  intro n
  induction n with
  | zero =>
    intro κ v1 v3 h
    cases h
  | succ n ih =>
    intro κ v1 v3 h
    rw [bX1_layShares_43] at h
    refine je_iload_n C dX1_layShares_43 44 rfl 2 rfl ?_
    refine je_if_lt C 193 dX1_layShares_44 47 rfl rfl h (fun h => ?_) (fun h => ?_)
    · cases h
      exact je_vret C dX1_layShares_193
    refine je_iconst C (0) dX1_layShares_47 48 rfl ic_0 ?_
    refine je_istore C dX1_layShares_48 50 rfl (Nat.le_of_ble_eq_true rfl) [(4, .int (0 : Int32)), (0, .ref (G.2.1 + 0)), (1, .int v1), (3, .int v3)] rfl ?_
    refine je_sub [1, 2, 3, 0] [(0, .ref (G.2.1 + 0)), (1, .int v1), (3, .int v3), (4, .int (0 : Int32))] rfl ?_
    exact wX1_layShares_50 C hH ih F κ v1 v3 (0 : Int32) h
set_option maxHeartbeats 4000000 in
theorem wX1_layShares_13 {p : Program} {l : Launch} {e : Env} {s : State} {m : MethodId} {args : Array Value} {below : List Frame} {meth : Method} {c : Code} {G : je_G} {dyn : Nat → Option je_E} {sz : Nat} {F : Nat} {hb : Nat} {hu : hd_T} {r9 : kp_K} (C : Cx p s m args meth c G "MinistryDesks" cX1_layShares 8 none) (hH : HouseRep G dyn hb hu) : ∀ (n : Nat) (κ : kp_K) (v1 : Int32) (v2 : Int32) (v3 : Int32), bX1_layShares_13 F hb hu n κ v1 v2 v3 = some r9 → Js p l e ({ frames := 6, cells := 0, slots := 0, locals := 170 } : Room) s m args below meth c G 8 (MQ below (je_Q G none (en2 G r9 dyn) sz) args s 0 0 (je_A G)) (en2 G κ dyn) sz 0 0 13 [(0, .ref (G.2.1 + 0)), (1, .int v1), (2, .int v2), (3, .int v3)] [] := by
  intro n
  induction n with
  | zero =>
    intro κ v1 v2 v3 h
    cases h
  | succ n ih =>
    intro κ v1 v2 v3 h
    rw [bX1_layShares_13] at h
    refine je_iload_n C dX1_layShares_13 14 rfl 3 rfl ?_
    refine je_sipush C (2401) dX1_layShares_14 17 rfl sp_2401 ?_
    refine je_icmp_ge C 39 dX1_layShares_17 20 rfl rfl h (fun h => ?_) (fun h => ?_)
    · refine je_iload_n C dX1_layShares_39 40 rfl 2 rfl ?_
      refine je_iconst C (1) dX1_layShares_40 41 rfl ic_1 ?_
      refine je_isub C dX1_layShares_41 42 rfl ?_
      refine je_lti h (fun t42 h => ?_)
      refine je_istore_n C dX1_layShares_42 43 rfl (Nat.le_of_ble_eq_true rfl) [(3, .int t42), (0, .ref (G.2.1 + 0)), (1, .int v1), (2, .int v2)] rfl ?_
      refine je_sub [1, 2, 0] [(0, .ref (G.2.1 + 0)), (1, .int v1), (3, .int t42)] rfl ?_
      exact wX1_layShares_43 C hH F κ v1 t42 h
    refine je_aload_n C dX1_layShares_20 21 rfl 0 rfl ?_
    refine gX1_81 C dX1_layShares_21 24 rfl ?_
    refine je_sipush C (2401) dX1_layShares_24 27 rfl sp_2401 ?_
    refine je_iload_n C dX1_layShares_27 28 rfl 2 rfl ?_
    refine je_imul C dX1_layShares_28 29 rfl ?_
    refine je_iload_n C dX1_layShares_29 30 rfl 3 rfl ?_
    refine je_iadd C dX1_layShares_30 31 rfl ?_
    refine je_iconst C (0) dX1_layShares_31 32 rfl ic_0 ?_
    refine jk_iast C kd62 dX1_layShares_32 33 rfl h (fun h => ?_)
    refine jk_lt h (fun k32 h => ?_)
    refine je_iinc C (1) dX1_layShares_33 36 rfl 3 rfl ic_1 (Nat.le_of_ble_eq_true rfl) [(3, .int (v3 + (1 : Int32))), (0, .ref (G.2.1 + 0)), (1, .int v1), (2, .int v2)] rfl ?_
    refine je_goto C 13 dX1_layShares_36 rfl ?_
    refine je_sub [1, 2, 3, 0] [(0, .ref (G.2.1 + 0)), (1, .int v1), (2, .int v2), (3, .int (v3 + (1 : Int32)))] rfl ?_
    exact ih k32 v1 v2 (v3 + (1 : Int32)) h
set_option maxHeartbeats 4000000 in
theorem metX1_layShares {l : Launch} {G : je_G} {dyn : Nat → Option je_E} {sz : Nat} {F : Nat} {hb : Nat} {hu : hd_T} {κ : kp_K} {v1 : Int32} {r9 : kp_K} (hH : HouseRep G dyn hb hu) (h : pX1_layShares F hb hu κ v1 = some r9) : MetS l G yX1_layShares cX1_layShares 8 none 6 170 0 0 [.ref (G.2.1 + 0), .int v1] (en2 G κ dyn) sz none (en2 G r9 dyn) sz := by
  refine je_met "MinistryDesks" rfl (by decide +kernel) (Nat.le_of_ble_eq_true rfl) [(0, .ref (G.2.1 + 0)), (1, .int v1)] rfl (fun p e s m args below meth c C => ?_)
  unfold pX1_layShares at h
  refine je_aload_n C dX1_layShares_0 1 rfl 0 rfl ?_
  obtain ⟨hx, h⟩ := p_hs_inv h
  refine gX1_22 C hx dX1_layShares_1 4 rfl ?_
  refine jh_listN C hH (t := 1) (by decide) q249 rfl dX1_layShares_4 7 rfl ?_
  refine jh_size (t := 1) (rest := []) C hH (by decide) cwX1_160 ⟨Nat.le_of_ble_eq_true rfl, Nat.le_of_ble_eq_true rfl⟩ (Nat.le_of_ble_eq_true rfl) dX1_layShares_7 10 rfl ⟨Nat.le_refl _, Nat.le_refl _⟩ ?_
  refine je_lti h (fun t10 h => ?_)
  refine je_istore_n C dX1_layShares_10 11 rfl (Nat.le_of_ble_eq_true rfl) [(2, .int t10), (0, .ref (G.2.1 + 0)), (1, .int v1)] rfl ?_
  refine je_iconst C (0) dX1_layShares_11 12 rfl ic_0 ?_
  refine je_istore_n C dX1_layShares_12 13 rfl (Nat.le_of_ble_eq_true rfl) [(3, .int (0 : Int32)), (2, .int t10), (0, .ref (G.2.1 + 0)), (1, .int v1)] rfl ?_
  refine je_sub [2, 3, 1, 0] [(0, .ref (G.2.1 + 0)), (1, .int v1), (2, .int t10), (3, .int (0 : Int32))] rfl ?_
  exact wX1_layShares_13 C hH F κ v1 t10 (0 : Int32) h
