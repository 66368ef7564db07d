/-! heap mode: walks: printed by gen -/
set_option maxRecDepth 100000
set_option maxHeartbeats 4000000 in
theorem hmJ14_init_X11 {l : Launch} {G : je_G} {τ : hT} {a0 : Nat} {r9 : Unit} (h : hJ14_init_X11 G τ a0 = some r9) : MetS l G yJ14_init cJ14_init 1 none 1 20 0 0 [.ref (G.2.1 + a0)] τ.1 (G.2.1 + τ.2) none τ.1 (G.2.1 + τ.2) := by
  refine je_metI "java/lang/Record" rfl (by decide +kernel) rfl (Nat.le_of_ble_eq_true rfl) [(0, .ref (G.2.1 + a0))] rfl (fun p e s m args below meth c C hI => ?_)
  unfold hJ14_init_X11 at h
  refine je_aload_n C dJ14_init_0 1 rfl 0 rfl ?_
  refine je_obji C hoJ14_1 ⟨Nat.le_of_ble_eq_true rfl, Nat.le_of_ble_eq_true rfl⟩ (Nat.le_of_ble_eq_true rfl) dJ14_init_1 4 rfl ?_
  cases h
  exact je_vret C dJ14_init_4
theorem ccX11_1 : Cond.methodLink "MinistryDesks$Coming" 1 yJ14_init ∈ lw_all ∧ Cond.instanceMethod yJ14_init ∈ lw_all ∧ Cond.initialized yJ14_init.cls ∈ lw_all ∧ Cond.code yJ14_init cJ14_init 1 none ∈ lw_all := ⟨q966, q949, q185, q950⟩
set_option maxHeartbeats 4000000 in
theorem hmX11_init {l : Launch} {G : je_G} {τ : hT} {a0 : Nat} {v1 : Int32} {v2 : Int32} {v3 : Int32} {v4 : Int32} {r9 : hT} (h : hX11_init G τ a0 v1 v2 v3 v4 = some r9) : MetS l G yX11_init cX11_init 5 none 2 40 0 0 [.ref (G.2.1 + a0), .int v1, .int v2, .int v3, .int v4] τ.1 (G.2.1 + τ.2) none r9.1 (G.2.1 + r9.2) := by
  refine je_metI "MinistryDesks$Coming" rfl (by decide +kernel) rfl (Nat.le_of_ble_eq_true rfl) [(0, .ref (G.2.1 + a0)), (1, .int v1), (2, .int v2), (3, .int v3), (4, .int v4)] rfl (fun p e s m args below meth c C hI => ?_)
  unfold hX11_init at h
  refine je_aload_n C dX11_init_0 1 rfl 0 rfl ?_
  replace h := p_cl_inv h
  obtain ⟨u1, hg, h⟩ := h
  refine je_callI (As := []) (rest := []) C (hmJ14_init_X11 hg) hdJ14_init rfl ccX11_1 rfl ⟨Nat.le_of_ble_eq_true rfl, Nat.le_of_ble_eq_true rfl⟩ ⟨Nat.le_of_ble_eq_true rfl, Nat.le_of_ble_eq_true rfl⟩ (Nat.le_of_ble_eq_true rfl) dX11_init_1 4 rfl ?_
  refine je_aload_n C dX11_init_4 5 rfl 0 rfl ?_
  refine je_iload_n C dX11_init_5 6 rfl 1 rfl ?_
  replace h := p_ob_inv h
  obtain ⟨V6, he, h⟩ := h
  refine je_putF (k := 0) (v := .int v1) C hI he rfl in_X11 tyX11 tyX11_ok nmX11 (by decide) q967 rfl rfl rfl rfl rfl dX11_init_6 9 rfl ?_
  refine jh_lt h ?_
  clear h
  intro t6 h
  refine je_aload_n C dX11_init_9 10 rfl 0 rfl ?_
  refine je_iload_n C dX11_init_10 11 rfl 2 rfl ?_
  replace h := p_ob_inv h
  obtain ⟨V11, he, h⟩ := h
  refine je_putF (k := 1) (v := .int v2) C hI he rfl in_X11 tyX11 tyX11_ok nmX11 (by decide) q970 rfl rfl rfl rfl rfl dX11_init_11 14 rfl ?_
  refine jh_lt h ?_
  clear h
  intro t11 h
  refine je_aload_n C dX11_init_14 15 rfl 0 rfl ?_
  refine je_iload_n C dX11_init_15 16 rfl 3 rfl ?_
  replace h := p_ob_inv h
  obtain ⟨V16, he, h⟩ := h
  refine je_putF (k := 2) (v := .int v3) C hI he rfl in_X11 tyX11 tyX11_ok nmX11 (by decide) q973 rfl rfl rfl rfl rfl dX11_init_16 19 rfl ?_
  refine jh_lt h ?_
  clear h
  intro t16 h
  refine je_aload_n C dX11_init_19 20 rfl 0 rfl ?_
  refine je_iload C dX11_init_20 22 rfl 4 rfl ?_
  replace h := p_ob_inv h
  obtain ⟨V22, he, h⟩ := h
  refine je_putF (k := 3) (v := .int v4) C hI he rfl in_X11 tyX11 tyX11_ok nmX11 (by decide) q976 rfl rfl rfl rfl rfl dX11_init_22 25 rfl ?_
  refine jh_lt h ?_
  clear h
  intro t22 h
  cases h
  exact je_vret C dX11_init_25
set_option maxHeartbeats 4000000 in
theorem hmJ14_init_X12 {l : Launch} {G : je_G} {τ : hT} {a0 : Nat} {r9 : Unit} (h : hJ14_init_X12 G τ a0 = some r9) : MetS l G yJ14_init cJ14_init 1 none 1 20 0 0 [.ref (G.2.1 + a0)] τ.1 (G.2.1 + τ.2) none τ.1 (G.2.1 + τ.2) := by
  refine je_metI "java/lang/Record" rfl (by decide +kernel) rfl (Nat.le_of_ble_eq_true rfl) [(0, .ref (G.2.1 + a0))] rfl (fun p e s m args below meth c C hI => ?_)
  unfold hJ14_init_X12 at h
  refine je_aload_n C dJ14_init_0 1 rfl 0 rfl ?_
  refine je_obji C hoJ14_1 ⟨Nat.le_of_ble_eq_true rfl, Nat.le_of_ble_eq_true rfl⟩ (Nat.le_of_ble_eq_true rfl) dJ14_init_1 4 rfl ?_
  cases h
  exact je_vret C dJ14_init_4
theorem ccX12_1 : Cond.methodLink "MinistryDesks$Question" 1 yJ14_init ∈ lw_all ∧ Cond.instanceMethod yJ14_init ∈ lw_all ∧ Cond.initialized yJ14_init.cls ∈ lw_all ∧ Cond.code yJ14_init cJ14_init 1 none ∈ lw_all := ⟨q993, q949, q185, q950⟩
set_option maxHeartbeats 4000000 in
theorem hmX12_init {l : Launch} {G : je_G} {τ : hT} {a0 : Nat} {v1 : Int32} {v2 : Int32} {v3 : Int32} {v4 : Int32} {r9 : hT} (h : hX12_init G τ a0 v1 v2 v3 v4 = some r9) : MetS l G yX12_init cX12_init 5 none 2 40 0 0 [.ref (G.2.1 + a0), .int v1, .int v2, .int v3, .int v4] τ.1 (G.2.1 + τ.2) none r9.1 (G.2.1 + r9.2) := by
  refine je_metI "MinistryDesks$Question" rfl (by decide +kernel) rfl (Nat.le_of_ble_eq_true rfl) [(0, .ref (G.2.1 + a0)), (1, .int v1), (2, .int v2), (3, .int v3), (4, .int v4)] rfl (fun p e s m args below meth c C hI => ?_)
  unfold hX12_init at h
  refine je_aload_n C dX12_init_0 1 rfl 0 rfl ?_
  replace h := p_cl_inv h
  obtain ⟨u1, hg, h⟩ := h
  refine je_callI (As := []) (rest := []) C (hmJ14_init_X12 hg) hdJ14_init rfl ccX12_1 rfl ⟨Nat.le_of_ble_eq_true rfl, Nat.le_of_ble_eq_true rfl⟩ ⟨Nat.le_of_ble_eq_true rfl, Nat.le_of_ble_eq_true rfl⟩ (Nat.le_of_ble_eq_true rfl) dX12_init_1 4 rfl ?_
  refine je_aload_n C dX12_init_4 5 rfl 0 rfl ?_
  refine je_iload_n C dX12_init_5 6 rfl 1 rfl ?_
  replace h := p_ob_inv h
  obtain ⟨V6, he, h⟩ := h
  refine je_putF (k := 0) (v := .int v1) C hI he rfl in_X12 tyX12 tyX12_ok nmX12 (by decide) q994 rfl rfl rfl rfl rfl dX12_init_6 9 rfl ?_
  refine jh_lt h ?_
  clear h
  intro t6 h
  refine je_aload_n C dX12_init_9 10 rfl 0 rfl ?_
  refine je_iload_n C dX12_init_10 11 rfl 2 rfl ?_
  replace h := p_ob_inv h
  obtain ⟨V11, he, h⟩ := h
  refine je_putF (k := 1) (v := .int v2) C hI he rfl in_X12 tyX12 tyX12_ok nmX12 (by decide) q997 rfl rfl rfl rfl rfl dX12_init_11 14 rfl ?_
  refine jh_lt h ?_
  clear h
  intro t11 h
  refine je_aload_n C dX12_init_14 15 rfl 0 rfl ?_
  refine je_iload_n C dX12_init_15 16 rfl 3 rfl ?_
  replace h := p_ob_inv h
  obtain ⟨V16, he, h⟩ := h
  refine je_putF (k := 2) (v := .int v3) C hI he rfl in_X12 tyX12 tyX12_ok nmX12 (by decide) q1000 rfl rfl rfl rfl rfl dX12_init_16 19 rfl ?_
  refine jh_lt h ?_
  clear h
  intro t16 h
  refine je_aload_n C dX12_init_19 20 rfl 0 rfl ?_
  refine je_iload C dX12_init_20 22 rfl 4 rfl ?_
  replace h := p_ob_inv h
  obtain ⟨V22, he, h⟩ := h
  refine je_putF (k := 3) (v := .int v4) C hI he rfl in_X12 tyX12 tyX12_ok nmX12 (by decide) q1003 rfl rfl rfl rfl rfl dX12_init_22 25 rfl ?_
  refine jh_lt h ?_
  clear h
  intro t22 h
  cases h
  exact je_vret C dX12_init_25
set_option maxHeartbeats 4000000 in
theorem hmJ14_init_X13 {l : Launch} {G : je_G} {τ : hT} {a0 : Nat} {r9 : Unit} (h : hJ14_init_X13 G τ a0 = some r9) : MetS l G yJ14_init cJ14_init 1 none 1 20 0 0 [.ref (G.2.1 + a0)] τ.1 (G.2.1 + τ.2) none τ.1 (G.2.1 + τ.2) := by
  refine je_metI "java/lang/Record" rfl (by decide +kernel) rfl (Nat.le_of_ble_eq_true rfl) [(0, .ref (G.2.1 + a0))] rfl (fun p e s m args below meth c C hI => ?_)
  unfold hJ14_init_X13 at h
  refine je_aload_n C dJ14_init_0 1 rfl 0 rfl ?_
  refine je_obji C hoJ14_1 ⟨Nat.le_of_ble_eq_true rfl, Nat.le_of_ble_eq_true rfl⟩ (Nat.le_of_ble_eq_true rfl) dJ14_init_1 4 rfl ?_
  cases h
  exact je_vret C dJ14_init_4
theorem ccX13_1 : Cond.methodLink "MinistryDesks$Fire" 1 yJ14_init ∈ lw_all ∧ Cond.instanceMethod yJ14_init ∈ lw_all ∧ Cond.initialized yJ14_init.cls ∈ lw_all ∧ Cond.code yJ14_init cJ14_init 1 none ∈ lw_all := ⟨q1019, q949, q185, q950⟩
set_option maxHeartbeats 4000000 in
theorem hmX13_init {l : Launch} {G : je_G} {τ : hT} {a0 : Nat} {v1 : Int32} {v2 : Int32} {r9 : hT} (h : hX13_init G τ a0 v1 v2 = some r9) : MetS l G yX13_init cX13_init 3 none 2 40 0 0 [.ref (G.2.1 + a0), .int v1, .int v2] τ.1 (G.2.1 + τ.2) none r9.1 (G.2.1 + r9.2) := by
  refine je_metI "MinistryDesks$Fire" rfl (by decide +kernel) rfl (Nat.le_of_ble_eq_true rfl) [(0, .ref (G.2.1 + a0)), (1, .int v1), (2, .int v2)] rfl (fun p e s m args below meth c C hI => ?_)
  unfold hX13_init at h
  refine je_aload_n C dX13_init_0 1 rfl 0 rfl ?_
  replace h := p_cl_inv h
  obtain ⟨u1, hg, h⟩ := h
  refine je_callI (As := []) (rest := []) C (hmJ14_init_X13 hg) hdJ14_init rfl ccX13_1 rfl ⟨Nat.le_of_ble_eq_true rfl, Nat.le_of_ble_eq_true rfl⟩ ⟨Nat.le_of_ble_eq_true rfl, Nat.le_of_ble_eq_true rfl⟩ (Nat.le_of_ble_eq_true rfl) dX13_init_1 4 rfl ?_
  refine je_aload_n C dX13_init_4 5 rfl 0 rfl ?_
  refine je_iload_n C dX13_init_5 6 rfl 1 rfl ?_
  replace h := p_ob_inv h
  obtain ⟨V6, he, h⟩ := h
  refine je_putF (k := 0) (v := .int v1) C hI he rfl in_X13 tyX13 tyX13_ok nmX13 (by decide) q1020 rfl rfl rfl rfl rfl dX13_init_6 9 rfl ?_
  refine jh_lt h ?_
  clear h
  intro t6 h
  refine je_aload_n C dX13_init_9 10 rfl 0 rfl ?_
  refine je_iload_n C dX13_init_10 11 rfl 2 rfl ?_
  replace h := p_ob_inv h
  obtain ⟨V11, he, h⟩ := h
  refine je_putF (k := 1) (v := .int v2) C hI he rfl in_X13 tyX13 tyX13_ok nmX13 (by decide) q1022 rfl rfl rfl rfl rfl dX13_init_11 14 rfl ?_
  refine jh_lt h ?_
  clear h
  intro t11 h
  cases h
  exact je_vret C dX13_init_14
set_option maxHeartbeats 4000000 in
theorem hmX7_isKey {l : Launch} {G : je_G} {τ : hT} {a0 : Nat} {v1 : Int32} {r9 : Int32} (h : hX7_isKey G τ a0 v1 = some r9) : MetS l G yX7_isKey cX7_isKey 2 (some .boolean) 0 0 0 0 [.ref (G.2.1 + a0), .int v1] τ.1 (G.2.1 + τ.2) (some (.int r9)) τ.1 (G.2.1 + τ.2) := by
  refine je_met "MinistryDesks$Reader" rfl (by decide +kernel) (Nat.le_of_ble_eq_true rfl) [(0, .ref (G.2.1 + a0)), (1, .int v1)] rfl (fun p e s m args below meth c C => ?_)
  unfold hX7_isKey at h
  refine je_aload_n C dX7_isKey_0 1 rfl 0 rfl ?_
  replace h := p_ob_inv h
  obtain ⟨V1, he, h⟩ := h
  replace h := p_vi_inv h
  obtain ⟨x1, hv, h⟩ := h
  refine je_get (k := 3) C he rfl in_X7 (by decide) q554 rfl dX7_isKey_1 4 rfl hv ?_
  refine je_iconst C (1) dX7_isKey_4 5 rfl ic_1 ?_
  refine je_icmp_ne C 20 dX7_isKey_5 8 rfl rfl h ?_ ?_
  · clear h
    intro h
    refine je_iconst C (0) dX7_isKey_20 21 rfl ic_0 ?_
    cases h
    exact je_zret C dX7_isKey_21 (Or.inl rfl)
  clear h
  intro h
  refine je_aload_n C dX7_isKey_8 9 rfl 0 rfl ?_
  replace h := p_ob_inv h
  obtain ⟨V9, he, h⟩ := h
  replace h := p_vi_inv h
  obtain ⟨x9, hv, h⟩ := h
  refine je_get (k := 4) C he rfl in_X7 (by decide) q555 rfl dX7_isKey_9 12 rfl hv ?_
  refine je_iload_n C dX7_isKey_12 13 rfl 1 rfl ?_
  refine je_icmp_ne C 20 dX7_isKey_13 16 rfl rfl h ?_ ?_
  · clear h
    intro h
    refine je_iconst C (0) dX7_isKey_20 21 rfl ic_0 ?_
    cases h
    exact je_zret C dX7_isKey_21 (Or.inl rfl)
  clear h
  intro h
  refine je_iconst C (1) dX7_isKey_16 17 rfl ic_1 ?_
  refine je_goto C 21 dX7_isKey_17 rfl ?_
  cases h
  exact je_zret C dX7_isKey_21 (Or.inr rfl)
set_option maxHeartbeats 4000000 in
theorem hwX7_knot_18 {p : Program} {l : Launch} {e : Env} {s : State} {m : MethodId} {args : Array Value} {below : List Frame} {meth : Method} {c : Code} {G : je_G} {c0 : Nat} {r9 : (Nat × hS) ⊕ (Unit × hS)} (C : Cx p s m args meth c G "MinistryDesks$Reader" cX7_knot 1 none) (hnt : ∀ x ∈ c.exceptionTable.toList, False) (τ : hS) (a0 : Nat) (s0 : Int32) (s1 : Nat) (cells : Nat) (hc : c0 + cells = τ.2.2 ∧ τ.2.2 ≤ DC) (h : hbX7_knot_18 G τ a0 s0 s1 = some r9) : Js p l e ({ frames := 5, cells := DC - c0, slots := 64 * (DC - c0), locals := 111 } : Room) s m args below meth c G 1 (xMQ below G (xV r9) args s c0) τ.1 (G.2.1 + τ.2.1) cells (64 * cells) 18 [(0, .ref (G.2.1 + a0))] [.int s0, .ref (G.2.1 + s1)] := by
  unfold hbX7_knot_18 at h
  replace h := p_ob_inv h
  obtain ⟨V18, he, h⟩ := h
  replace h := p_ex_inv h
  rcases h with ⟨z9, hg, hz1, rfl⟩ | ⟨u18, hg, hz1, hz2, h⟩
  · exact jx_callV (As := [.int s0]) (rest := []) C (hmX7_much hg) he rfl hdX7_much rfl cwX7_103 rfl ⟨Nat.le_of_ble_eq_true rfl, Nat.le_of_ble_eq_true rfl⟩ ⟨rfl, rfl⟩ hc (Nat.le_refl _) (Nat.le_of_ble_eq_true rfl) hnt dX7_knot_18 21 rfl hz1 (fun _ e9 => e9) (fun _ e9 => by cases e9)
  refine jx_callV (As := [.int s0]) (rest := []) C (hmX7_much hg) he rfl hdX7_much rfl cwX7_103 rfl ⟨Nat.le_of_ble_eq_true rfl, Nat.le_of_ble_eq_true rfl⟩ ⟨rfl, rfl⟩ hc (Nat.le_refl _) (Nat.le_of_ble_eq_true rfl) hnt dX7_knot_18 21 rfl hz1 (fun _ e9 => by cases e9) (fun z9 e9 cells2 hc2 => ?_)
  cases e9
  refine jx_lt (t0 := u18.2) h ?_
  clear h
  intro t18 e2 h
  replace hc : c0 + cells2 = t18.2.2 ∧ t18.2.2 ≤ DC := jx_f7 e2 hc2 hz2
  clear e2 hc2 hz1 hz2 hg
  refine je_aload_n C dX7_knot_21 22 rfl 0 rfl ?_
  replace h := p_ob_inv h
  obtain ⟨V22, he, h⟩ := h
  replace h := p_vr_inv h
  obtain ⟨x22, hv, h⟩ := h
  refine je_get (k := 1) C he rfl in_X7 (by decide) q552 rfl dX7_knot_22 25 rfl hv ?_
  refine je_dup C dX7_knot_25 26 rfl (by cases x22 <;> rfl) ?_
  obtain ⟨j26, hj9, h8⟩ := p_at_inv h
  clear h
  subst hj9
  have h := h8
  clear h8
  replace h := p_ob_inv h
  obtain ⟨V26, he, h⟩ := h
  replace h := p_vi_inv h
  obtain ⟨x26, hv, h⟩ := h
  refine je_getN (k := 9) C he rfl in_X2 (by decide) q273 rfl dX7_knot_26 29 rfl hv ?_
  refine je_iconst C (1) dX7_knot_29 30 rfl ic_1 ?_
  refine je_iadd C dX7_knot_30 31 rfl ?_
  replace h := p_ob_inv h
  obtain ⟨V31, he, h⟩ := h
  refine je_putN (k := 9) (v := .int (x26 + (1 : Int32))) C he rfl in_X2 tyX2 tyX2_ok nmX2 (by decide) q273 rfl rfl rfl rfl dX7_knot_31 34 rfl ?_
  refine jx_lt h ?_
  clear h
  intro t31 e2 h
  replace hc : c0 + cells2 = t31.2.2 ∧ t31.2.2 ≤ DC := jx_f0 e2 hc
  clear e2
  cases h
  exact jx_ret hc.1 (Nat.le_refl _) (je_vret C dX7_knot_34)
set_option maxHeartbeats 4000000 in
theorem hmX7_knot {l : Launch} {G : je_G} {τ : hS} {a0 : Nat} {r9 : (Nat × hS) ⊕ (Unit × hS)} (h : hX7_knot G τ a0 = some r9) : MetX l G yX7_knot cX7_knot 1 none 5 111 [.ref (G.2.1 + a0)] τ (xV r9) := by
  by_cases hDC : τ.2.2 ≤ DC
  · refine jx_met "MinistryDesks$Reader" rfl (by decide +kernel) (Nat.le_of_ble_eq_true rfl) [(0, .ref (G.2.1 + a0))] rfl (fun p e s m args below meth c C hnt => ?_)
    have hc : τ.2.2 + 0 = τ.2.2 ∧ τ.2.2 ≤ DC := ⟨rfl, hDC⟩
    unfold hX7_knot at h
    obtain ⟨-, h⟩ := p_pr_inv h
    refine je_widen 0 (64 * 0) (Nat.le_refl _) (Nat.le_refl _) ?_
    refine je_aload_n C dX7_knot_0 1 rfl 0 rfl ?_
    refine je_aload_n C dX7_knot_1 2 rfl 0 rfl ?_
    replace h := p_ob_inv h
    obtain ⟨V2, he, h⟩ := h
    replace h := p_vr_inv h
    obtain ⟨x2, hv, h⟩ := h
    refine je_get (k := 1) C he rfl in_X7 (by decide) q552 rfl dX7_knot_2 5 rfl hv ?_
    obtain ⟨j5, hj9, h8⟩ := p_at_inv h
    clear h
    subst hj9
    have h := h8
    clear h8
    replace h := p_ob_inv h
    obtain ⟨V5, he, h⟩ := h
    replace h := p_vi_inv h
    obtain ⟨x5, hv, h⟩ := h
    refine je_getN (k := 9) C he rfl in_X2 (by decide) q273 rfl dX7_knot_5 8 rfl hv ?_
    refine je_bipush C (64) dX7_knot_8 10 rfl bp_64 ?_
    refine je_icmp_ne C 17 dX7_knot_10 13 rfl rfl h ?_ ?_
    · clear h
      intro h
      refine je_iconst C (0) dX7_knot_17 18 rfl ic_0 ?_
      exact hwX7_knot_18 C hnt τ a0 (0 : Int32) a0 0 hc h
    clear h
    intro h
    refine je_iconst C (1) dX7_knot_13 14 rfl ic_1 ?_
    refine je_goto C 18 dX7_knot_14 rfl ?_
    exact hwX7_knot_18 C hnt τ a0 (1 : Int32) a0 0 hc h
  · unfold hX7_knot at h
    exact absurd (p_pr_inv h).1 hDC
theorem hoX16_1 : Cond.methodLink "MinistryDesks$Two" 1 Lib.objectInit ∈ lw_all ∧ Cond.instanceMethod Lib.objectInit ∈ lw_all ∧ Cond.code Lib.objectInit ⟨#[0xb1]⟩ 1 none ∈ lw_all := ⟨q1097, q209, q210⟩
set_option maxHeartbeats 4000000 in
theorem hmX16_init_X20 {l : Launch} {G : je_G} {τ : hT} {a0 : Nat} {q1 : Option Nat} {q2 : Option Nat} {r9 : hT} (h : hX16_init_X20 G τ a0 q1 q2 = some r9) : MetS l G yX16_init cX16_init 3 none 1 20 0 0 [.ref (G.2.1 + a0), va_rf q1, va_rf q2] τ.1 (G.2.1 + τ.2) none r9.1 (G.2.1 + r9.2) := by
  refine je_metI "MinistryDesks$Two" rfl (by decide +kernel) rfl (by cases q1 <;> cases q2 <;> exact Nat.le_of_ble_eq_true rfl) [(0, .ref (G.2.1 + a0)), (1, va_rf q1), (2, va_rf q2)] (by cases q1 <;> cases q2 <;> rfl) (fun p e s m args below meth c C hI => ?_)
  unfold hX16_init_X20 at h
  refine je_aload_n C dX16_init_0 1 rfl 0 rfl ?_
  refine je_obji C hoX16_1 ⟨Nat.le_of_ble_eq_true rfl, Nat.le_of_ble_eq_true rfl⟩ (Nat.le_of_ble_eq_true rfl) dX16_init_1 4 rfl ?_
  refine je_aload_n C dX16_init_4 5 rfl 0 rfl ?_
  refine je_aloadR_n C dX16_init_5 6 rfl 1 rfl ?_
  replace h := p_ob_inv h
  obtain ⟨V6, he, h⟩ := h
  refine je_putF (k := 0) (v := va_rf q1) C hI he rfl in_X20 tyX20 tyX20_ok nmX20 (by decide) q1099 rfl rfl rfl je_refnar je_reffit dX16_init_6 9 rfl ?_
  refine jh_lt h ?_
  clear h
  intro t6 h
  refine je_aload_n C dX16_init_9 10 rfl 0 rfl ?_
  refine je_aloadR_n C dX16_init_10 11 rfl 2 rfl ?_
  replace h := p_ob_inv h
  obtain ⟨V11, he, h⟩ := h
  refine je_putF (k := 1) (v := va_rf q2) C hI he rfl in_X20 tyX20 tyX20_ok nmX20 (by decide) q1100 rfl rfl rfl je_refnar je_reffit dX16_init_11 14 rfl ?_
  refine jh_lt h ?_
  clear h
  intro t11 h
  cases h
  exact je_vret C dX16_init_14
theorem hdX16_init : je_hd yX16_init 2 := ⟨by decide +kernel, by decide +kernel, by decide +kernel⟩
theorem ccX20_1 : Cond.methodLink "MinistryDesks$Choice" 1 yX16_init ∈ lw_all ∧ Cond.instanceMethod yX16_init ∈ lw_all ∧ Cond.initialized yX16_init.cls ∈ lw_all ∧ Cond.code yX16_init cX16_init 3 none ∈ lw_all := ⟨q1135, q1095, q192, q1096⟩
set_option maxHeartbeats 4000000 in
theorem hmX20_init {l : Launch} {G : je_G} {τ : hT} {a0 : Nat} {v1 : Int32} {q2 : Option Nat} {q3 : Option Nat} {r9 : hT} (h : hX20_init G τ a0 v1 q2 q3 = some r9) : MetS l G yX20_init cX20_init 4 none 2 42 0 0 [.ref (G.2.1 + a0), .int v1, va_rf q2, va_rf q3] τ.1 (G.2.1 + τ.2) none r9.1 (G.2.1 + r9.2) := by
  refine je_metI "MinistryDesks$Choice" rfl (by decide +kernel) rfl (by cases q2 <;> cases q3 <;> exact Nat.le_of_ble_eq_true rfl) [(0, .ref (G.2.1 + a0)), (1, .int v1), (2, va_rf q2), (3, va_rf q3)] (by cases q2 <;> cases q3 <;> rfl) (fun p e s m args below meth c C hI => ?_)
  unfold hX20_init at h
  refine je_aload_n C dX20_init_0 1 rfl 0 rfl ?_
  refine je_aloadR_n C dX20_init_1 2 rfl 2 rfl ?_
  refine je_aloadR_n C dX20_init_2 3 rfl 3 rfl ?_
  replace h := p_cl_inv h
  obtain ⟨u3, hg, h⟩ := h
  refine je_callI (As := [va_rf q2, va_rf q3]) (rest := []) C (hmX16_init_X20 hg) hdX16_init rfl ccX20_1 rfl ⟨Nat.le_of_ble_eq_true rfl, Nat.le_of_ble_eq_true rfl⟩ ⟨Nat.le_of_ble_eq_true rfl, Nat.le_of_ble_eq_true rfl⟩ (Nat.le_of_ble_eq_true rfl) dX20_init_3 6 rfl ?_
  refine jh_lt (t0 := u3) h ?_
  clear h
  intro t3 h
  refine je_aload_n C dX20_init_6 7 rfl 0 rfl ?_
  refine je_iload_n C dX20_init_7 8 rfl 1 rfl ?_
  replace h := p_ob_inv h
  obtain ⟨V8, he, h⟩ := h
  replace h := p_cz_inv h
  obtain ⟨hz, h⟩ := h
  refine je_putF (k := 2) (v := .int v1) C hI he rfl in_X20 tyX20 tyX20_ok nmX20 (by decide) q1136 rfl rfl rfl (je_nar hz) (je_booln hz) dX20_init_8 11 rfl ?_
  refine jh_lt h ?_
  clear h
  intro t8 h
  cases h
  exact je_vret C dX20_init_11
set_option maxHeartbeats 4000000 in
theorem hmJ14_init_X19 {l : Launch} {G : je_G} {τ : hT} {a0 : Nat} {r9 : Unit} (h : hJ14_init_X19 G τ a0 = some r9) : MetS l G yJ14_init cJ14_init 1 none 1 20 0 0 [.ref (G.2.1 + a0)] τ.1 (G.2.1 + τ.2) none τ.1 (G.2.1 + τ.2) := by
  refine je_metI "java/lang/Record" rfl (by decide +kernel) rfl (Nat.le_of_ble_eq_true rfl) [(0, .ref (G.2.1 + a0))] rfl (fun p e s m args below meth c C hI => ?_)
  unfold hJ14_init_X19 at h
  refine je_aload_n C dJ14_init_0 1 rfl 0 rfl ?_
  refine je_obji C hoJ14_1 ⟨Nat.le_of_ble_eq_true rfl, Nat.le_of_ble_eq_true rfl⟩ (Nat.le_of_ble_eq_true rfl) dJ14_init_1 4 rfl ?_
  cases h
  exact je_vret C dJ14_init_4
theorem ccX19_1 : Cond.methodLink "MinistryDesks$Not" 1 yJ14_init ∈ lw_all ∧ Cond.instanceMethod yJ14_init ∈ lw_all ∧ Cond.initialized yJ14_init.cls ∈ lw_all ∧ Cond.code yJ14_init cJ14_init 1 none ∈ lw_all := ⟨q1125, q949, q185, q950⟩
set_option maxHeartbeats 4000000 in
theorem hmX19_init {l : Launch} {G : je_G} {τ : hT} {a0 : Nat} {q1 : Option Nat} {r9 : hT} (h : hX19_init G τ a0 q1 = some r9) : MetS l G yX19_init cX19_init 2 none 2 40 0 0 [.ref (G.2.1 + a0), va_rf q1] τ.1 (G.2.1 + τ.2) none r9.1 (G.2.1 + r9.2) := by
  refine je_metI "MinistryDesks$Not" rfl (by decide +kernel) rfl (by cases q1 <;> exact Nat.le_of_ble_eq_true rfl) [(0, .ref (G.2.1 + a0)), (1, va_rf q1)] (by cases q1 <;> rfl) (fun p e s m args below meth c C hI => ?_)
  unfold hX19_init at h
  refine je_aload_n C dX19_init_0 1 rfl 0 rfl ?_
  replace h := p_cl_inv h
  obtain ⟨u1, hg, h⟩ := h
  refine je_callI (As := []) (rest := []) C (hmJ14_init_X19 hg) hdJ14_init rfl ccX19_1 rfl ⟨Nat.le_of_ble_eq_true rfl, Nat.le_of_ble_eq_true rfl⟩ ⟨Nat.le_of_ble_eq_true rfl, Nat.le_of_ble_eq_true rfl⟩ (Nat.le_of_ble_eq_true rfl) dX19_init_1 4 rfl ?_
  refine je_aload_n C dX19_init_4 5 rfl 0 rfl ?_
  refine je_aloadR_n C dX19_init_5 6 rfl 1 rfl ?_
  replace h := p_ob_inv h
  obtain ⟨V6, he, h⟩ := h
  refine je_putF (k := 0) (v := va_rf q1) C hI he rfl in_X19 tyX19 tyX19_ok nmX19 (by decide) q1126 rfl rfl rfl je_refnar je_reffit dX19_init_6 9 rfl ?_
  refine jh_lt h ?_
  clear h
  intro t6 h
  cases h
  exact je_vret C dX19_init_9
set_option maxHeartbeats 4000000 in
theorem hmX16_init_X18 {l : Launch} {G : je_G} {τ : hT} {a0 : Nat} {q1 : Option Nat} {q2 : Option Nat} {r9 : hT} (h : hX16_init_X18 G τ a0 q1 q2 = some r9) : MetS l G yX16_init cX16_init 3 none 1 20 0 0 [.ref (G.2.1 + a0), va_rf q1, va_rf q2] τ.1 (G.2.1 + τ.2) none r9.1 (G.2.1 + r9.2) := by
  refine je_metI "MinistryDesks$Two" rfl (by decide +kernel) rfl (by cases q1 <;> cases q2 <;> exact Nat.le_of_ble_eq_true rfl) [(0, .ref (G.2.1 + a0)), (1, va_rf q1), (2, va_rf q2)] (by cases q1 <;> cases q2 <;> rfl) (fun p e s m args below meth c C hI => ?_)
  unfold hX16_init_X18 at h
  refine je_aload_n C dX16_init_0 1 rfl 0 rfl ?_
  refine je_obji C hoX16_1 ⟨Nat.le_of_ble_eq_true rfl, Nat.le_of_ble_eq_true rfl⟩ (Nat.le_of_ble_eq_true rfl) dX16_init_1 4 rfl ?_
  refine je_aload_n C dX16_init_4 5 rfl 0 rfl ?_
  refine je_aloadR_n C dX16_init_5 6 rfl 1 rfl ?_
  replace h := p_ob_inv h
  obtain ⟨V6, he, h⟩ := h
  refine je_putF (k := 0) (v := va_rf q1) C hI he rfl in_X18 tyX18 tyX18_ok nmX18 (by decide) q1099 rfl rfl rfl je_refnar je_reffit dX16_init_6 9 rfl ?_
  refine jh_lt h ?_
  clear h
  intro t6 h
  refine je_aload_n C dX16_init_9 10 rfl 0 rfl ?_
  refine je_aloadR_n C dX16_init_10 11 rfl 2 rfl ?_
  replace h := p_ob_inv h
  obtain ⟨V11, he, h⟩ := h
  refine je_putF (k := 1) (v := va_rf q2) C hI he rfl in_X18 tyX18 tyX18_ok nmX18 (by decide) q1100 rfl rfl rfl je_refnar je_reffit dX16_init_11 14 rfl ?_
  refine jh_lt h ?_
  clear h
  intro t11 h
  cases h
  exact je_vret C dX16_init_14
theorem ccX18_1 : Cond.methodLink "MinistryDesks$Compared" 1 yX16_init ∈ lw_all ∧ Cond.instanceMethod yX16_init ∈ lw_all ∧ Cond.initialized yX16_init.cls ∈ lw_all ∧ Cond.code yX16_init cX16_init 3 none ∈ lw_all := ⟨q1113, q1095, q192, q1096⟩
set_option maxHeartbeats 4000000 in
theorem hmX18_init {l : Launch} {G : je_G} {τ : hT} {a0 : Nat} {v1 : Int32} {q2 : Option Nat} {q3 : Option Nat} {r9 : hT} (h : hX18_init G τ a0 v1 q2 q3 = some r9) : MetS l G yX18_init cX18_init 4 none 2 42 0 0 [.ref (G.2.1 + a0), .int v1, va_rf q2, va_rf q3] τ.1 (G.2.1 + τ.2) none r9.1 (G.2.1 + r9.2) := by
  refine je_metI "MinistryDesks$Compared" rfl (by decide +kernel) rfl (by cases q2 <;> cases q3 <;> exact Nat.le_of_ble_eq_true rfl) [(0, .ref (G.2.1 + a0)), (1, .int v1), (2, va_rf q2), (3, va_rf q3)] (by cases q2 <;> cases q3 <;> rfl) (fun p e s m args below meth c C hI => ?_)
  unfold hX18_init at h
  refine je_aload_n C dX18_init_0 1 rfl 0 rfl ?_
  refine je_aloadR_n C dX18_init_1 2 rfl 2 rfl ?_
  refine je_aloadR_n C dX18_init_2 3 rfl 3 rfl ?_
  replace h := p_cl_inv h
  obtain ⟨u3, hg, h⟩ := h
  refine je_callI (As := [va_rf q2, va_rf q3]) (rest := []) C (hmX16_init_X18 hg) hdX16_init rfl ccX18_1 rfl ⟨Nat.le_of_ble_eq_true rfl, Nat.le_of_ble_eq_true rfl⟩ ⟨Nat.le_of_ble_eq_true rfl, Nat.le_of_ble_eq_true rfl⟩ (Nat.le_of_ble_eq_true rfl) dX18_init_3 6 rfl ?_
  refine jh_lt (t0 := u3) h ?_
  clear h
  intro t3 h
  refine je_aload_n C dX18_init_6 7 rfl 0 rfl ?_
  refine je_iload_n C dX18_init_7 8 rfl 1 rfl ?_
  replace h := p_ob_inv h
  obtain ⟨V8, he, h⟩ := h
  refine je_putF (k := 2) (v := .int v1) C hI he rfl in_X18 tyX18 tyX18_ok nmX18 (by decide) q1114 rfl rfl rfl rfl rfl dX18_init_8 11 rfl ?_
  refine jh_lt h ?_
  clear h
  intro t8 h
  cases h
  exact je_vret C dX18_init_11
set_option maxHeartbeats 4000000 in
theorem hmX7_isSign {l : Launch} {G : je_G} {τ : hT} {a0 : Nat} {v1 : Int32} {r9 : Int32} (h : hX7_isSign G τ a0 v1 = some r9) : MetS l G yX7_isSign cX7_isSign 2 (some .boolean) 0 0 0 0 [.ref (G.2.1 + a0), .int v1] τ.1 (G.2.1 + τ.2) (some (.int r9)) τ.1 (G.2.1 + τ.2) := by
  refine je_met "MinistryDesks$Reader" rfl (by decide +kernel) (Nat.le_of_ble_eq_true rfl) [(0, .ref (G.2.1 + a0)), (1, .int v1)] rfl (fun p e s m args below meth c C => ?_)
  unfold hX7_isSign at h
  refine je_aload_n C dX7_isSign_0 1 rfl 0 rfl ?_
  replace h := p_ob_inv h
  obtain ⟨V1, he, h⟩ := h
  replace h := p_vi_inv h
  obtain ⟨x1, hv, h⟩ := h
  refine je_get (k := 3) C he rfl in_X7 (by decide) q554 rfl dX7_isSign_1 4 rfl hv ?_
  refine je_iconst C (4) dX7_isSign_4 5 rfl ic_4 ?_
  refine je_icmp_ne C 20 dX7_isSign_5 8 rfl rfl h ?_ ?_
  · clear h
    intro h
    refine je_iconst C (0) dX7_isSign_20 21 rfl ic_0 ?_
    cases h
    exact je_zret C dX7_isSign_21 (Or.inl rfl)
  clear h
  intro h
  refine je_aload_n C dX7_isSign_8 9 rfl 0 rfl ?_
  replace h := p_ob_inv h
  obtain ⟨V9, he, h⟩ := h
  replace h := p_vi_inv h
  obtain ⟨x9, hv, h⟩ := h
  refine je_get (k := 4) C he rfl in_X7 (by decide) q555 rfl dX7_isSign_9 12 rfl hv ?_
  refine je_iload_n C dX7_isSign_12 13 rfl 1 rfl ?_
  refine je_icmp_ne C 20 dX7_isSign_13 16 rfl rfl h ?_ ?_
  · clear h
    intro h
    refine je_iconst C (0) dX7_isSign_20 21 rfl ic_0 ?_
    cases h
    exact je_zret C dX7_isSign_21 (Or.inl rfl)
  clear h
  intro h
  refine je_iconst C (1) dX7_isSign_16 17 rfl ic_1 ?_
  refine je_goto C 21 dX7_isSign_17 rfl ?_
  cases h
  exact je_zret C dX7_isSign_21 (Or.inr rfl)
set_option maxHeartbeats 4000000 in
theorem hmX16_init_X17 {l : Launch} {G : je_G} {τ : hT} {a0 : Nat} {q1 : Option Nat} {q2 : Option Nat} {r9 : hT} (h : hX16_init_X17 G τ a0 q1 q2 = some r9) : MetS l G yX16_init cX16_init 3 none 1 20 0 0 [.ref (G.2.1 + a0), va_rf q1, va_rf q2] τ.1 (G.2.1 + τ.2) none r9.1 (G.2.1 + r9.2) := by
  refine je_metI "MinistryDesks$Two" rfl (by decide +kernel) rfl (by cases q1 <;> cases q2 <;> exact Nat.le_of_ble_eq_true rfl) [(0, .ref (G.2.1 + a0)), (1, va_rf q1), (2, va_rf q2)] (by cases q1 <;> cases q2 <;> rfl) (fun p e s m args below meth c C hI => ?_)
  unfold hX16_init_X17 at h
  refine je_aload_n C dX16_init_0 1 rfl 0 rfl ?_
  refine je_obji C hoX16_1 ⟨Nat.le_of_ble_eq_true rfl, Nat.le_of_ble_eq_true rfl⟩ (Nat.le_of_ble_eq_true rfl) dX16_init_1 4 rfl ?_
  refine je_aload_n C dX16_init_4 5 rfl 0 rfl ?_
  refine je_aloadR_n C dX16_init_5 6 rfl 1 rfl ?_
  replace h := p_ob_inv h
  obtain ⟨V6, he, h⟩ := h
  refine je_putF (k := 0) (v := va_rf q1) C hI he rfl in_X17 tyX17 tyX17_ok nmX17 (by decide) q1099 rfl rfl rfl je_refnar je_reffit dX16_init_6 9 rfl ?_
  refine jh_lt h ?_
  clear h
  intro t6 h
  refine je_aload_n C dX16_init_9 10 rfl 0 rfl ?_
  refine je_aloadR_n C dX16_init_10 11 rfl 2 rfl ?_
  replace h := p_ob_inv h
  obtain ⟨V11, he, h⟩ := h
  refine je_putF (k := 1) (v := va_rf q2) C hI he rfl in_X17 tyX17 tyX17_ok nmX17 (by decide) q1100 rfl rfl rfl je_refnar je_reffit dX16_init_11 14 rfl ?_
  refine jh_lt h ?_
  clear h
  intro t11 h
  cases h
  exact je_vret C dX16_init_14
theorem ccX17_3 : Cond.methodLink "MinistryDesks$Worked" 3 yX16_init ∈ lw_all ∧ Cond.instanceMethod yX16_init ∈ lw_all ∧ Cond.initialized yX16_init.cls ∈ lw_all ∧ Cond.code yX16_init cX16_init 3 none ∈ lw_all := ⟨q1094, q1095, q192, q1096⟩
set_option maxHeartbeats 4000000 in
theorem hmX17_init {l : Launch} {G : je_G} {τ : hT} {a0 : Nat} {v1 : Int32} {q2 : Option Nat} {q3 : Option Nat} {r9 : hT} (h : hX17_init G τ a0 v1 q2 q3 = some r9) : MetS l G yX17_init cX17_init 4 none 2 42 0 0 [.ref (G.2.1 + a0), .int v1, va_rf q2, va_rf q3] τ.1 (G.2.1 + τ.2) none r9.1 (G.2.1 + r9.2) := by
  refine je_metI "MinistryDesks$Worked" rfl (by decide +kernel) rfl (by cases q2 <;> cases q3 <;> exact Nat.le_of_ble_eq_true rfl) [(0, .ref (G.2.1 + a0)), (1, .int v1), (2, va_rf q2), (3, va_rf q3)] (by cases q2 <;> cases q3 <;> rfl) (fun p e s m args below meth c C hI => ?_)
  unfold hX17_init at h
  refine je_aload_n C dX17_init_0 1 rfl 0 rfl ?_
  refine je_aloadR_n C dX17_init_1 2 rfl 2 rfl ?_
  refine je_aloadR_n C dX17_init_2 3 rfl 3 rfl ?_
  replace h := p_cl_inv h
  obtain ⟨u3, hg, h⟩ := h
  refine je_callI (As := [va_rf q2, va_rf q3]) (rest := []) C (hmX16_init_X17 hg) hdX16_init rfl ccX17_3 rfl ⟨Nat.le_of_ble_eq_true rfl, Nat.le_of_ble_eq_true rfl⟩ ⟨Nat.le_of_ble_eq_true rfl, Nat.le_of_ble_eq_true rfl⟩ (Nat.le_of_ble_eq_true rfl) dX17_init_3 6 rfl ?_
  refine jh_lt (t0 := u3) h ?_
  clear h
  intro t3 h
  refine je_aload_n C dX17_init_6 7 rfl 0 rfl ?_
  refine je_iload_n C dX17_init_7 8 rfl 1 rfl ?_
  replace h := p_ob_inv h
  obtain ⟨V8, he, h⟩ := h
  refine je_putF (k := 2) (v := .int v1) C hI he rfl in_X17 tyX17 tyX17_ok nmX17 (by decide) q1098 rfl rfl rfl rfl rfl dX17_init_8 11 rfl ?_
  refine jh_lt h ?_
  clear h
  intro t8 h
  cases h
  exact je_vret C dX17_init_11
set_option maxHeartbeats 4000000 in
theorem hmJ14_init_X14 {l : Launch} {G : je_G} {τ : hT} {a0 : Nat} {r9 : Unit} (h : hJ14_init_X14 G τ a0 = some r9) : MetS l G yJ14_init cJ14_init 1 none 1 20 0 0 [.ref (G.2.1 + a0)] τ.1 (G.2.1 + τ.2) none τ.1 (G.2.1 + τ.2) := by
  refine je_metI "java/lang/Record" rfl (by decide +kernel) rfl (Nat.le_of_ble_eq_true rfl) [(0, .ref (G.2.1 + a0))] rfl (fun p e s m args below meth c C hI => ?_)
  unfold hJ14_init_X14 at h
  refine je_aload_n C dJ14_init_0 1 rfl 0 rfl ?_
  refine je_obji C hoJ14_1 ⟨Nat.le_of_ble_eq_true rfl, Nat.le_of_ble_eq_true rfl⟩ (Nat.le_of_ble_eq_true rfl) dJ14_init_1 4 rfl ?_
  cases h
  exact je_vret C dJ14_init_4
theorem ccX14_1 : Cond.methodLink "MinistryDesks$Name" 1 yJ14_init ∈ lw_all ∧ Cond.instanceMethod yJ14_init ∈ lw_all ∧ Cond.initialized yJ14_init.cls ∈ lw_all ∧ Cond.code yJ14_init cJ14_init 1 none ∈ lw_all := ⟨q1074, q949, q185, q950⟩
set_option maxHeartbeats 4000000 in
theorem hmX14_init {l : Launch} {G : je_G} {τ : hT} {a0 : Nat} {v1 : Int32} {r9 : hT} (h : hX14_init G τ a0 v1 = some r9) : MetS l G yX14_init cX14_init 2 none 2 40 0 0 [.ref (G.2.1 + a0), .int v1] τ.1 (G.2.1 + τ.2) none r9.1 (G.2.1 + r9.2) := by
  refine je_metI "MinistryDesks$Name" rfl (by decide +kernel) rfl (Nat.le_of_ble_eq_true rfl) [(0, .ref (G.2.1 + a0)), (1, .int v1)] rfl (fun p e s m args below meth c C hI => ?_)
  unfold hX14_init at h
  refine je_aload_n C dX14_init_0 1 rfl 0 rfl ?_
  replace h := p_cl_inv h
  obtain ⟨u1, hg, h⟩ := h
  refine je_callI (As := []) (rest := []) C (hmJ14_init_X14 hg) hdJ14_init rfl ccX14_1 rfl ⟨Nat.le_of_ble_eq_true rfl, Nat.le_of_ble_eq_true rfl⟩ ⟨Nat.le_of_ble_eq_true rfl, Nat.le_of_ble_eq_true rfl⟩ (Nat.le_of_ble_eq_true rfl) dX14_init_1 4 rfl ?_
  refine je_aload_n C dX14_init_4 5 rfl 0 rfl ?_
  refine je_iload_n C dX14_init_5 6 rfl 1 rfl ?_
  replace h := p_ob_inv h
  obtain ⟨V6, he, h⟩ := h
  refine je_putF (k := 0) (v := .int v1) C hI he rfl in_X14 tyX14 tyX14_ok nmX14 (by decide) q1075 rfl rfl rfl rfl rfl dX14_init_6 9 rfl ?_
  refine jh_lt h ?_
  clear h
  intro t6 h
  cases h
  exact je_vret C dX14_init_9
set_option maxHeartbeats 4000000 in
theorem hmJ14_init_X15 {l : Launch} {G : je_G} {τ : hT} {a0 : Nat} {r9 : Unit} (h : hJ14_init_X15 G τ a0 = some r9) : MetS l G yJ14_init cJ14_init 1 none 1 20 0 0 [.ref (G.2.1 + a0)] τ.1 (G.2.1 + τ.2) none τ.1 (G.2.1 + τ.2) := by
  refine je_metI "java/lang/Record" rfl (by decide +kernel) rfl (Nat.le_of_ble_eq_true rfl) [(0, .ref (G.2.1 + a0))] rfl (fun p e s m args below meth c C hI => ?_)
  unfold hJ14_init_X15 at h
  refine je_aload_n C dJ14_init_0 1 rfl 0 rfl ?_
  refine je_obji C hoJ14_1 ⟨Nat.le_of_ble_eq_true rfl, Nat.le_of_ble_eq_true rfl⟩ (Nat.le_of_ble_eq_true rfl) dJ14_init_1 4 rfl ?_
  cases h
  exact je_vret C dJ14_init_4
theorem ccX15_1 : Cond.methodLink "MinistryDesks$Constant" 1 yJ14_init ∈ lw_all ∧ Cond.instanceMethod yJ14_init ∈ lw_all ∧ Cond.initialized yJ14_init.cls ∈ lw_all ∧ Cond.code yJ14_init cJ14_init 1 none ∈ lw_all := ⟨q1084, q949, q185, q950⟩
set_option maxHeartbeats 4000000 in
theorem hmX15_init {l : Launch} {G : je_G} {τ : hT} {a0 : Nat} {v1 : Int64} {r9 : hT} (h : hX15_init G τ a0 v1 = some r9) : MetS l G yX15_init cX15_init 3 none 2 40 0 0 [.ref (G.2.1 + a0), .long v1] τ.1 (G.2.1 + τ.2) none r9.1 (G.2.1 + r9.2) := by
  refine je_metI "MinistryDesks$Constant" rfl (by decide +kernel) rfl (Nat.le_of_ble_eq_true rfl) [(0, .ref (G.2.1 + a0)), (1, .long v1)] rfl (fun p e s m args below meth c C hI => ?_)
  unfold hX15_init at h
  refine je_aload_n C dX15_init_0 1 rfl 0 rfl ?_
  replace h := p_cl_inv h
  obtain ⟨u1, hg, h⟩ := h
  refine je_callI (As := []) (rest := []) C (hmJ14_init_X15 hg) hdJ14_init rfl ccX15_1 rfl ⟨Nat.le_of_ble_eq_true rfl, Nat.le_of_ble_eq_true rfl⟩ ⟨Nat.le_of_ble_eq_true rfl, Nat.le_of_ble_eq_true rfl⟩ (Nat.le_of_ble_eq_true rfl) dX15_init_1 4 rfl ?_
  refine je_aload_n C dX15_init_4 5 rfl 0 rfl ?_
  refine je_lload_n C dX15_init_5 6 rfl 1 rfl ?_
  replace h := p_ob_inv h
  obtain ⟨V6, he, h⟩ := h
  refine je_putF (k := 0) (v := .long v1) C hI he rfl in_X15 tyX15 tyX15_ok nmX15 (by decide) q1085 rfl rfl rfl rfl rfl dX15_init_6 9 rfl ?_
  refine jh_lt h ?_
  clear h
  intro t6 h
  cases h
  exact je_vret C dX15_init_9
def hgX7 (l : Launch) (G : je_G) (d : Nat) (rc : Nat → hS → Nat → Option ((Nat × hS) ⊕ (Option Nat × hS))) : Prop := ∀ (τ : hS) (a0 : Nat) (r9 : (Nat × hS) ⊕ (Option Nat × hS)), (rc 0 τ a0 = some r9 → MetX l G yX7_or cX7_or 2 (some (.object "MinistryDesks$Node")) (8 + d) (175 + d * 23) [.ref (G.2.1 + a0)] τ (xO r9)) ∧ (rc 1 τ a0 = some r9 → MetX l G yX7_and cX7_and 2 (some (.object "MinistryDesks$Node")) (8 + d) (175 + d * 23) [.ref (G.2.1 + a0)] τ (xO r9)) ∧ (rc 2 τ a0 = some r9 → MetX l G yX7_not cX7_not 4 (some (.object "MinistryDesks$Node")) (8 + d) (175 + d * 23) [.ref (G.2.1 + a0)] τ (xO r9)) ∧ (rc 3 τ a0 = some r9 → MetX l G yX7_compared cX7_compared 3 (some (.object "MinistryDesks$Node")) (8 + d) (175 + d * 23) [.ref (G.2.1 + a0)] τ (xO r9)) ∧ (rc 4 τ a0 = some r9 → MetX l G yX7_sum cX7_sum 3 (some (.object "MinistryDesks$Node")) (8 + d) (175 + d * 23) [.ref (G.2.1 + a0)] τ (xO r9)) ∧ (rc 5 τ a0 = some r9 → MetX l G yX7_product cX7_product 3 (some (.object "MinistryDesks$Node")) (8 + d) (175 + d * 23) [.ref (G.2.1 + a0)] τ (xO r9)) ∧ (rc 6 τ a0 = some r9 → MetX l G yX7_one cX7_one 2 (some (.object "MinistryDesks$Node")) (8 + d) (175 + d * 23) [.ref (G.2.1 + a0)] τ (xO r9))
theorem hdX20_init : je_hd yX20_init 3 := ⟨by decide +kernel, by decide +kernel, by decide +kernel⟩
theorem hdX7_and : je_hd yX7_and 0 := ⟨by decide +kernel, by decide +kernel, by decide +kernel⟩
theorem hdX7_isKey : je_hd yX7_isKey 1 := ⟨by decide +kernel, by decide +kernel, by decide +kernel⟩
theorem hdX7_knot : je_hd yX7_knot 0 := ⟨by decide +kernel, by decide +kernel, by decide +kernel⟩
theorem ccX7_231 : Cond.methodLink "MinistryDesks$Reader" 231 yX20_init ∈ lw_all ∧ Cond.instanceMethod yX20_init ∈ lw_all ∧ Cond.initialized yX20_init.cls ∈ lw_all ∧ Cond.code yX20_init cX20_init 4 none ∈ lw_all := ⟨q1132, q1133, q196, q1134⟩
theorem cwX7_195 : GoodIn lw_all (wsV "MinistryDesks$Reader" 195 "MinistryDesks$Reader" yX7_isKey (ws_ yX7_isKey cX7_isKey 2 (some .boolean))) := lw_V q1029 q1031 qs21 q170 q1032
theorem cwX7_223 : GoodIn lw_all (wsV "MinistryDesks$Reader" 223 "MinistryDesks$Reader" yX7_and (ws_ yX7_and cX7_and 2 (some (.object "MinistryDesks$Node")))) := lw_V q1037 q1039 qs23 q170 q1040
theorem cwX7_226 : GoodIn lw_all (wsV "MinistryDesks$Reader" 226 "MinistryDesks$Reader" yX7_knot (ws_ yX7_knot cX7_knot 1 none)) := lw_V q1045 q1047 qs25 q170 q1048
set_option maxHeartbeats 4000000 in
theorem hwX7_or_5 {p : Program} {l : Launch} {e : Env} {s : State} {m : MethodId} {args : Array Value} {below : List Frame} {meth : Method} {c : Code} {G : je_G} {F : Nat} {rc : Nat → hS → Nat → Option ((Nat × hS) ⊕ (Option Nat × hS))} {d : Nat} {c0 : Nat} {r9 : (Nat × hS) ⊕ (Option Nat × hS)} (C : Cx p s m args meth c G "MinistryDesks$Reader" cX7_or 2 (some (.object "MinistryDesks$Node"))) (hnt : ∀ x ∈ c.exceptionTable.toList, False) (hrc : hgX7 l G d rc) : ∀ (n : Nat) (τ : hS) (a0 : Nat) (q1 : Option Nat) (cells : Nat) (hc : c0 + cells = τ.2.2 ∧ τ.2.2 ≤ DC), hbX7_or_5 G F rc n τ a0 q1 = some r9 → Js p l e ({ frames := (8 + (d + 1)), cells := DC - c0, slots := 64 * (DC - c0), locals := (175 + (d + 1) * 23) } : Room) s m args below meth c G 2 (xMQ below G (xO r9) args s c0) τ.1 (G.2.1 + τ.2.1) cells (64 * cells) 5 [(0, .ref (G.2.1 + a0)), (1, va_rf q1)] [] := by
  intro n
  induction n with
  | zero =>
    intro τ a0 q1 cells hc h
    cases h
  | succ n ih =>
    intro τ a0 q1 cells hc h
    rw [hbX7_or_5] at h
    refine je_aload_n C dX7_or_5 6 rfl 0 rfl ?_
    refine je_bipush C (12) dX7_or_6 8 rfl bp_12 ?_
    replace h := p_ob_inv h
    obtain ⟨V8, he, h⟩ := h
    replace h := p_cl_inv h
    obtain ⟨x8, hg, h⟩ := h
    refine je_callV (As := [.int (12 : Int32)]) (rest := []) (o := (some (.int x8))) C (hmX7_isKey hg) he rfl hdX7_isKey rfl cwX7_195 rfl ⟨(show 0 + 1 ≤ 8 + (d + 1) from by omega), (show 8 + (2 + 11) + 0 ≤ 175 + (d + 1) * 23 from by omega)⟩ ⟨jx_f1 (k := 0) hc hc.2, jx_f2 (k := 0) (n := 0) hc hc.2 (Nat.le_of_ble_eq_true rfl)⟩ (Nat.le_of_ble_eq_true rfl) dX7_or_8 11 rfl ?_
    refine je_widen (cells) (64 * (cells)) (Nat.le_refl _) (jx_f30 (Nat.le_of_ble_eq_true rfl)) ?_
    refine je_if_eq C 39 dX7_or_11 14 rfl rfl h ?_ ?_
    · clear h
      intro h
      refine je_aloadR_n C dX7_or_39 40 rfl 1 rfl ?_
      cases h
      exact jx_ret hc.1 (Nat.le_refl _) (je_aret C dX7_or_40)
    clear h
    intro h
    refine je_aload_n C dX7_or_14 15 rfl 0 rfl ?_
    replace h := p_ob_inv h
    obtain ⟨V15, he, h⟩ := h
    replace h := p_ex_inv h
    rcases h with ⟨z9, hg, hz1, rfl⟩ | ⟨u15, hg, hz1, hz2, h⟩
    · exact jx_callV (As := []) (rest := []) C (hmX7_knot hg) he rfl hdX7_knot rfl cwX7_226 rfl ⟨(show 5 + 1 ≤ 8 + (d + 1) from by omega), (show 8 + (1 + 11) + 111 ≤ 175 + (d + 1) * 23 from by omega)⟩ ⟨rfl, rfl⟩ hc (Nat.le_refl _) (Nat.le_of_ble_eq_true rfl) hnt dX7_or_15 18 rfl hz1 (fun _ e9 => e9) (fun _ e9 => by cases e9)
    refine jx_callV (As := []) (rest := []) C (hmX7_knot hg) he rfl hdX7_knot rfl cwX7_226 rfl ⟨(show 5 + 1 ≤ 8 + (d + 1) from by omega), (show 8 + (1 + 11) + 111 ≤ 175 + (d + 1) * 23 from by omega)⟩ ⟨rfl, rfl⟩ hc (Nat.le_refl _) (Nat.le_of_ble_eq_true rfl) hnt dX7_or_15 18 rfl hz1 (fun _ e9 => by cases e9) (fun z9 e9 cells2 hc2 => ?_)
    cases e9
    refine jx_lt (t0 := u15.2) h ?_
    clear h
    intro t15 e2 h
    replace hc : c0 + cells2 = t15.2.2 ∧ t15.2.2 ≤ DC := jx_f7 e2 hc2 hz2
    clear e2 hc2 hz1 hz2 hg
    refine je_aload_n C dX7_or_18 19 rfl 0 rfl ?_
    replace h := p_ob_inv h
    obtain ⟨V19, he, h⟩ := h
    replace h := p_cl_inv h
    obtain ⟨u19, hg, h⟩ := h
    refine je_callV (As := []) (rest := []) (o := none) C (hmX7_take hg) he rfl hdX7_take rfl cwX7_107 rfl ⟨(show 6 + 1 ≤ 8 + (d + 1) from by omega), (show 8 + (1 + 11) + 132 ≤ 175 + (d + 1) * 23 from by omega)⟩ ⟨jx_f1 (k := 0) hc hc.2, jx_f2 (k := 0) (n := 0) hc hc.2 (Nat.le_of_ble_eq_true rfl)⟩ (Nat.le_of_ble_eq_true rfl) dX7_or_19 22 rfl ?_
    refine je_widen (cells2) (64 * (cells2)) (Nat.le_refl _) (jx_f30 (Nat.le_of_ble_eq_true rfl)) ?_
    refine jx_lt (t0 := x_of u19 (t15.2.2 + 0)) h ?_
    clear h
    intro t19 e2 h
    replace hc : c0 + (cells2) = t19.2.2 ∧ t19.2.2 ≤ DC := jx_f80 (k := 0) e2 hc hc.2
    clear e2 hg
    replace h := p_pr_inv h
    obtain ⟨hb, h⟩ := h
    refine je_new C (ci := 15) rfl in_X20 tyX20 tyX20_ok q1130 q1131 q196 rfl (jx_f1 (k := 1) hc hb) (jx_f2 (k := 1) (n := 3) hc hb (Nat.le_of_ble_eq_true rfl)) dX7_or_22 25 rfl ?_
    refine je_widen (cells2 + 1) (64 * (cells2 + 1)) (Nat.le_refl _) (jx_f3 (Nat.le_of_ble_eq_true rfl)) ?_
    refine je_ltr h ?_
    clear h
    intro b22 h
    refine jx_lt h ?_
    clear h
    intro t22 e2 h
    replace hc : c0 + (cells2 + 1) = t22.2.2 ∧ t22.2.2 ≤ DC := jx_f4 (k := 1) e2 hc hb
    clear e2 hb
    refine je_dup C dX7_or_25 26 rfl rfl ?_
    refine je_iconst C (0) dX7_or_26 27 rfl ic_0 ?_
    refine je_aloadR_n C dX7_or_27 28 rfl 1 rfl ?_
    refine je_aload_n C dX7_or_28 29 rfl 0 rfl ?_
    replace h := p_ob_inv h
    obtain ⟨V29, he, h⟩ := h
    replace h := p_ex_inv h
    rcases h with ⟨z9, hg, hz1, rfl⟩ | ⟨u29, hg, hz1, hz2, h⟩
    · exact jx_callV (As := []) (rest := [va_rf q1, .int (0 : Int32), .ref (G.2.1 + b22), .ref (G.2.1 + b22)]) C ((hrc _ _ _).2.1 hg) he rfl hdX7_and rfl cwX7_223 rfl ⟨Nat.le_refl _, (show 8 + (2 + 11) + (175 + d * 23) ≤ 175 + (d + 1) * 23 from by omega)⟩ ⟨rfl, rfl⟩ hc (Nat.le_refl _) (by simp only [List.map_cons, List.map_nil, je_cat, List.sum_cons, List.sum_nil]; exact Nat.le_of_ble_eq_true rfl) hnt dX7_or_29 32 rfl hz1 (fun _ e9 => e9) (fun _ e9 => by cases e9)
    refine jx_callV (As := []) (rest := [va_rf q1, .int (0 : Int32), .ref (G.2.1 + b22), .ref (G.2.1 + b22)]) C ((hrc _ _ _).2.1 hg) he rfl hdX7_and rfl cwX7_223 rfl ⟨Nat.le_refl _, (show 8 + (2 + 11) + (175 + d * 23) ≤ 175 + (d + 1) * 23 from by omega)⟩ ⟨rfl, rfl⟩ hc (Nat.le_refl _) (by simp only [List.map_cons, List.map_nil, je_cat, List.sum_cons, List.sum_nil]; exact Nat.le_of_ble_eq_true rfl) hnt dX7_or_29 32 rfl hz1 (fun _ e9 => by cases e9) (fun z9 e9 cells2 hc2 => ?_)
    cases e9
    refine je_ltq (x := u29.1) (st := [va_rf q1, .int (0 : Int32), .ref (G.2.1 + b22), .ref (G.2.1 + b22)]) h ?_
    clear h
    intro x29 h
    refine jx_lt (t0 := u29.2) h ?_
    clear h
    intro t29 e2 h
    replace hc : c0 + cells2 = t29.2.2 ∧ t29.2.2 ≤ DC := jx_f7 e2 hc2 hz2
    clear e2 hc2 hz1 hz2 hg
    replace h := p_cl_inv h
    obtain ⟨u32, hg, h⟩ := h
    refine je_callI (As := [.int (0 : Int32), va_rf q1, va_rf x29]) (rest := [.ref (G.2.1 + b22)]) C (hmX20_init hg) hdX20_init rfl ccX7_231 rfl ⟨(show 2 + 1 ≤ 8 + (d + 1) from by omega), (show 8 + (4 + 11) + 42 ≤ 175 + (d + 1) * 23 from by omega)⟩ ⟨jx_f1 (k := 0) hc hc.2, jx_f2 (k := 0) (n := 0) hc hc.2 (Nat.le_of_ble_eq_true rfl)⟩ (Nat.le_of_ble_eq_true rfl) dX7_or_32 35 rfl ?_
    refine je_widen (cells2) (64 * (cells2)) (Nat.le_refl _) (jx_f30 (Nat.le_of_ble_eq_true rfl)) ?_
    refine jx_lt (t0 := x_of u32 (t29.2.2 + 0)) h ?_
    clear h
    intro t32 e2 h
    replace hc : c0 + (cells2) = t32.2.2 ∧ t32.2.2 ≤ DC := jx_f80 (k := 0) e2 hc hc.2
    clear e2 hg
    refine je_astore_n C dX7_or_35 36 rfl (Nat.le_of_ble_eq_true rfl) [(1, .ref (G.2.1 + b22)), (0, .ref (G.2.1 + a0))] rfl ?_
    refine je_goto C 5 dX7_or_36 rfl ?_
    refine je_sub [1, 0] [(0, .ref (G.2.1 + a0)), (1, va_rf (some (G.2.1 + b22)))] rfl ?_
    exact ih t32 a0 (some (G.2.1 + b22)) cells2 hc h
set_option maxHeartbeats 4000000 in
theorem hmX7_or {l : Launch} {G : je_G} {F : Nat} {rc : Nat → hS → Nat → Option ((Nat × hS) ⊕ (Option Nat × hS))} {d : Nat} {τ : hS} {a0 : Nat} {r9 : (Nat × hS) ⊕ (Option Nat × hS)} (hrc : hgX7 l G d rc) (h : hX7_or G F rc τ a0 = some r9) : MetX l G yX7_or cX7_or 2 (some (.object "MinistryDesks$Node")) (8 + (d + 1)) (175 + (d + 1) * 23) [.ref (G.2.1 + a0)] τ (xO r9) := by
  by_cases hDC : τ.2.2 ≤ DC
  · refine jx_met "MinistryDesks$Reader" rfl (by decide +kernel) (Nat.le_of_ble_eq_true rfl) [(0, .ref (G.2.1 + a0))] rfl (fun p e s m args below meth c C hnt => ?_)
    have hc : τ.2.2 + 0 = τ.2.2 ∧ τ.2.2 ≤ DC := ⟨rfl, hDC⟩
    unfold hX7_or at h
    obtain ⟨-, h⟩ := p_pr_inv h
    refine je_widen 0 (64 * 0) (Nat.le_refl _) (Nat.le_refl _) ?_
    refine je_aload_n C dX7_or_0 1 rfl 0 rfl ?_
    replace h := p_ob_inv h
    obtain ⟨V1, he, h⟩ := h
    replace h := p_ex_inv h
    rcases h with ⟨z9, hg, hz1, rfl⟩ | ⟨u1, hg, hz1, hz2, h⟩
    · exact jx_callV (As := []) (rest := []) C ((hrc _ _ _).2.1 hg) he rfl hdX7_and rfl cwX7_223 rfl ⟨Nat.le_refl _, (show 8 + (2 + 11) + (175 + d * 23) ≤ 175 + (d + 1) * 23 from by omega)⟩ ⟨rfl, rfl⟩ hc (Nat.le_refl _) (Nat.le_of_ble_eq_true rfl) hnt dX7_or_1 4 rfl hz1 (fun _ e9 => e9) (fun _ e9 => by cases e9)
    refine jx_callV (As := []) (rest := []) C ((hrc _ _ _).2.1 hg) he rfl hdX7_and rfl cwX7_223 rfl ⟨Nat.le_refl _, (show 8 + (2 + 11) + (175 + d * 23) ≤ 175 + (d + 1) * 23 from by omega)⟩ ⟨rfl, rfl⟩ hc (Nat.le_refl _) (Nat.le_of_ble_eq_true rfl) hnt dX7_or_1 4 rfl hz1 (fun _ e9 => by cases e9) (fun z9 e9 cells2 hc2 => ?_)
    cases e9
    refine je_ltq (x := u1.1) (st := []) h ?_
    clear h
    intro x1 h
    refine jx_lt (t0 := u1.2) h ?_
    clear h
    intro t1 e2 h
    replace hc : τ.2.2 + cells2 = t1.2.2 ∧ t1.2.2 ≤ DC := jx_f7 e2 hc2 hz2
    clear e2 hc2 hz1 hz2 hg
    refine je_astoreR_n C dX7_or_4 5 rfl (Nat.le_of_ble_eq_true rfl) [(1, va_rf x1), (0, .ref (G.2.1 + a0))] rfl ?_
    refine je_sub [1, 0] [(0, .ref (G.2.1 + a0)), (1, va_rf x1)] rfl ?_
    exact hwX7_or_5 C hnt hrc F t1 a0 x1 cells2 hc h
  · unfold hX7_or at h
    exact absurd (p_pr_inv h).1 hDC
theorem hdX7_not : je_hd yX7_not 0 := ⟨by decide +kernel, by decide +kernel, by decide +kernel⟩
theorem cwX7_234 : GoodIn lw_all (wsV "MinistryDesks$Reader" 234 "MinistryDesks$Reader" yX7_not (ws_ yX7_not cX7_not 4 (some (.object "MinistryDesks$Node")))) := lw_V q1041 q1043 qs24 q170 q1044
set_option maxHeartbeats 4000000 in
theorem hwX7_and_5 {p : Program} {l : Launch} {e : Env} {s : State} {m : MethodId} {args : Array Value} {below : List Frame} {meth : Method} {c : Code} {G : je_G} {F : Nat} {rc : Nat → hS → Nat → Option ((Nat × hS) ⊕ (Option Nat × hS))} {d : Nat} {c0 : Nat} {r9 : (Nat × hS) ⊕ (Option Nat × hS)} (C : Cx p s m args meth c G "MinistryDesks$Reader" cX7_and 2 (some (.object "MinistryDesks$Node"))) (hnt : ∀ x ∈ c.exceptionTable.toList, False) (hrc : hgX7 l G d rc) : ∀ (n : Nat) (τ : hS) (a0 : Nat) (q1 : Option Nat) (cells : Nat) (hc : c0 + cells = τ.2.2 ∧ τ.2.2 ≤ DC), hbX7_and_5 G F rc n τ a0 q1 = some r9 → Js p l e ({ frames := (8 + (d + 1)), cells := DC - c0, slots := 64 * (DC - c0), locals := (175 + (d + 1) * 23) } : Room) s m args below meth c G 2 (xMQ below G (xO r9) args s c0) τ.1 (G.2.1 + τ.2.1) cells (64 * cells) 5 [(0, .ref (G.2.1 + a0)), (1, va_rf q1)] [] := by
  intro n
  induction n with
  | zero =>
    intro τ a0 q1 cells hc h
    cases h
  | succ n ih =>
    intro τ a0 q1 cells hc h
    rw [hbX7_and_5] at h
    refine je_aload_n C dX7_and_5 6 rfl 0 rfl ?_
    refine je_bipush C (11) dX7_and_6 8 rfl bp_11 ?_
    replace h := p_ob_inv h
    obtain ⟨V8, he, h⟩ := h
    replace h := p_cl_inv h
    obtain ⟨x8, hg, h⟩ := h
    refine je_callV (As := [.int (11 : Int32)]) (rest := []) (o := (some (.int x8))) C (hmX7_isKey hg) he rfl hdX7_isKey rfl cwX7_195 rfl ⟨(show 0 + 1 ≤ 8 + (d + 1) from by omega), (show 8 + (2 + 11) + 0 ≤ 175 + (d + 1) * 23 from by omega)⟩ ⟨jx_f1 (k := 0) hc hc.2, jx_f2 (k := 0) (n := 0) hc hc.2 (Nat.le_of_ble_eq_true rfl)⟩ (Nat.le_of_ble_eq_true rfl) dX7_and_8 11 rfl ?_
    refine je_widen (cells) (64 * (cells)) (Nat.le_refl _) (jx_f30 (Nat.le_of_ble_eq_true rfl)) ?_
    refine je_if_eq C 39 dX7_and_11 14 rfl rfl h ?_ ?_
    · clear h
      intro h
      refine je_aloadR_n C dX7_and_39 40 rfl 1 rfl ?_
      cases h
      exact jx_ret hc.1 (Nat.le_refl _) (je_aret C dX7_and_40)
    clear h
    intro h
    refine je_aload_n C dX7_and_14 15 rfl 0 rfl ?_
    replace h := p_ob_inv h
    obtain ⟨V15, he, h⟩ := h
    replace h := p_ex_inv h
    rcases h with ⟨z9, hg, hz1, rfl⟩ | ⟨u15, hg, hz1, hz2, h⟩
    · exact jx_callV (As := []) (rest := []) C (hmX7_knot hg) he rfl hdX7_knot rfl cwX7_226 rfl ⟨(show 5 + 1 ≤ 8 + (d + 1) from by omega), (show 8 + (1 + 11) + 111 ≤ 175 + (d + 1) * 23 from by omega)⟩ ⟨rfl, rfl⟩ hc (Nat.le_refl _) (Nat.le_of_ble_eq_true rfl) hnt dX7_and_15 18 rfl hz1 (fun _ e9 => e9) (fun _ e9 => by cases e9)
    refine jx_callV (As := []) (rest := []) C (hmX7_knot hg) he rfl hdX7_knot rfl cwX7_226 rfl ⟨(show 5 + 1 ≤ 8 + (d + 1) from by omega), (show 8 + (1 + 11) + 111 ≤ 175 + (d + 1) * 23 from by omega)⟩ ⟨rfl, rfl⟩ hc (Nat.le_refl _) (Nat.le_of_ble_eq_true rfl) hnt dX7_and_15 18 rfl hz1 (fun _ e9 => by cases e9) (fun z9 e9 cells2 hc2 => ?_)
    cases e9
    refine jx_lt (t0 := u15.2) h ?_
    clear h
    intro t15 e2 h
    replace hc : c0 + cells2 = t15.2.2 ∧ t15.2.2 ≤ DC := jx_f7 e2 hc2 hz2
    clear e2 hc2 hz1 hz2 hg
    refine je_aload_n C dX7_and_18 19 rfl 0 rfl ?_
    replace h := p_ob_inv h
    obtain ⟨V19, he, h⟩ := h
    replace h := p_cl_inv h
    obtain ⟨u19, hg, h⟩ := h
    refine je_callV (As := []) (rest := []) (o := none) C (hmX7_take hg) he rfl hdX7_take rfl cwX7_107 rfl ⟨(show 6 + 1 ≤ 8 + (d + 1) from by omega), (show 8 + (1 + 11) + 132 ≤ 175 + (d + 1) * 23 from by omega)⟩ ⟨jx_f1 (k := 0) hc hc.2, jx_f2 (k := 0) (n := 0) hc hc.2 (Nat.le_of_ble_eq_true rfl)⟩ (Nat.le_of_ble_eq_true rfl) dX7_and_19 22 rfl ?_
    refine je_widen (cells2) (64 * (cells2)) (Nat.le_refl _) (jx_f30 (Nat.le_of_ble_eq_true rfl)) ?_
    refine jx_lt (t0 := x_of u19 (t15.2.2 + 0)) h ?_
    clear h
    intro t19 e2 h
    replace hc : c0 + (cells2) = t19.2.2 ∧ t19.2.2 ≤ DC := jx_f80 (k := 0) e2 hc hc.2
    clear e2 hg
    replace h := p_pr_inv h
    obtain ⟨hb, h⟩ := h
    refine je_new C (ci := 15) rfl in_X20 tyX20 tyX20_ok q1130 q1131 q196 rfl (jx_f1 (k := 1) hc hb) (jx_f2 (k := 1) (n := 3) hc hb (Nat.le_of_ble_eq_true rfl)) dX7_and_22 25 rfl ?_
    refine je_widen (cells2 + 1) (64 * (cells2 + 1)) (Nat.le_refl _) (jx_f3 (Nat.le_of_ble_eq_true rfl)) ?_
    refine je_ltr h ?_
    clear h
    intro b22 h
    refine jx_lt h ?_
    clear h
    intro t22 e2 h
    replace hc : c0 + (cells2 + 1) = t22.2.2 ∧ t22.2.2 ≤ DC := jx_f4 (k := 1) e2 hc hb
    clear e2 hb
    refine je_dup C dX7_and_25 26 rfl rfl ?_
    refine je_iconst C (1) dX7_and_26 27 rfl ic_1 ?_
    refine je_aloadR_n C dX7_and_27 28 rfl 1 rfl ?_
    refine je_aload_n C dX7_and_28 29 rfl 0 rfl ?_
    replace h := p_ob_inv h
    obtain ⟨V29, he, h⟩ := h
    replace h := p_ex_inv h
    rcases h with ⟨z9, hg, hz1, rfl⟩ | ⟨u29, hg, hz1, hz2, h⟩
    · exact jx_callV (As := []) (rest := [va_rf q1, .int (1 : Int32), .ref (G.2.1 + b22), .ref (G.2.1 + b22)]) C ((hrc _ _ _).2.2.1 hg) he rfl hdX7_not rfl cwX7_234 rfl ⟨Nat.le_refl _, (show 8 + (4 + 11) + (175 + d * 23) ≤ 175 + (d + 1) * 23 from by omega)⟩ ⟨rfl, rfl⟩ hc (Nat.le_refl _) (by simp only [List.map_cons, List.map_nil, je_cat, List.sum_cons, List.sum_nil]; exact Nat.le_of_ble_eq_true rfl) hnt dX7_and_29 32 rfl hz1 (fun _ e9 => e9) (fun _ e9 => by cases e9)
    refine jx_callV (As := []) (rest := [va_rf q1, .int (1 : Int32), .ref (G.2.1 + b22), .ref (G.2.1 + b22)]) C ((hrc _ _ _).2.2.1 hg) he rfl hdX7_not rfl cwX7_234 rfl ⟨Nat.le_refl _, (show 8 + (4 + 11) + (175 + d * 23) ≤ 175 + (d + 1) * 23 from by omega)⟩ ⟨rfl, rfl⟩ hc (Nat.le_refl _) (by simp only [List.map_cons, List.map_nil, je_cat, List.sum_cons, List.sum_nil]; exact Nat.le_of_ble_eq_true rfl) hnt dX7_and_29 32 rfl hz1 (fun _ e9 => by cases e9) (fun z9 e9 cells2 hc2 => ?_)
    cases e9
    refine je_ltq (x := u29.1) (st := [va_rf q1, .int (1 : Int32), .ref (G.2.1 + b22), .ref (G.2.1 + b22)]) h ?_
    clear h
    intro x29 h
    refine jx_lt (t0 := u29.2) h ?_
    clear h
    intro t29 e2 h
    replace hc : c0 + cells2 = t29.2.2 ∧ t29.2.2 ≤ DC := jx_f7 e2 hc2 hz2
    clear e2 hc2 hz1 hz2 hg
    replace h := p_cl_inv h
    obtain ⟨u32, hg, h⟩ := h
    refine je_callI (As := [.int (1 : Int32), va_rf q1, va_rf x29]) (rest := [.ref (G.2.1 + b22)]) C (hmX20_init hg) hdX20_init rfl ccX7_231 rfl ⟨(show 2 + 1 ≤ 8 + (d + 1) from by omega), (show 8 + (4 + 11) + 42 ≤ 175 + (d + 1) * 23 from by omega)⟩ ⟨jx_f1 (k := 0) hc hc.2, jx_f2 (k := 0) (n := 0) hc hc.2 (Nat.le_of_ble_eq_true rfl)⟩ (Nat.le_of_ble_eq_true rfl) dX7_and_32 35 rfl ?_
    refine je_widen (cells2) (64 * (cells2)) (Nat.le_refl _) (jx_f30 (Nat.le_of_ble_eq_true rfl)) ?_
    refine jx_lt (t0 := x_of u32 (t29.2.2 + 0)) h ?_
    clear h
    intro t32 e2 h
    replace hc : c0 + (cells2) = t32.2.2 ∧ t32.2.2 ≤ DC := jx_f80 (k := 0) e2 hc hc.2
    clear e2 hg
    refine je_astore_n C dX7_and_35 36 rfl (Nat.le_of_ble_eq_true rfl) [(1, .ref (G.2.1 + b22)), (0, .ref (G.2.1 + a0))] rfl ?_
    refine je_goto C 5 dX7_and_36 rfl ?_
    refine je_sub [1, 0] [(0, .ref (G.2.1 + a0)), (1, va_rf (some (G.2.1 + b22)))] rfl ?_
    exact ih t32 a0 (some (G.2.1 + b22)) cells2 hc h
set_option maxHeartbeats 4000000 in
theorem hmX7_and {l : Launch} {G : je_G} {F : Nat} {rc : Nat → hS → Nat → Option ((Nat × hS) ⊕ (Option Nat × hS))} {d : Nat} {τ : hS} {a0 : Nat} {r9 : (Nat × hS) ⊕ (Option Nat × hS)} (hrc : hgX7 l G d rc) (h : hX7_and G F rc τ a0 = some r9) : MetX l G yX7_and cX7_and 2 (some (.object "MinistryDesks$Node")) (8 + (d + 1)) (175 + (d + 1) * 23) [.ref (G.2.1 + a0)] τ (xO r9) := by
  by_cases hDC : τ.2.2 ≤ DC
  · refine jx_met "MinistryDesks$Reader" rfl (by decide +kernel) (Nat.le_of_ble_eq_true rfl) [(0, .ref (G.2.1 + a0))] rfl (fun p e s m args below meth c C hnt => ?_)
    have hc : τ.2.2 + 0 = τ.2.2 ∧ τ.2.2 ≤ DC := ⟨rfl, hDC⟩
    unfold hX7_and at h
    obtain ⟨-, h⟩ := p_pr_inv h
    refine je_widen 0 (64 * 0) (Nat.le_refl _) (Nat.le_refl _) ?_
    refine je_aload_n C dX7_and_0 1 rfl 0 rfl ?_
    replace h := p_ob_inv h
    obtain ⟨V1, he, h⟩ := h
    replace h := p_ex_inv h
    rcases h with ⟨z9, hg, hz1, rfl⟩ | ⟨u1, hg, hz1, hz2, h⟩
    · exact jx_callV (As := []) (rest := []) C ((hrc _ _ _).2.2.1 hg) he rfl hdX7_not rfl cwX7_234 rfl ⟨Nat.le_refl _, (show 8 + (4 + 11) + (175 + d * 23) ≤ 175 + (d + 1) * 23 from by omega)⟩ ⟨rfl, rfl⟩ hc (Nat.le_refl _) (Nat.le_of_ble_eq_true rfl) hnt dX7_and_1 4 rfl hz1 (fun _ e9 => e9) (fun _ e9 => by cases e9)
    refine jx_callV (As := []) (rest := []) C ((hrc _ _ _).2.2.1 hg) he rfl hdX7_not rfl cwX7_234 rfl ⟨Nat.le_refl _, (show 8 + (4 + 11) + (175 + d * 23) ≤ 175 + (d + 1) * 23 from by omega)⟩ ⟨rfl, rfl⟩ hc (Nat.le_refl _) (Nat.le_of_ble_eq_true rfl) hnt dX7_and_1 4 rfl hz1 (fun _ e9 => by cases e9) (fun z9 e9 cells2 hc2 => ?_)
    cases e9
    refine je_ltq (x := u1.1) (st := []) h ?_
    clear h
    intro x1 h
    refine jx_lt (t0 := u1.2) h ?_
    clear h
    intro t1 e2 h
    replace hc : τ.2.2 + cells2 = t1.2.2 ∧ t1.2.2 ≤ DC := jx_f7 e2 hc2 hz2
    clear e2 hc2 hz1 hz2 hg
    refine je_astoreR_n C dX7_and_4 5 rfl (Nat.le_of_ble_eq_true rfl) [(1, va_rf x1), (0, .ref (G.2.1 + a0))] rfl ?_
    refine je_sub [1, 0] [(0, .ref (G.2.1 + a0)), (1, va_rf x1)] rfl ?_
    exact hwX7_and_5 C hnt hrc F t1 a0 x1 cells2 hc h
  · unfold hX7_and at h
    exact absurd (p_pr_inv h).1 hDC
theorem hdX19_init : je_hd yX19_init 1 := ⟨by decide +kernel, by decide +kernel, by decide +kernel⟩
theorem hdX7_compared : je_hd yX7_compared 0 := ⟨by decide +kernel, by decide +kernel, by decide +kernel⟩
theorem ccX7_242 : Cond.methodLinkNest "MinistryDesks$Reader" 242 yX19_init "MinistryDesks" ∈ lw_tbl ∧ Cond.instanceMethod yX19_init ∈ lw_all ∧ Cond.initialized yX19_init.cls ∈ lw_all ∧ Cond.code yX19_init cX19_init 2 none ∈ lw_all := ⟨q1122, q1123, q195, q1124⟩
theorem cwX7_237 : GoodIn lw_all (wsV "MinistryDesks$Reader" 237 "MinistryDesks$Reader" yX7_compared (ws_ yX7_compared cX7_compared 3 (some (.object "MinistryDesks$Node")))) := lw_V q1049 q1051 qs26 q170 q1052
set_option maxHeartbeats 4000000 in
theorem hwX7_not_32 {p : Program} {l : Launch} {e : Env} {s : State} {m : MethodId} {args : Array Value} {below : List Frame} {meth : Method} {c : Code} {G : je_G} {F : Nat} {rc : Nat → hS → Nat → Option ((Nat × hS) ⊕ (Option Nat × hS))} {d : Nat} {c0 : Nat} {r9 : (Nat × hS) ⊕ (Option Nat × hS)} (C : Cx p s m args meth c G "MinistryDesks$Reader" cX7_not 4 (some (.object "MinistryDesks$Node"))) (hnt : ∀ x ∈ c.exceptionTable.toList, False) (hrc : hgX7 l G d rc) : ∀ (n : Nat) (τ : hS) (a0 : Nat) (v1 : Int32) (q2 : Option Nat) (v3 : Int32) (cells : Nat) (hc : c0 + cells = τ.2.2 ∧ τ.2.2 ≤ DC), hbX7_not_32 G F rc n τ a0 v1 q2 v3 = some r9 → Js p l e ({ frames := (8 + (d + 1)), cells := DC - c0, slots := 64 * (DC - c0), locals := (175 + (d + 1) * 23) } : Room) s m args below meth c G 4 (xMQ below G (xO r9) args s c0) τ.1 (G.2.1 + τ.2.1) cells (64 * cells) 32 [(0, .ref (G.2.1 + a0)), (1, .int v1), (2, va_rf q2), (3, .int v3)] [] := by
  intro n
  induction n with
  | zero =>
    intro τ a0 v1 q2 v3 cells hc h
    cases h
  | succ n ih =>
    intro τ a0 v1 q2 v3 cells hc h
    rw [hbX7_not_32] at h
    refine je_iload_n C dX7_not_32 33 rfl 3 rfl ?_
    refine je_iload_n C dX7_not_33 34 rfl 1 rfl ?_
    refine je_icmp_ge C 52 dX7_not_34 37 rfl rfl h ?_ ?_
    · clear h
      intro h
      refine je_aloadR_n C dX7_not_52 53 rfl 2 rfl ?_
      cases h
      exact jx_ret hc.1 (Nat.le_refl _) (je_aret C dX7_not_53)
    clear h
    intro h
    replace h := p_pr_inv h
    obtain ⟨hb, h⟩ := h
    refine je_new C (ci := 14) rfl in_X19 tyX19 tyX19_ok q1120 q1121 q195 rfl (jx_f1 (k := 1) hc hb) (jx_f2 (k := 1) (n := 1) hc hb (Nat.le_of_ble_eq_true rfl)) dX7_not_37 40 rfl ?_
    refine je_widen (cells + 1) (64 * (cells + 1)) (Nat.le_refl _) (jx_f3 (Nat.le_of_ble_eq_true rfl)) ?_
    refine je_ltr h ?_
    clear h
    intro b37 h
    refine jx_lt h ?_
    clear h
    intro t37 e2 h
    replace hc : c0 + (cells + 1) = t37.2.2 ∧ t37.2.2 ≤ DC := jx_f4 (k := 1) e2 hc hb
    clear e2 hb
    refine je_dup C dX7_not_40 41 rfl rfl ?_
    refine je_aloadR_n C dX7_not_41 42 rfl 2 rfl ?_
    replace h := p_cl_inv h
    obtain ⟨u42, hg, h⟩ := h
    refine je_callIN (As := [va_rf q2]) (rest := [.ref (G.2.1 + b37)]) C (hmX19_init hg) hdX19_init rfl ccX7_242 rfl ⟨(show 2 + 1 ≤ 8 + (d + 1) from by omega), (show 8 + (2 + 11) + 40 ≤ 175 + (d + 1) * 23 from by omega)⟩ ⟨jx_f1 (k := 0) hc hc.2, jx_f2 (k := 0) (n := 0) hc hc.2 (Nat.le_of_ble_eq_true rfl)⟩ (Nat.le_of_ble_eq_true rfl) dX7_not_42 45 rfl ?_
    refine je_widen (cells + 1) (64 * (cells + 1)) (Nat.le_refl _) (jx_f30 (Nat.le_of_ble_eq_true rfl)) ?_
    refine jx_lt (t0 := x_of u42 (t37.2.2 + 0)) h ?_
    clear h
    intro t42 e2 h
    replace hc : c0 + (cells + 1) = t42.2.2 ∧ t42.2.2 ≤ DC := jx_f80 (k := 0) e2 hc hc.2
    clear e2 hg
    refine je_astore_n C dX7_not_45 46 rfl (Nat.le_of_ble_eq_true rfl) [(2, .ref (G.2.1 + b37)), (0, .ref (G.2.1 + a0)), (1, .int v1), (3, .int v3)] rfl ?_
    refine je_iinc C (1) dX7_not_46 49 rfl 3 rfl ic_1 (Nat.le_of_ble_eq_true rfl) [(3, .int (v3 + (1 : Int32))), (2, .ref (G.2.1 + b37)), (0, .ref (G.2.1 + a0)), (1, .int v1)] rfl ?_
    refine je_goto C 32 dX7_not_49 rfl ?_
    refine je_sub [2, 3, 1, 0] [(0, .ref (G.2.1 + a0)), (1, .int v1), (2, va_rf (some (G.2.1 + b37))), (3, .int (v3 + (1 : Int32)))] rfl ?_
    exact ih t42 a0 v1 (some (G.2.1 + b37)) (v3 + (1 : Int32)) (cells + 1) hc h
set_option maxHeartbeats 4000000 in
theorem hwX7_not_2 {p : Program} {l : Launch} {e : Env} {s : State} {m : MethodId} {args : Array Value} {below : List Frame} {meth : Method} {c : Code} {G : je_G} {F : Nat} {rc : Nat → hS → Nat → Option ((Nat × hS) ⊕ (Option Nat × hS))} {d : Nat} {c0 : Nat} {r9 : (Nat × hS) ⊕ (Option Nat × hS)} (C : Cx p s m args meth c G "MinistryDesks$Reader" cX7_not 4 (some (.object "MinistryDesks$Node"))) (hnt : ∀ x ∈ c.exceptionTable.toList, False) (hrc : hgX7 l G d rc) : ∀ (n : Nat) (τ : hS) (a0 : Nat) (v1 : Int32) (cells : Nat) (hc : c0 + cells = τ.2.2 ∧ τ.2.2 ≤ DC), hbX7_not_2 G F rc n τ a0 v1 = some r9 → Js p l e ({ frames := (8 + (d + 1)), cells := DC - c0, slots := 64 * (DC - c0), locals := (175 + (d + 1) * 23) } : Room) s m args below meth c G 4 (xMQ below G (xO r9) args s c0) τ.1 (G.2.1 + τ.2.1) cells (64 * cells) 2 [(0, .ref (G.2.1 + a0)), (1, .int v1)] [] := by
  intro n
  induction n with
  | zero =>
    intro τ a0 v1 cells hc h
    cases h
  | succ n ih =>
    intro τ a0 v1 cells hc h
    rw [hbX7_not_2] at h
    refine je_aload_n C dX7_not_2 3 rfl 0 rfl ?_
    refine je_bipush C (13) dX7_not_3 5 rfl bp_13 ?_
    replace h := p_ob_inv h
    obtain ⟨V5, he, h⟩ := h
    replace h := p_cl_inv h
    obtain ⟨x5, hg, h⟩ := h
    refine je_callV (As := [.int (13 : Int32)]) (rest := []) (o := (some (.int x5))) C (hmX7_isKey hg) he rfl hdX7_isKey rfl cwX7_195 rfl ⟨(show 0 + 1 ≤ 8 + (d + 1) from by omega), (show 8 + (2 + 11) + 0 ≤ 175 + (d + 1) * 23 from by omega)⟩ ⟨jx_f1 (k := 0) hc hc.2, jx_f2 (k := 0) (n := 0) hc hc.2 (Nat.le_of_ble_eq_true rfl)⟩ (Nat.le_of_ble_eq_true rfl) dX7_not_5 8 rfl ?_
    refine je_widen (cells) (64 * (cells)) (Nat.le_refl _) (jx_f30 (Nat.le_of_ble_eq_true rfl)) ?_
    refine je_if_eq C 25 dX7_not_8 11 rfl rfl h ?_ ?_
    · clear h
      intro h
      refine je_aload_n C dX7_not_25 26 rfl 0 rfl ?_
      replace h := p_ob_inv h
      obtain ⟨V26, he, h⟩ := h
      replace h := p_ex_inv h
      rcases h with ⟨z9, hg, hz1, rfl⟩ | ⟨u26, hg, hz1, hz2, h⟩
      · exact jx_callV (As := []) (rest := []) C ((hrc _ _ _).2.2.2.1 hg) he rfl hdX7_compared rfl cwX7_237 rfl ⟨Nat.le_refl _, (show 8 + (3 + 11) + (175 + d * 23) ≤ 175 + (d + 1) * 23 from by omega)⟩ ⟨rfl, rfl⟩ hc (Nat.le_refl _) (Nat.le_of_ble_eq_true rfl) hnt dX7_not_26 29 rfl hz1 (fun _ e9 => e9) (fun _ e9 => by cases e9)
      refine jx_callV (As := []) (rest := []) C ((hrc _ _ _).2.2.2.1 hg) he rfl hdX7_compared rfl cwX7_237 rfl ⟨Nat.le_refl _, (show 8 + (3 + 11) + (175 + d * 23) ≤ 175 + (d + 1) * 23 from by omega)⟩ ⟨rfl, rfl⟩ hc (Nat.le_refl _) (Nat.le_of_ble_eq_true rfl) hnt dX7_not_26 29 rfl hz1 (fun _ e9 => by cases e9) (fun z9 e9 cells2 hc2 => ?_)
      cases e9
      refine je_ltq (x := u26.1) (st := []) h ?_
      clear h
      intro x26 h
      refine jx_lt (t0 := u26.2) h ?_
      clear h
      intro t26 e2 h
      replace hc : c0 + cells2 = t26.2.2 ∧ t26.2.2 ≤ DC := jx_f7 e2 hc2 hz2
      clear e2 hc2 hz1 hz2 hg
      refine je_astoreR_n C dX7_not_29 30 rfl (Nat.le_of_ble_eq_true rfl) [(2, va_rf x26), (0, .ref (G.2.1 + a0)), (1, .int v1)] rfl ?_
      refine je_iconst C (0) dX7_not_30 31 rfl ic_0 ?_
      refine je_istore_n C dX7_not_31 32 rfl (Nat.le_of_ble_eq_true rfl) [(3, .int (0 : Int32)), (2, va_rf x26), (0, .ref (G.2.1 + a0)), (1, .int v1)] (by cases x26 <;> rfl) ?_
      refine je_sub [2, 3, 1, 0] [(0, .ref (G.2.1 + a0)), (1, .int v1), (2, va_rf x26), (3, .int (0 : Int32))] rfl ?_
      exact hwX7_not_32 C hnt hrc F t26 a0 v1 x26 (0 : Int32) cells2 hc h
    clear h
    intro h
    refine je_aload_n C dX7_not_11 12 rfl 0 rfl ?_
    replace h := p_ob_inv h
    obtain ⟨V12, he, h⟩ := h
    replace h := p_ex_inv h
    rcases h with ⟨z9, hg, hz1, rfl⟩ | ⟨u12, hg, hz1, hz2, h⟩
    · exact jx_callV (As := []) (rest := []) C (hmX7_knot hg) he rfl hdX7_knot rfl cwX7_226 rfl ⟨(show 5 + 1 ≤ 8 + (d + 1) from by omega), (show 8 + (1 + 11) + 111 ≤ 175 + (d + 1) * 23 from by omega)⟩ ⟨rfl, rfl⟩ hc (Nat.le_refl _) (Nat.le_of_ble_eq_true rfl) hnt dX7_not_12 15 rfl hz1 (fun _ e9 => e9) (fun _ e9 => by cases e9)
    refine jx_callV (As := []) (rest := []) C (hmX7_knot hg) he rfl hdX7_knot rfl cwX7_226 rfl ⟨(show 5 + 1 ≤ 8 + (d + 1) from by omega), (show 8 + (1 + 11) + 111 ≤ 175 + (d + 1) * 23 from by omega)⟩ ⟨rfl, rfl⟩ hc (Nat.le_refl _) (Nat.le_of_ble_eq_true rfl) hnt dX7_not_12 15 rfl hz1 (fun _ e9 => by cases e9) (fun z9 e9 cells2 hc2 => ?_)
    cases e9
    refine jx_lt (t0 := u12.2) h ?_
    clear h
    intro t12 e2 h
    replace hc : c0 + cells2 = t12.2.2 ∧ t12.2.2 ≤ DC := jx_f7 e2 hc2 hz2
    clear e2 hc2 hz1 hz2 hg
    refine je_aload_n C dX7_not_15 16 rfl 0 rfl ?_
    replace h := p_ob_inv h
    obtain ⟨V16, he, h⟩ := h
    replace h := p_cl_inv h
    obtain ⟨u16, hg, h⟩ := h
    refine je_callV (As := []) (rest := []) (o := none) C (hmX7_take hg) he rfl hdX7_take rfl cwX7_107 rfl ⟨(show 6 + 1 ≤ 8 + (d + 1) from by omega), (show 8 + (1 + 11) + 132 ≤ 175 + (d + 1) * 23 from by omega)⟩ ⟨jx_f1 (k := 0) hc hc.2, jx_f2 (k := 0) (n := 0) hc hc.2 (Nat.le_of_ble_eq_true rfl)⟩ (Nat.le_of_ble_eq_true rfl) dX7_not_16 19 rfl ?_
    refine je_widen (cells2) (64 * (cells2)) (Nat.le_refl _) (jx_f30 (Nat.le_of_ble_eq_true rfl)) ?_
    refine jx_lt (t0 := x_of u16 (t12.2.2 + 0)) h ?_
    clear h
    intro t16 e2 h
    replace hc : c0 + (cells2) = t16.2.2 ∧ t16.2.2 ≤ DC := jx_f80 (k := 0) e2 hc hc.2
    clear e2 hg
    refine je_iinc C (1) dX7_not_19 22 rfl 1 rfl ic_1 (Nat.le_of_ble_eq_true rfl) [(1, .int (v1 + (1 : Int32))), (0, .ref (G.2.1 + a0))] rfl ?_
    refine je_goto C 2 dX7_not_22 rfl ?_
    refine je_sub [1, 0] [(0, .ref (G.2.1 + a0)), (1, .int (v1 + (1 : Int32)))] rfl ?_
    exact ih t16 a0 (v1 + (1 : Int32)) cells2 hc h
set_option maxHeartbeats 4000000 in
theorem hmX7_not {l : Launch} {G : je_G} {F : Nat} {rc : Nat → hS → Nat → Option ((Nat × hS) ⊕ (Option Nat × hS))} {d : Nat} {τ : hS} {a0 : Nat} {r9 : (Nat × hS) ⊕ (Option Nat × hS)} (hrc : hgX7 l G d rc) (h : hX7_not G F rc τ a0 = some r9) : MetX l G yX7_not cX7_not 4 (some (.object "MinistryDesks$Node")) (8 + (d + 1)) (175 + (d + 1) * 23) [.ref (G.2.1 + a0)] τ (xO r9) := by
  by_cases hDC : τ.2.2 ≤ DC
  · refine jx_met "MinistryDesks$Reader" rfl (by decide +kernel) (Nat.le_of_ble_eq_true rfl) [(0, .ref (G.2.1 + a0))] rfl (fun p e s m args below meth c C hnt => ?_)
    have hc : τ.2.2 + 0 = τ.2.2 ∧ τ.2.2 ≤ DC := ⟨rfl, hDC⟩
    unfold hX7_not at h
    obtain ⟨-, h⟩ := p_pr_inv h
    refine je_widen 0 (64 * 0) (Nat.le_refl _) (Nat.le_refl _) ?_
    refine je_iconst C (0) dX7_not_0 1 rfl ic_0 ?_
    refine je_istore_n C dX7_not_1 2 rfl (Nat.le_of_ble_eq_true rfl) [(1, .int (0 : Int32)), (0, .ref (G.2.1 + a0))] rfl ?_
    refine je_sub [1, 0] [(0, .ref (G.2.1 + a0)), (1, .int (0 : Int32))] rfl ?_
    exact hwX7_not_2 C hnt hrc F τ a0 (0 : Int32) 0 hc h
  · unfold hX7_not at h
    exact absurd (p_pr_inv h).1 hDC
theorem hdX18_init : je_hd yX18_init 3 := ⟨by decide +kernel, by decide +kernel, by decide +kernel⟩
theorem hdX7_sum : je_hd yX7_sum 0 := ⟨by decide +kernel, by decide +kernel, by decide +kernel⟩
theorem ccX7_250 : Cond.methodLink "MinistryDesks$Reader" 250 yX18_init ∈ lw_all ∧ Cond.instanceMethod yX18_init ∈ lw_all ∧ Cond.initialized yX18_init.cls ∈ lw_all ∧ Cond.code yX18_init cX18_init 4 none ∈ lw_all := ⟨q1110, q1111, q194, q1112⟩
theorem cwX7_245 : GoodIn lw_all (wsV "MinistryDesks$Reader" 245 "MinistryDesks$Reader" yX7_sum (ws_ yX7_sum cX7_sum 3 (some (.object "MinistryDesks$Node")))) := lw_V q1053 q1055 qs27 q170 q1056
set_option maxHeartbeats 4000000 in
theorem hmX7_compared {l : Launch} {G : je_G} {F : Nat} {rc : Nat → hS → Nat → Option ((Nat × hS) ⊕ (Option Nat × hS))} {d : Nat} {τ : hS} {a0 : Nat} {r9 : (Nat × hS) ⊕ (Option Nat × hS)} (hrc : hgX7 l G d rc) (h : hX7_compared G F rc τ a0 = some r9) : MetX l G yX7_compared cX7_compared 3 (some (.object "MinistryDesks$Node")) (8 + (d + 1)) (175 + (d + 1) * 23) [.ref (G.2.1 + a0)] τ (xO r9) := by
  by_cases hDC : τ.2.2 ≤ DC
  · refine jx_met "MinistryDesks$Reader" rfl (by decide +kernel) (Nat.le_of_ble_eq_true rfl) [(0, .ref (G.2.1 + a0))] rfl (fun p e s m args below meth c C hnt => ?_)
    have hc : τ.2.2 + 0 = τ.2.2 ∧ τ.2.2 ≤ DC := ⟨rfl, hDC⟩
    unfold hX7_compared at h
    obtain ⟨-, h⟩ := p_pr_inv h
    refine je_widen 0 (64 * 0) (Nat.le_refl _) (Nat.le_refl _) ?_
    refine je_aload_n C dX7_compared_0 1 rfl 0 rfl ?_
    replace h := p_ob_inv h
    obtain ⟨V1, he, h⟩ := h
    replace h := p_ex_inv h
    rcases h with ⟨z9, hg, hz1, rfl⟩ | ⟨u1, hg, hz1, hz2, h⟩
    · exact jx_callV (As := []) (rest := []) C ((hrc _ _ _).2.2.2.2.1 hg) he rfl hdX7_sum rfl cwX7_245 rfl ⟨Nat.le_refl _, (show 8 + (3 + 11) + (175 + d * 23) ≤ 175 + (d + 1) * 23 from by omega)⟩ ⟨rfl, rfl⟩ hc (Nat.le_refl _) (Nat.le_of_ble_eq_true rfl) hnt dX7_compared_1 4 rfl hz1 (fun _ e9 => e9) (fun _ e9 => by cases e9)
    refine jx_callV (As := []) (rest := []) C ((hrc _ _ _).2.2.2.2.1 hg) he rfl hdX7_sum rfl cwX7_245 rfl ⟨Nat.le_refl _, (show 8 + (3 + 11) + (175 + d * 23) ≤ 175 + (d + 1) * 23 from by omega)⟩ ⟨rfl, rfl⟩ hc (Nat.le_refl _) (Nat.le_of_ble_eq_true rfl) hnt dX7_compared_1 4 rfl hz1 (fun _ e9 => by cases e9) (fun z9 e9 cells2 hc2 => ?_)
    cases e9
    refine je_ltq (x := u1.1) (st := []) h ?_
    clear h
    intro x1 h
    refine jx_lt (t0 := u1.2) h ?_
    clear h
    intro t1 e2 h
    replace hc : τ.2.2 + cells2 = t1.2.2 ∧ t1.2.2 ≤ DC := jx_f7 e2 hc2 hz2
    clear e2 hc2 hz1 hz2 hg
    refine je_astoreR_n C dX7_compared_4 5 rfl (Nat.le_of_ble_eq_true rfl) [(1, va_rf x1), (0, .ref (G.2.1 + a0))] rfl ?_
    refine je_aload_n C dX7_compared_5 6 rfl 1 rfl ?_
    replace h := p_ob_inv h
    obtain ⟨V6, he, h⟩ := h
    replace h := p_vi_inv h
    obtain ⟨x6, hv, h⟩ := h
    refine je_get (k := 3) C he rfl in_X7 (by decide) q554 rfl dX7_compared_6 9 rfl hv ?_
    refine je_iconst C (5) dX7_compared_9 10 rfl ic_5 ?_
    refine je_icmp_eq C 15 dX7_compared_10 13 rfl rfl h ?_ ?_
    · clear h
      intro h
      refine je_aload_n C dX7_compared_15 16 rfl 1 rfl ?_
      replace h := p_ob_inv h
      obtain ⟨V16, he, h⟩ := h
      replace h := p_vi_inv h
      obtain ⟨x16, hv, h⟩ := h
      refine je_get (k := 4) C he rfl in_X7 (by decide) q555 rfl dX7_compared_16 19 rfl hv ?_
      refine je_istore_n C dX7_compared_19 20 rfl (Nat.le_of_ble_eq_true rfl) [(2, .int x16), (1, va_rf x1), (0, .ref (G.2.1 + a0))] (by cases x1 <;> rfl) ?_
      refine je_aload_n C dX7_compared_20 21 rfl 2 rfl ?_
      replace h := p_ob_inv h
      obtain ⟨V21, he, h⟩ := h
      replace h := p_ex_inv h
      rcases h with ⟨z9, hg, hz1, rfl⟩ | ⟨u21, hg, hz1, hz2, h⟩
      · exact jx_callV (As := []) (rest := []) C (hmX7_knot hg) he rfl hdX7_knot rfl cwX7_226 rfl ⟨(show 5 + 1 ≤ 8 + (d + 1) from by omega), (show 8 + (1 + 11) + 111 ≤ 175 + (d + 1) * 23 from by omega)⟩ ⟨rfl, rfl⟩ hc (Nat.le_refl _) (Nat.le_of_ble_eq_true rfl) hnt dX7_compared_21 24 rfl hz1 (fun _ e9 => e9) (fun _ e9 => by cases e9)
      refine jx_callV (As := []) (rest := []) C (hmX7_knot hg) he rfl hdX7_knot rfl cwX7_226 rfl ⟨(show 5 + 1 ≤ 8 + (d + 1) from by omega), (show 8 + (1 + 11) + 111 ≤ 175 + (d + 1) * 23 from by omega)⟩ ⟨rfl, rfl⟩ hc (Nat.le_refl _) (Nat.le_of_ble_eq_true rfl) hnt dX7_compared_21 24 rfl hz1 (fun _ e9 => by cases e9) (fun z9 e9 cells2 hc2 => ?_)
      cases e9
      refine jx_lt (t0 := u21.2) h ?_
      clear h
      intro t21 e2 h
      replace hc : τ.2.2 + cells2 = t21.2.2 ∧ t21.2.2 ≤ DC := jx_f7 e2 hc2 hz2
      clear e2 hc2 hz1 hz2 hg
      refine je_aload_n C dX7_compared_24 25 rfl 2 rfl ?_
      replace h := p_ob_inv h
      obtain ⟨V25, he, h⟩ := h
      replace h := p_cl_inv h
      obtain ⟨u25, hg, h⟩ := h
      refine je_callV (As := []) (rest := []) (o := none) C (hmX7_take hg) he rfl hdX7_take rfl cwX7_107 rfl ⟨(show 6 + 1 ≤ 8 + (d + 1) from by omega), (show 8 + (1 + 11) + 132 ≤ 175 + (d + 1) * 23 from by omega)⟩ ⟨jx_f1 (k := 0) hc hc.2, jx_f2 (k := 0) (n := 0) hc hc.2 (Nat.le_of_ble_eq_true rfl)⟩ (Nat.le_of_ble_eq_true rfl) dX7_compared_25 28 rfl ?_
      refine je_widen (cells2) (64 * (cells2)) (Nat.le_refl _) (jx_f30 (Nat.le_of_ble_eq_true rfl)) ?_
      refine jx_lt (t0 := x_of u25 (t21.2.2 + 0)) h ?_
      clear h
      intro t25 e2 h
      replace hc : τ.2.2 + (cells2) = t25.2.2 ∧ t25.2.2 ≤ DC := jx_f80 (k := 0) e2 hc hc.2
      clear e2 hg
      replace h := p_pr_inv h
      obtain ⟨hb, h⟩ := h
      refine je_new C (ci := 16) rfl in_X18 tyX18 tyX18_ok q1108 q1109 q194 rfl (jx_f1 (k := 1) hc hb) (jx_f2 (k := 1) (n := 3) hc hb (Nat.le_of_ble_eq_true rfl)) dX7_compared_28 31 rfl ?_
      refine je_widen (cells2 + 1) (64 * (cells2 + 1)) (Nat.le_refl _) (jx_f3 (Nat.le_of_ble_eq_true rfl)) ?_
      refine je_ltr h ?_
      clear h
      intro b28 h
      refine jx_lt h ?_
      clear h
      intro t28 e2 h
      replace hc : τ.2.2 + (cells2 + 1) = t28.2.2 ∧ t28.2.2 ≤ DC := jx_f4 (k := 1) e2 hc hb
      clear e2 hb
      refine je_dup C dX7_compared_31 32 rfl rfl ?_
      refine je_iload_n C dX7_compared_32 33 rfl 0 rfl ?_
      refine je_aloadR_n C dX7_compared_33 34 rfl 1 rfl ?_
      refine je_aload_n C dX7_compared_34 35 rfl 2 rfl ?_
      replace h := p_ob_inv h
      obtain ⟨V35, he, h⟩ := h
      replace h := p_ex_inv h
      rcases h with ⟨z9, hg, hz1, rfl⟩ | ⟨u35, hg, hz1, hz2, h⟩
      · exact jx_callV (As := []) (rest := [va_rf x1, .int x16, .ref (G.2.1 + b28), .ref (G.2.1 + b28)]) C ((hrc _ _ _).2.2.2.2.1 hg) he rfl hdX7_sum rfl cwX7_245 rfl ⟨Nat.le_refl _, (show 8 + (3 + 11) + (175 + d * 23) ≤ 175 + (d + 1) * 23 from by omega)⟩ ⟨rfl, rfl⟩ hc (Nat.le_refl _) (by simp only [List.map_cons, List.map_nil, je_cat, List.sum_cons, List.sum_nil]; exact Nat.le_of_ble_eq_true rfl) hnt dX7_compared_35 38 rfl hz1 (fun _ e9 => e9) (fun _ e9 => by cases e9)
      refine jx_callV (As := []) (rest := [va_rf x1, .int x16, .ref (G.2.1 + b28), .ref (G.2.1 + b28)]) C ((hrc _ _ _).2.2.2.2.1 hg) he rfl hdX7_sum rfl cwX7_245 rfl ⟨Nat.le_refl _, (show 8 + (3 + 11) + (175 + d * 23) ≤ 175 + (d + 1) * 23 from by omega)⟩ ⟨rfl, rfl⟩ hc (Nat.le_refl _) (by simp only [List.map_cons, List.map_nil, je_cat, List.sum_cons, List.sum_nil]; exact Nat.le_of_ble_eq_true rfl) hnt dX7_compared_35 38 rfl hz1 (fun _ e9 => by cases e9) (fun z9 e9 cells2 hc2 => ?_)
      cases e9
      refine je_ltq (x := u35.1) (st := [va_rf x1, .int x16, .ref (G.2.1 + b28), .ref (G.2.1 + b28)]) h ?_
      clear h
      intro x35 h
      refine jx_lt (t0 := u35.2) h ?_
      clear h
      intro t35 e2 h
      replace hc : τ.2.2 + cells2 = t35.2.2 ∧ t35.2.2 ≤ DC := jx_f7 e2 hc2 hz2
      clear e2 hc2 hz1 hz2 hg
      replace h := p_cl_inv h
      obtain ⟨u38, hg, h⟩ := h
      refine je_callI (As := [.int x16, va_rf x1, va_rf x35]) (rest := [.ref (G.2.1 + b28)]) C (hmX18_init hg) hdX18_init rfl ccX7_250 rfl ⟨(show 2 + 1 ≤ 8 + (d + 1) from by omega), (show 8 + (4 + 11) + 42 ≤ 175 + (d + 1) * 23 from by omega)⟩ ⟨jx_f1 (k := 0) hc hc.2, jx_f2 (k := 0) (n := 0) hc hc.2 (Nat.le_of_ble_eq_true rfl)⟩ (Nat.le_of_ble_eq_true rfl) dX7_compared_38 41 rfl ?_
      refine je_widen (cells2) (64 * (cells2)) (Nat.le_refl _) (jx_f30 (Nat.le_of_ble_eq_true rfl)) ?_
      refine jx_lt (t0 := x_of u38 (t35.2.2 + 0)) h ?_
      clear h
      intro t38 e2 h
      replace hc : τ.2.2 + (cells2) = t38.2.2 ∧ t38.2.2 ≤ DC := jx_f80 (k := 0) e2 hc hc.2
      clear e2 hg
      cases h
      exact jx_ret hc.1 (Nat.le_refl _) (je_aret (x := (some (G.2.1 + b28))) C dX7_compared_41)
    clear h
    intro h
    refine je_aloadR_n C dX7_compared_13 14 rfl 0 rfl ?_
    cases h
    exact jx_ret hc.1 (Nat.le_refl _) (je_aret C dX7_compared_14)
  · unfold hX7_compared at h
    exact absurd (p_pr_inv h).1 hDC
theorem hdX17_init : je_hd yX17_init 3 := ⟨by decide +kernel, by decide +kernel, by decide +kernel⟩
theorem hdX7_isSign : je_hd yX7_isSign 1 := ⟨by decide +kernel, by decide +kernel, by decide +kernel⟩
theorem hdX7_product : je_hd yX7_product 0 := ⟨by decide +kernel, by decide +kernel, by decide +kernel⟩
theorem ccX7_258 : Cond.methodLink "MinistryDesks$Reader" 258 yX17_init ∈ lw_all ∧ Cond.instanceMethod yX17_init ∈ lw_all ∧ Cond.initialized yX17_init.cls ∈ lw_all ∧ Cond.code yX17_init cX17_init 4 none ∈ lw_all := ⟨q1091, q1092, q193, q1093⟩
theorem cwX7_116 : GoodIn lw_all (wsV "MinistryDesks$Reader" 116 "MinistryDesks$Reader" yX7_isSign (ws_ yX7_isSign cX7_isSign 2 (some .boolean))) := lw_V q1065 q1067 qs30 q170 q1068
theorem cwX7_253 : GoodIn lw_all (wsV "MinistryDesks$Reader" 253 "MinistryDesks$Reader" yX7_product (ws_ yX7_product cX7_product 3 (some (.object "MinistryDesks$Node")))) := lw_V q1057 q1059 qs28 q170 q1060
set_option maxHeartbeats 4000000 in
theorem hwX7_sum_23 {p : Program} {l : Launch} {e : Env} {s : State} {m : MethodId} {args : Array Value} {below : List Frame} {meth : Method} {c : Code} {G : je_G} {F : Nat} {rc : Nat → hS → Nat → Option ((Nat × hS) ⊕ (Option Nat × hS))} {d : Nat} {c0 : Nat} {r9 : (Nat × hS) ⊕ (Option Nat × hS)} {k5 : hS → Nat → Option Nat → Option ((Nat × hS) ⊕ (Option Nat × hS))} (C : Cx p s m args meth c G "MinistryDesks$Reader" cX7_sum 3 (some (.object "MinistryDesks$Node"))) (hnt : ∀ x ∈ c.exceptionTable.toList, False) (hrc : hgX7 l G d rc) (hk5 : ∀ (kq : hS) (q0 : Nat) (q1 : Option Nat) (cells : Nat) (_ : c0 + cells = kq.2.2 ∧ kq.2.2 ≤ DC), k5 kq q0 q1 = some r9 → Js p l e ({ frames := (8 + (d + 1)), cells := DC - c0, slots := 64 * (DC - c0), locals := (175 + (d + 1) * 23) } : Room) s m args below meth c G 3 (xMQ below G (xO r9) args s c0) kq.1 (G.2.1 + kq.2.1) cells (64 * cells) 5 [(0, .ref (G.2.1 + q0)), (1, va_rf q1)] []) (τ : hS) (a0 : Nat) (q1 : Option Nat) (cells : Nat) (hc : c0 + cells = τ.2.2 ∧ τ.2.2 ≤ DC) (h : hbX7_sum_23 G F rc k5 τ a0 q1 = some r9) : Js p l e ({ frames := (8 + (d + 1)), cells := DC - c0, slots := 64 * (DC - c0), locals := (175 + (d + 1) * 23) } : Room) s m args below meth c G 3 (xMQ below G (xO r9) args s c0) τ.1 (G.2.1 + τ.2.1) cells (64 * cells) 23 [(0, .ref (G.2.1 + a0)), (1, va_rf q1)] [] := by
  unfold hbX7_sum_23 at h
  refine je_aload_n C dX7_sum_23 24 rfl 0 rfl ?_
  replace h := p_ob_inv h
  obtain ⟨V24, he, h⟩ := h
  replace h := p_vi_inv h
  obtain ⟨x24, hv, h⟩ := h
  refine je_get (k := 4) C he rfl in_X7 (by decide) q555 rfl dX7_sum_24 27 rfl hv ?_
  refine je_istore_n C dX7_sum_27 28 rfl (Nat.le_of_ble_eq_true rfl) [(2, .int x24), (0, .ref (G.2.1 + a0)), (1, va_rf q1)] (by cases q1 <;> rfl) ?_
  refine je_aload_n C dX7_sum_28 29 rfl 1 rfl ?_
  replace h := p_ob_inv h
  obtain ⟨V29, he, h⟩ := h
  replace h := p_ex_inv h
  rcases h with ⟨z9, hg, hz1, rfl⟩ | ⟨u29, hg, hz1, hz2, h⟩
  · exact jx_callV (As := []) (rest := []) C (hmX7_knot hg) he rfl hdX7_knot rfl cwX7_226 rfl ⟨(show 5 + 1 ≤ 8 + (d + 1) from by omega), (show 8 + (1 + 11) + 111 ≤ 175 + (d + 1) * 23 from by omega)⟩ ⟨rfl, rfl⟩ hc (Nat.le_refl _) (Nat.le_of_ble_eq_true rfl) hnt dX7_sum_29 32 rfl hz1 (fun _ e9 => e9) (fun _ e9 => by cases e9)
  refine jx_callV (As := []) (rest := []) C (hmX7_knot hg) he rfl hdX7_knot rfl cwX7_226 rfl ⟨(show 5 + 1 ≤ 8 + (d + 1) from by omega), (show 8 + (1 + 11) + 111 ≤ 175 + (d + 1) * 23 from by omega)⟩ ⟨rfl, rfl⟩ hc (Nat.le_refl _) (Nat.le_of_ble_eq_true rfl) hnt dX7_sum_29 32 rfl hz1 (fun _ e9 => by cases e9) (fun z9 e9 cells2 hc2 => ?_)
  cases e9
  refine jx_lt (t0 := u29.2) h ?_
  clear h
  intro t29 e2 h
  replace hc : c0 + cells2 = t29.2.2 ∧ t29.2.2 ≤ DC := jx_f7 e2 hc2 hz2
  clear e2 hc2 hz1 hz2 hg
  refine je_aload_n C dX7_sum_32 33 rfl 1 rfl ?_
  replace h := p_ob_inv h
  obtain ⟨V33, he, h⟩ := h
  replace h := p_cl_inv h
  obtain ⟨u33, hg, h⟩ := h
  refine je_callV (As := []) (rest := []) (o := none) C (hmX7_take hg) he rfl hdX7_take rfl cwX7_107 rfl ⟨(show 6 + 1 ≤ 8 + (d + 1) from by omega), (show 8 + (1 + 11) + 132 ≤ 175 + (d + 1) * 23 from by omega)⟩ ⟨jx_f1 (k := 0) hc hc.2, jx_f2 (k := 0) (n := 0) hc hc.2 (Nat.le_of_ble_eq_true rfl)⟩ (Nat.le_of_ble_eq_true rfl) dX7_sum_33 36 rfl ?_
  refine je_widen (cells2) (64 * (cells2)) (Nat.le_refl _) (jx_f30 (Nat.le_of_ble_eq_true rfl)) ?_
  refine jx_lt (t0 := x_of u33 (t29.2.2 + 0)) h ?_
  clear h
  intro t33 e2 h
  replace hc : c0 + (cells2) = t33.2.2 ∧ t33.2.2 ≤ DC := jx_f80 (k := 0) e2 hc hc.2
  clear e2 hg
  replace h := p_pr_inv h
  obtain ⟨hb, h⟩ := h
  refine je_new C (ci := 17) rfl in_X17 tyX17 tyX17_ok q1089 q1090 q193 rfl (jx_f1 (k := 1) hc hb) (jx_f2 (k := 1) (n := 3) hc hb (Nat.le_of_ble_eq_true rfl)) dX7_sum_36 39 rfl ?_
  refine je_widen (cells2 + 1) (64 * (cells2 + 1)) (Nat.le_refl _) (jx_f3 (Nat.le_of_ble_eq_true rfl)) ?_
  refine je_ltr h ?_
  clear h
  intro b36 h
  refine jx_lt h ?_
  clear h
  intro t36 e2 h
  replace hc : c0 + (cells2 + 1) = t36.2.2 ∧ t36.2.2 ≤ DC := jx_f4 (k := 1) e2 hc hb
  clear e2 hb
  refine je_dup C dX7_sum_39 40 rfl rfl ?_
  refine je_iload_n C dX7_sum_40 41 rfl 0 rfl ?_
  refine je_aloadR_n C dX7_sum_41 42 rfl 2 rfl ?_
  refine je_aload_n C dX7_sum_42 43 rfl 1 rfl ?_
  replace h := p_ob_inv h
  obtain ⟨V43, he, h⟩ := h
  replace h := p_ex_inv h
  rcases h with ⟨z9, hg, hz1, rfl⟩ | ⟨u43, hg, hz1, hz2, h⟩
  · exact jx_callV (As := []) (rest := [va_rf q1, .int x24, .ref (G.2.1 + b36), .ref (G.2.1 + b36)]) C ((hrc _ _ _).2.2.2.2.2.1 hg) he rfl hdX7_product rfl cwX7_253 rfl ⟨Nat.le_refl _, (show 8 + (3 + 11) + (175 + d * 23) ≤ 175 + (d + 1) * 23 from by omega)⟩ ⟨rfl, rfl⟩ hc (Nat.le_refl _) (by simp only [List.map_cons, List.map_nil, je_cat, List.sum_cons, List.sum_nil]; exact Nat.le_of_ble_eq_true rfl) hnt dX7_sum_43 46 rfl hz1 (fun _ e9 => e9) (fun _ e9 => by cases e9)
  refine jx_callV (As := []) (rest := [va_rf q1, .int x24, .ref (G.2.1 + b36), .ref (G.2.1 + b36)]) C ((hrc _ _ _).2.2.2.2.2.1 hg) he rfl hdX7_product rfl cwX7_253 rfl ⟨Nat.le_refl _, (show 8 + (3 + 11) + (175 + d * 23) ≤ 175 + (d + 1) * 23 from by omega)⟩ ⟨rfl, rfl⟩ hc (Nat.le_refl _) (by simp only [List.map_cons, List.map_nil, je_cat, List.sum_cons, List.sum_nil]; exact Nat.le_of_ble_eq_true rfl) hnt dX7_sum_43 46 rfl hz1 (fun _ e9 => by cases e9) (fun z9 e9 cells2 hc2 => ?_)
  cases e9
  refine je_ltq (x := u43.1) (st := [va_rf q1, .int x24, .ref (G.2.1 + b36), .ref (G.2.1 + b36)]) h ?_
  clear h
  intro x43 h
  refine jx_lt (t0 := u43.2) h ?_
  clear h
  intro t43 e2 h
  replace hc : c0 + cells2 = t43.2.2 ∧ t43.2.2 ≤ DC := jx_f7 e2 hc2 hz2
  clear e2 hc2 hz1 hz2 hg
  replace h := p_cl_inv h
  obtain ⟨u46, hg, h⟩ := h
  refine je_callI (As := [.int x24, va_rf q1, va_rf x43]) (rest := [.ref (G.2.1 + b36)]) C (hmX17_init hg) hdX17_init rfl ccX7_258 rfl ⟨(show 2 + 1 ≤ 8 + (d + 1) from by omega), (show 8 + (4 + 11) + 42 ≤ 175 + (d + 1) * 23 from by omega)⟩ ⟨jx_f1 (k := 0) hc hc.2, jx_f2 (k := 0) (n := 0) hc hc.2 (Nat.le_of_ble_eq_true rfl)⟩ (Nat.le_of_ble_eq_true rfl) dX7_sum_46 49 rfl ?_
  refine je_widen (cells2) (64 * (cells2)) (Nat.le_refl _) (jx_f30 (Nat.le_of_ble_eq_true rfl)) ?_
  refine jx_lt (t0 := x_of u46 (t43.2.2 + 0)) h ?_
  clear h
  intro t46 e2 h
  replace hc : c0 + (cells2) = t46.2.2 ∧ t46.2.2 ≤ DC := jx_f80 (k := 0) e2 hc hc.2
  clear e2 hg
  refine je_astore_n C dX7_sum_49 50 rfl (Nat.le_of_ble_eq_true rfl) [(1, .ref (G.2.1 + b36)), (2, .int x24), (0, .ref (G.2.1 + a0))] rfl ?_
  refine je_goto C 5 dX7_sum_50 rfl ?_
  refine je_sub [2, 0] [(0, .ref (G.2.1 + a0)), (1, va_rf (some (G.2.1 + b36)))] rfl ?_
  exact hk5 t46 a0 (some (G.2.1 + b36)) cells2 hc h
set_option maxHeartbeats 4000000 in
theorem hwX7_sum_5 {p : Program} {l : Launch} {e : Env} {s : State} {m : MethodId} {args : Array Value} {below : List Frame} {meth : Method} {c : Code} {G : je_G} {F : Nat} {rc : Nat → hS → Nat → Option ((Nat × hS) ⊕ (Option Nat × hS))} {d : Nat} {c0 : Nat} {r9 : (Nat × hS) ⊕ (Option Nat × hS)} (C : Cx p s m args meth c G "MinistryDesks$Reader" cX7_sum 3 (some (.object "MinistryDesks$Node"))) (hnt : ∀ x ∈ c.exceptionTable.toList, False) (hrc : hgX7 l G d rc) : ∀ (n : Nat) (τ : hS) (a0 : Nat) (q1 : Option Nat) (cells : Nat) (hc : c0 + cells = τ.2.2 ∧ τ.2.2 ≤ DC), hbX7_sum_5 G F rc n τ a0 q1 = some r9 → Js p l e ({ frames := (8 + (d + 1)), cells := DC - c0, slots := 64 * (DC - c0), locals := (175 + (d + 1) * 23) } : Room) s m args below meth c G 3 (xMQ below G (xO r9) args s c0) τ.1 (G.2.1 + τ.2.1) cells (64 * cells) 5 [(0, .ref (G.2.1 + a0)), (1, va_rf q1)] [] := by
  intro n
  induction n with
  | zero =>
    intro τ a0 q1 cells hc h
    cases h
  | succ n ih =>
    intro τ a0 q1 cells hc h
    rw [hbX7_sum_5] at h
    refine je_aload_n C dX7_sum_5 6 rfl 0 rfl ?_
    refine je_bipush C (43) dX7_sum_6 8 rfl bp_43 ?_
    replace h := p_ob_inv h
    obtain ⟨V8, he, h⟩ := h
    replace h := p_cl_inv h
    obtain ⟨x8, hg, h⟩ := h
    refine je_callV (As := [.int (43 : Int32)]) (rest := []) (o := (some (.int x8))) C (hmX7_isSign hg) he rfl hdX7_isSign rfl cwX7_116 rfl ⟨(show 0 + 1 ≤ 8 + (d + 1) from by omega), (show 8 + (2 + 11) + 0 ≤ 175 + (d + 1) * 23 from by omega)⟩ ⟨jx_f1 (k := 0) hc hc.2, jx_f2 (k := 0) (n := 0) hc hc.2 (Nat.le_of_ble_eq_true rfl)⟩ (Nat.le_of_ble_eq_true rfl) dX7_sum_8 11 rfl ?_
    refine je_widen (cells) (64 * (cells)) (Nat.le_refl _) (jx_f30 (Nat.le_of_ble_eq_true rfl)) ?_
    refine je_if_ne C 23 dX7_sum_11 14 rfl rfl h ?_ ?_
    · clear h
      intro h
      exact hwX7_sum_23 C hnt hrc ih τ a0 q1 cells hc h
    clear h
    intro h
    refine je_aload_n C dX7_sum_14 15 rfl 0 rfl ?_
    refine je_bipush C (45) dX7_sum_15 17 rfl bp_45 ?_
    replace h := p_ob_inv h
    obtain ⟨V17, he, h⟩ := h
    replace h := p_cl_inv h
    obtain ⟨x17, hg, h⟩ := h
    refine je_callV (As := [.int (45 : Int32)]) (rest := []) (o := (some (.int x17))) C (hmX7_isSign hg) he rfl hdX7_isSign rfl cwX7_116 rfl ⟨(show 0 + 1 ≤ 8 + (d + 1) from by omega), (show 8 + (2 + 11) + 0 ≤ 175 + (d + 1) * 23 from by omega)⟩ ⟨jx_f1 (k := 0) hc hc.2, jx_f2 (k := 0) (n := 0) hc hc.2 (Nat.le_of_ble_eq_true rfl)⟩ (Nat.le_of_ble_eq_true rfl) dX7_sum_17 20 rfl ?_
    refine je_widen (cells) (64 * (cells)) (Nat.le_refl _) (jx_f30 (Nat.le_of_ble_eq_true rfl)) ?_
    refine je_if_eq C 53 dX7_sum_20 23 rfl rfl h ?_ ?_
    · clear h
      intro h
      refine je_aloadR_n C dX7_sum_53 54 rfl 1 rfl ?_
      cases h
      exact jx_ret hc.1 (Nat.le_refl _) (je_aret C dX7_sum_54)
    clear h
    intro h
    exact hwX7_sum_23 C hnt hrc ih τ a0 q1 cells hc h
set_option maxHeartbeats 4000000 in
theorem hmX7_sum {l : Launch} {G : je_G} {F : Nat} {rc : Nat → hS → Nat → Option ((Nat × hS) ⊕ (Option Nat × hS))} {d : Nat} {τ : hS} {a0 : Nat} {r9 : (Nat × hS) ⊕ (Option Nat × hS)} (hrc : hgX7 l G d rc) (h : hX7_sum G F rc τ a0 = some r9) : MetX l G yX7_sum cX7_sum 3 (some (.object "MinistryDesks$Node")) (8 + (d + 1)) (175 + (d + 1) * 23) [.ref (G.2.1 + a0)] τ (xO r9) := by
  by_cases hDC : τ.2.2 ≤ DC
  · refine jx_met "MinistryDesks$Reader" rfl (by decide +kernel) (Nat.le_of_ble_eq_true rfl) [(0, .ref (G.2.1 + a0))] rfl (fun p e s m args below meth c C hnt => ?_)
    have hc : τ.2.2 + 0 = τ.2.2 ∧ τ.2.2 ≤ DC := ⟨rfl, hDC⟩
    unfold hX7_sum at h
    obtain ⟨-, h⟩ := p_pr_inv h
    refine je_widen 0 (64 * 0) (Nat.le_refl _) (Nat.le_refl _) ?_
    refine je_aload_n C dX7_sum_0 1 rfl 0 rfl ?_
    replace h := p_ob_inv h
    obtain ⟨V1, he, h⟩ := h
    replace h := p_ex_inv h
    rcases h with ⟨z9, hg, hz1, rfl⟩ | ⟨u1, hg, hz1, hz2, h⟩
    · exact jx_callV (As := []) (rest := []) C ((hrc _ _ _).2.2.2.2.2.1 hg) he rfl hdX7_product rfl cwX7_253 rfl ⟨Nat.le_refl _, (show 8 + (3 + 11) + (175 + d * 23) ≤ 175 + (d + 1) * 23 from by omega)⟩ ⟨rfl, rfl⟩ hc (Nat.le_refl _) (Nat.le_of_ble_eq_true rfl) hnt dX7_sum_1 4 rfl hz1 (fun _ e9 => e9) (fun _ e9 => by cases e9)
    refine jx_callV (As := []) (rest := []) C ((hrc _ _ _).2.2.2.2.2.1 hg) he rfl hdX7_product rfl cwX7_253 rfl ⟨Nat.le_refl _, (show 8 + (3 + 11) + (175 + d * 23) ≤ 175 + (d + 1) * 23 from by omega)⟩ ⟨rfl, rfl⟩ hc (Nat.le_refl _) (Nat.le_of_ble_eq_true rfl) hnt dX7_sum_1 4 rfl hz1 (fun _ e9 => by cases e9) (fun z9 e9 cells2 hc2 => ?_)
    cases e9
    refine je_ltq (x := u1.1) (st := []) h ?_
    clear h
    intro x1 h
    refine jx_lt (t0 := u1.2) h ?_
    clear h
    intro t1 e2 h
    replace hc : τ.2.2 + cells2 = t1.2.2 ∧ t1.2.2 ≤ DC := jx_f7 e2 hc2 hz2
    clear e2 hc2 hz1 hz2 hg
    refine je_astoreR_n C dX7_sum_4 5 rfl (Nat.le_of_ble_eq_true rfl) [(1, va_rf x1), (0, .ref (G.2.1 + a0))] rfl ?_
    refine je_sub [1, 0] [(0, .ref (G.2.1 + a0)), (1, va_rf x1)] rfl ?_
    exact hwX7_sum_5 C hnt hrc F t1 a0 x1 cells2 hc h
  · unfold hX7_sum at h
    exact absurd (p_pr_inv h).1 hDC
theorem hdX7_one : je_hd yX7_one 0 := ⟨by decide +kernel, by decide +kernel, by decide +kernel⟩
theorem cwX7_259 : GoodIn lw_all (wsV "MinistryDesks$Reader" 259 "MinistryDesks$Reader" yX7_one (ws_ yX7_one cX7_one 2 (some (.object "MinistryDesks$Node")))) := lw_V q1061 q1063 qs29 q170 q1064
set_option maxHeartbeats 4000000 in
theorem hwX7_product_23 {p : Program} {l : Launch} {e : Env} {s : State} {m : MethodId} {args : Array Value} {below : List Frame} {meth : Method} {c : Code} {G : je_G} {F : Nat} {rc : Nat → hS → Nat → Option ((Nat × hS) ⊕ (Option Nat × hS))} {d : Nat} {c0 : Nat} {r9 : (Nat × hS) ⊕ (Option Nat × hS)} {k5 : hS → Nat → Option Nat → Option ((Nat × hS) ⊕ (Option Nat × hS))} (C : Cx p s m args meth c G "MinistryDesks$Reader" cX7_product 3 (some (.object "MinistryDesks$Node"))) (hnt : ∀ x ∈ c.exceptionTable.toList, False) (hrc : hgX7 l G d rc) (hk5 : ∀ (kq : hS) (q0 : Nat) (q1 : Option Nat) (cells : Nat) (_ : c0 + cells = kq.2.2 ∧ kq.2.2 ≤ DC), k5 kq q0 q1 = some r9 → Js p l e ({ frames := (8 + (d + 1)), cells := DC - c0, slots := 64 * (DC - c0), locals := (175 + (d + 1) * 23) } : Room) s m args below meth c G 3 (xMQ below G (xO r9) args s c0) kq.1 (G.2.1 + kq.2.1) cells (64 * cells) 5 [(0, .ref (G.2.1 + q0)), (1, va_rf q1)] []) (τ : hS) (a0 : Nat) (q1 : Option Nat) (cells : Nat) (hc : c0 + cells = τ.2.2 ∧ τ.2.2 ≤ DC) (h : hbX7_product_23 G F rc k5 τ a0 q1 = some r9) : Js p l e ({ frames := (8 + (d + 1)), cells := DC - c0, slots := 64 * (DC - c0), locals := (175 + (d + 1) * 23) } : Room) s m args below meth c G 3 (xMQ below G (xO r9) args s c0) τ.1 (G.2.1 + τ.2.1) cells (64 * cells) 23 [(0, .ref (G.2.1 + a0)), (1, va_rf q1)] [] := by
  unfold hbX7_product_23 at h
  refine je_aload_n C dX7_product_23 24 rfl 0 rfl ?_
  replace h := p_ob_inv h
  obtain ⟨V24, he, h⟩ := h
  replace h := p_vi_inv h
  obtain ⟨x24, hv, h⟩ := h
  refine je_get (k := 4) C he rfl in_X7 (by decide) q555 rfl dX7_product_24 27 rfl hv ?_
  refine je_istore_n C dX7_product_27 28 rfl (Nat.le_of_ble_eq_true rfl) [(2, .int x24), (0, .ref (G.2.1 + a0)), (1, va_rf q1)] (by cases q1 <;> rfl) ?_
  refine je_aload_n C dX7_product_28 29 rfl 1 rfl ?_
  replace h := p_ob_inv h
  obtain ⟨V29, he, h⟩ := h
  replace h := p_ex_inv h
  rcases h with ⟨z9, hg, hz1, rfl⟩ | ⟨u29, hg, hz1, hz2, h⟩
  · exact jx_callV (As := []) (rest := []) C (hmX7_knot hg) he rfl hdX7_knot rfl cwX7_226 rfl ⟨(show 5 + 1 ≤ 8 + (d + 1) from by omega), (show 8 + (1 + 11) + 111 ≤ 175 + (d + 1) * 23 from by omega)⟩ ⟨rfl, rfl⟩ hc (Nat.le_refl _) (Nat.le_of_ble_eq_true rfl) hnt dX7_product_29 32 rfl hz1 (fun _ e9 => e9) (fun _ e9 => by cases e9)
  refine jx_callV (As := []) (rest := []) C (hmX7_knot hg) he rfl hdX7_knot rfl cwX7_226 rfl ⟨(show 5 + 1 ≤ 8 + (d + 1) from by omega), (show 8 + (1 + 11) + 111 ≤ 175 + (d + 1) * 23 from by omega)⟩ ⟨rfl, rfl⟩ hc (Nat.le_refl _) (Nat.le_of_ble_eq_true rfl) hnt dX7_product_29 32 rfl hz1 (fun _ e9 => by cases e9) (fun z9 e9 cells2 hc2 => ?_)
  cases e9
  refine jx_lt (t0 := u29.2) h ?_
  clear h
  intro t29 e2 h
  replace hc : c0 + cells2 = t29.2.2 ∧ t29.2.2 ≤ DC := jx_f7 e2 hc2 hz2
  clear e2 hc2 hz1 hz2 hg
  refine je_aload_n C dX7_product_32 33 rfl 1 rfl ?_
  replace h := p_ob_inv h
  obtain ⟨V33, he, h⟩ := h
  replace h := p_cl_inv h
  obtain ⟨u33, hg, h⟩ := h
  refine je_callV (As := []) (rest := []) (o := none) C (hmX7_take hg) he rfl hdX7_take rfl cwX7_107 rfl ⟨(show 6 + 1 ≤ 8 + (d + 1) from by omega), (show 8 + (1 + 11) + 132 ≤ 175 + (d + 1) * 23 from by omega)⟩ ⟨jx_f1 (k := 0) hc hc.2, jx_f2 (k := 0) (n := 0) hc hc.2 (Nat.le_of_ble_eq_true rfl)⟩ (Nat.le_of_ble_eq_true rfl) dX7_product_33 36 rfl ?_
  refine je_widen (cells2) (64 * (cells2)) (Nat.le_refl _) (jx_f30 (Nat.le_of_ble_eq_true rfl)) ?_
  refine jx_lt (t0 := x_of u33 (t29.2.2 + 0)) h ?_
  clear h
  intro t33 e2 h
  replace hc : c0 + (cells2) = t33.2.2 ∧ t33.2.2 ≤ DC := jx_f80 (k := 0) e2 hc hc.2
  clear e2 hg
  replace h := p_pr_inv h
  obtain ⟨hb, h⟩ := h
  refine je_new C (ci := 17) rfl in_X17 tyX17 tyX17_ok q1089 q1090 q193 rfl (jx_f1 (k := 1) hc hb) (jx_f2 (k := 1) (n := 3) hc hb (Nat.le_of_ble_eq_true rfl)) dX7_product_36 39 rfl ?_
  refine je_widen (cells2 + 1) (64 * (cells2 + 1)) (Nat.le_refl _) (jx_f3 (Nat.le_of_ble_eq_true rfl)) ?_
  refine je_ltr h ?_
  clear h
  intro b36 h
  refine jx_lt h ?_
  clear h
  intro t36 e2 h
  replace hc : c0 + (cells2 + 1) = t36.2.2 ∧ t36.2.2 ≤ DC := jx_f4 (k := 1) e2 hc hb
  clear e2 hb
  refine je_dup C dX7_product_39 40 rfl rfl ?_
  refine je_iload_n C dX7_product_40 41 rfl 0 rfl ?_
  refine je_aloadR_n C dX7_product_41 42 rfl 2 rfl ?_
  refine je_aload_n C dX7_product_42 43 rfl 1 rfl ?_
  replace h := p_ob_inv h
  obtain ⟨V43, he, h⟩ := h
  replace h := p_ex_inv h
  rcases h with ⟨z9, hg, hz1, rfl⟩ | ⟨u43, hg, hz1, hz2, h⟩
  · exact jx_callV (As := []) (rest := [va_rf q1, .int x24, .ref (G.2.1 + b36), .ref (G.2.1 + b36)]) C ((hrc _ _ _).2.2.2.2.2.2 hg) he rfl hdX7_one rfl cwX7_259 rfl ⟨Nat.le_refl _, (show 8 + (2 + 11) + (175 + d * 23) ≤ 175 + (d + 1) * 23 from by omega)⟩ ⟨rfl, rfl⟩ hc (Nat.le_refl _) (by simp only [List.map_cons, List.map_nil, je_cat, List.sum_cons, List.sum_nil]; exact Nat.le_of_ble_eq_true rfl) hnt dX7_product_43 46 rfl hz1 (fun _ e9 => e9) (fun _ e9 => by cases e9)
  refine jx_callV (As := []) (rest := [va_rf q1, .int x24, .ref (G.2.1 + b36), .ref (G.2.1 + b36)]) C ((hrc _ _ _).2.2.2.2.2.2 hg) he rfl hdX7_one rfl cwX7_259 rfl ⟨Nat.le_refl _, (show 8 + (2 + 11) + (175 + d * 23) ≤ 175 + (d + 1) * 23 from by omega)⟩ ⟨rfl, rfl⟩ hc (Nat.le_refl _) (by simp only [List.map_cons, List.map_nil, je_cat, List.sum_cons, List.sum_nil]; exact Nat.le_of_ble_eq_true rfl) hnt dX7_product_43 46 rfl hz1 (fun _ e9 => by cases e9) (fun z9 e9 cells2 hc2 => ?_)
  cases e9
  refine je_ltq (x := u43.1) (st := [va_rf q1, .int x24, .ref (G.2.1 + b36), .ref (G.2.1 + b36)]) h ?_
  clear h
  intro x43 h
  refine jx_lt (t0 := u43.2) h ?_
  clear h
  intro t43 e2 h
  replace hc : c0 + cells2 = t43.2.2 ∧ t43.2.2 ≤ DC := jx_f7 e2 hc2 hz2
  clear e2 hc2 hz1 hz2 hg
  replace h := p_cl_inv h
  obtain ⟨u46, hg, h⟩ := h
  refine je_callI (As := [.int x24, va_rf q1, va_rf x43]) (rest := [.ref (G.2.1 + b36)]) C (hmX17_init hg) hdX17_init rfl ccX7_258 rfl ⟨(show 2 + 1 ≤ 8 + (d + 1) from by omega), (show 8 + (4 + 11) + 42 ≤ 175 + (d + 1) * 23 from by omega)⟩ ⟨jx_f1 (k := 0) hc hc.2, jx_f2 (k := 0) (n := 0) hc hc.2 (Nat.le_of_ble_eq_true rfl)⟩ (Nat.le_of_ble_eq_true rfl) dX7_product_46 49 rfl ?_
  refine je_widen (cells2) (64 * (cells2)) (Nat.le_refl _) (jx_f30 (Nat.le_of_ble_eq_true rfl)) ?_
  refine jx_lt (t0 := x_of u46 (t43.2.2 + 0)) h ?_
  clear h
  intro t46 e2 h
  replace hc : c0 + (cells2) = t46.2.2 ∧ t46.2.2 ≤ DC := jx_f80 (k := 0) e2 hc hc.2
  clear e2 hg
  refine je_astore_n C dX7_product_49 50 rfl (Nat.le_of_ble_eq_true rfl) [(1, .ref (G.2.1 + b36)), (2, .int x24), (0, .ref (G.2.1 + a0))] rfl ?_
  refine je_goto C 5 dX7_product_50 rfl ?_
  refine je_sub [2, 0] [(0, .ref (G.2.1 + a0)), (1, va_rf (some (G.2.1 + b36)))] rfl ?_
  exact hk5 t46 a0 (some (G.2.1 + b36)) cells2 hc h
set_option maxHeartbeats 4000000 in
theorem hwX7_product_5 {p : Program} {l : Launch} {e : Env} {s : State} {m : MethodId} {args : Array Value} {below : List Frame} {meth : Method} {c : Code} {G : je_G} {F : Nat} {rc : Nat → hS → Nat → Option ((Nat × hS) ⊕ (Option Nat × hS))} {d : Nat} {c0 : Nat} {r9 : (Nat × hS) ⊕ (Option Nat × hS)} (C : Cx p s m args meth c G "MinistryDesks$Reader" cX7_product 3 (some (.object "MinistryDesks$Node"))) (hnt : ∀ x ∈ c.exceptionTable.toList, False) (hrc : hgX7 l G d rc) : ∀ (n : Nat) (τ : hS) (a0 : Nat) (q1 : Option Nat) (cells : Nat) (hc : c0 + cells = τ.2.2 ∧ τ.2.2 ≤ DC), hbX7_product_5 G F rc n τ a0 q1 = some r9 → Js p l e ({ frames := (8 + (d + 1)), cells := DC - c0, slots := 64 * (DC - c0), locals := (175 + (d + 1) * 23) } : Room) s m args below meth c G 3 (xMQ below G (xO r9) args s c0) τ.1 (G.2.1 + τ.2.1) cells (64 * cells) 5 [(0, .ref (G.2.1 + a0)), (1, va_rf q1)] [] := by
  intro n
  induction n with
  | zero =>
    intro τ a0 q1 cells hc h
    cases h
  | succ n ih =>
    intro τ a0 q1 cells hc h
    rw [hbX7_product_5] at h
    refine je_aload_n C dX7_product_5 6 rfl 0 rfl ?_
    refine je_bipush C (42) dX7_product_6 8 rfl bp_42 ?_
    replace h := p_ob_inv h
    obtain ⟨V8, he, h⟩ := h
    replace h := p_cl_inv h
    obtain ⟨x8, hg, h⟩ := h
    refine je_callV (As := [.int (42 : Int32)]) (rest := []) (o := (some (.int x8))) C (hmX7_isSign hg) he rfl hdX7_isSign rfl cwX7_116 rfl ⟨(show 0 + 1 ≤ 8 + (d + 1) from by omega), (show 8 + (2 + 11) + 0 ≤ 175 + (d + 1) * 23 from by omega)⟩ ⟨jx_f1 (k := 0) hc hc.2, jx_f2 (k := 0) (n := 0) hc hc.2 (Nat.le_of_ble_eq_true rfl)⟩ (Nat.le_of_ble_eq_true rfl) dX7_product_8 11 rfl ?_
    refine je_widen (cells) (64 * (cells)) (Nat.le_refl _) (jx_f30 (Nat.le_of_ble_eq_true rfl)) ?_
    refine je_if_ne C 23 dX7_product_11 14 rfl rfl h ?_ ?_
    · clear h
      intro h
      exact hwX7_product_23 C hnt hrc ih τ a0 q1 cells hc h
    clear h
    intro h
    refine je_aload_n C dX7_product_14 15 rfl 0 rfl ?_
    refine je_bipush C (47) dX7_product_15 17 rfl bp_47 ?_
    replace h := p_ob_inv h
    obtain ⟨V17, he, h⟩ := h
    replace h := p_cl_inv h
    obtain ⟨x17, hg, h⟩ := h
    refine je_callV (As := [.int (47 : Int32)]) (rest := []) (o := (some (.int x17))) C (hmX7_isSign hg) he rfl hdX7_isSign rfl cwX7_116 rfl ⟨(show 0 + 1 ≤ 8 + (d + 1) from by omega), (show 8 + (2 + 11) + 0 ≤ 175 + (d + 1) * 23 from by omega)⟩ ⟨jx_f1 (k := 0) hc hc.2, jx_f2 (k := 0) (n := 0) hc hc.2 (Nat.le_of_ble_eq_true rfl)⟩ (Nat.le_of_ble_eq_true rfl) dX7_product_17 20 rfl ?_
    refine je_widen (cells) (64 * (cells)) (Nat.le_refl _) (jx_f30 (Nat.le_of_ble_eq_true rfl)) ?_
    refine je_if_eq C 53 dX7_product_20 23 rfl rfl h ?_ ?_
    · clear h
      intro h
      refine je_aloadR_n C dX7_product_53 54 rfl 1 rfl ?_
      cases h
      exact jx_ret hc.1 (Nat.le_refl _) (je_aret C dX7_product_54)
    clear h
    intro h
    exact hwX7_product_23 C hnt hrc ih τ a0 q1 cells hc h
set_option maxHeartbeats 4000000 in
theorem hmX7_product {l : Launch} {G : je_G} {F : Nat} {rc : Nat → hS → Nat → Option ((Nat × hS) ⊕ (Option Nat × hS))} {d : Nat} {τ : hS} {a0 : Nat} {r9 : (Nat × hS) ⊕ (Option Nat × hS)} (hrc : hgX7 l G d rc) (h : hX7_product G F rc τ a0 = some r9) : MetX l G yX7_product cX7_product 3 (some (.object "MinistryDesks$Node")) (8 + (d + 1)) (175 + (d + 1) * 23) [.ref (G.2.1 + a0)] τ (xO r9) := by
  by_cases hDC : τ.2.2 ≤ DC
  · refine jx_met "MinistryDesks$Reader" rfl (by decide +kernel) (Nat.le_of_ble_eq_true rfl) [(0, .ref (G.2.1 + a0))] rfl (fun p e s m args below meth c C hnt => ?_)
    have hc : τ.2.2 + 0 = τ.2.2 ∧ τ.2.2 ≤ DC := ⟨rfl, hDC⟩
    unfold hX7_product at h
    obtain ⟨-, h⟩ := p_pr_inv h
    refine je_widen 0 (64 * 0) (Nat.le_refl _) (Nat.le_refl _) ?_
    refine je_aload_n C dX7_product_0 1 rfl 0 rfl ?_
    replace h := p_ob_inv h
    obtain ⟨V1, he, h⟩ := h
    replace h := p_ex_inv h
    rcases h with ⟨z9, hg, hz1, rfl⟩ | ⟨u1, hg, hz1, hz2, h⟩
    · exact jx_callV (As := []) (rest := []) C ((hrc _ _ _).2.2.2.2.2.2 hg) he rfl hdX7_one rfl cwX7_259 rfl ⟨Nat.le_refl _, (show 8 + (2 + 11) + (175 + d * 23) ≤ 175 + (d + 1) * 23 from by omega)⟩ ⟨rfl, rfl⟩ hc (Nat.le_refl _) (Nat.le_of_ble_eq_true rfl) hnt dX7_product_1 4 rfl hz1 (fun _ e9 => e9) (fun _ e9 => by cases e9)
    refine jx_callV (As := []) (rest := []) C ((hrc _ _ _).2.2.2.2.2.2 hg) he rfl hdX7_one rfl cwX7_259 rfl ⟨Nat.le_refl _, (show 8 + (2 + 11) + (175 + d * 23) ≤ 175 + (d + 1) * 23 from by omega)⟩ ⟨rfl, rfl⟩ hc (Nat.le_refl _) (Nat.le_of_ble_eq_true rfl) hnt dX7_product_1 4 rfl hz1 (fun _ e9 => by cases e9) (fun z9 e9 cells2 hc2 => ?_)
    cases e9
    refine je_ltq (x := u1.1) (st := []) h ?_
    clear h
    intro x1 h
    refine jx_lt (t0 := u1.2) h ?_
    clear h
    intro t1 e2 h
    replace hc : τ.2.2 + cells2 = t1.2.2 ∧ t1.2.2 ≤ DC := jx_f7 e2 hc2 hz2
    clear e2 hc2 hz1 hz2 hg
    refine je_astoreR_n C dX7_product_4 5 rfl (Nat.le_of_ble_eq_true rfl) [(1, va_rf x1), (0, .ref (G.2.1 + a0))] rfl ?_
    refine je_sub [1, 0] [(0, .ref (G.2.1 + a0)), (1, va_rf x1)] rfl ?_
    exact hwX7_product_5 C hnt hrc F t1 a0 x1 cells2 hc h
  · unfold hX7_product at h
    exact absurd (p_pr_inv h).1 hDC
theorem hdX14_init : je_hd yX14_init 1 := ⟨by decide +kernel, by decide +kernel, by decide +kernel⟩
theorem hdX15_init : je_hd yX15_init 1 := ⟨by decide +kernel, by decide +kernel, by decide +kernel⟩
theorem hdX7_number : je_hd yX7_number 2 := ⟨by decide +kernel, by decide +kernel, by decide +kernel⟩
theorem hdX7_or : je_hd yX7_or 0 := ⟨by decide +kernel, by decide +kernel, by decide +kernel⟩
theorem ccX7_267 : Cond.methodLinkNest "MinistryDesks$Reader" 267 yX14_init "MinistryDesks" ∈ lw_tbl ∧ Cond.instanceMethod yX14_init ∈ lw_all ∧ Cond.initialized yX14_init.cls ∈ lw_all ∧ Cond.code yX14_init cX14_init 2 none ∈ lw_all := ⟨q1071, q1072, q190, q1073⟩
theorem ccX7_272 : Cond.methodLinkNest "MinistryDesks$Reader" 272 yX15_init "MinistryDesks" ∈ lw_tbl ∧ Cond.instanceMethod yX15_init ∈ lw_all ∧ Cond.initialized yX15_init.cls ∈ lw_all ∧ Cond.code yX15_init cX15_init 3 none ∈ lw_all := ⟨q1081, q1082, q191, q1083⟩
theorem cwX7_141 : GoodIn lw_all (wsV "MinistryDesks$Reader" 141 "MinistryDesks$Reader" yX7_number (ws_ yX7_number cX7_number 4 (some .int))) := lw_V q842 q844 qs16 q170 q845
theorem cwX7_205 : GoodIn lw_all (wsV "MinistryDesks$Reader" 205 "MinistryDesks$Reader" yX7_or (ws_ yX7_or cX7_or 2 (some (.object "MinistryDesks$Node")))) := lw_V q1033 q1035 qs22 q170 q1036
set_option maxHeartbeats 4000000 in
theorem hwX7_one_147 {p : Program} {l : Launch} {e : Env} {s : State} {m : MethodId} {args : Array Value} {below : List Frame} {meth : Method} {c : Code} {G : je_G} {F : Nat} {rc : Nat → hS → Nat → Option ((Nat × hS) ⊕ (Option Nat × hS))} {d : Nat} {c0 : Nat} {r9 : (Nat × hS) ⊕ (Option Nat × hS)} (C : Cx p s m args meth c G "MinistryDesks$Reader" cX7_one 2 (some (.object "MinistryDesks$Node"))) (hnt : ∀ x ∈ c.exceptionTable.toList, False) (hrc : hgX7 l G d rc) (τ : hS) (a0 : Nat) (s0 : Int32) (s1 : Nat) (cells : Nat) (hc : c0 + cells = τ.2.2 ∧ τ.2.2 ≤ DC) (h : hbX7_one_147 G F rc τ a0 s0 s1 = some r9) : Js p l e ({ frames := (8 + (d + 1)), cells := DC - c0, slots := 64 * (DC - c0), locals := (175 + (d + 1) * 23) } : Room) s m args below meth c G 2 (xMQ below G (xO r9) args s c0) τ.1 (G.2.1 + τ.2.1) cells (64 * cells) 147 [(0, .ref (G.2.1 + a0))] [.int s0, .ref (G.2.1 + s1)] := by
  unfold hbX7_one_147 at h
  replace h := p_ob_inv h
  obtain ⟨V147, he, h⟩ := h
  replace h := p_ex_inv h
  rcases h with ⟨z9, hg, hz1, rfl⟩ | ⟨u147, hg, hz1, hz2, h⟩
  · exact jx_callV (As := [.int s0]) (rest := []) C (hmX7_much hg) he rfl hdX7_much rfl cwX7_103 rfl ⟨(show 4 + 1 ≤ 8 + (d + 1) from by omega), (show 8 + (2 + 11) + 90 ≤ 175 + (d + 1) * 23 from by omega)⟩ ⟨rfl, rfl⟩ hc (Nat.le_refl _) (Nat.le_of_ble_eq_true rfl) hnt dX7_one_147 150 rfl hz1 (fun _ e9 => e9) (fun _ e9 => by cases e9)
  refine jx_callV (As := [.int s0]) (rest := []) C (hmX7_much hg) he rfl hdX7_much rfl cwX7_103 rfl ⟨(show 4 + 1 ≤ 8 + (d + 1) from by omega), (show 8 + (2 + 11) + 90 ≤ 175 + (d + 1) * 23 from by omega)⟩ ⟨rfl, rfl⟩ hc (Nat.le_refl _) (Nat.le_of_ble_eq_true rfl) hnt dX7_one_147 150 rfl hz1 (fun _ e9 => by cases e9) (fun z9 e9 cells2 hc2 => ?_)
  cases e9
  refine jx_lt (t0 := u147.2) h ?_
  clear h
  intro t147 e2 h
  replace hc : c0 + cells2 = t147.2.2 ∧ t147.2.2 ≤ DC := jx_f7 e2 hc2 hz2
  clear e2 hc2 hz1 hz2 hg
  refine je_aload_n C dX7_one_150 151 rfl 0 rfl ?_
  replace h := p_ob_inv h
  obtain ⟨V151, he, h⟩ := h
  replace h := p_ex_inv h
  rcases h with ⟨z9, hg, hz1, rfl⟩ | ⟨u151, hg, hz1, hz2, h⟩
  · exact jx_callV (As := []) (rest := []) C (hmX7_knot hg) he rfl hdX7_knot rfl cwX7_226 rfl ⟨(show 5 + 1 ≤ 8 + (d + 1) from by omega), (show 8 + (1 + 11) + 111 ≤ 175 + (d + 1) * 23 from by omega)⟩ ⟨rfl, rfl⟩ hc (Nat.le_refl _) (Nat.le_of_ble_eq_true rfl) hnt dX7_one_151 154 rfl hz1 (fun _ e9 => e9) (fun _ e9 => by cases e9)
  refine jx_callV (As := []) (rest := []) C (hmX7_knot hg) he rfl hdX7_knot rfl cwX7_226 rfl ⟨(show 5 + 1 ≤ 8 + (d + 1) from by omega), (show 8 + (1 + 11) + 111 ≤ 175 + (d + 1) * 23 from by omega)⟩ ⟨rfl, rfl⟩ hc (Nat.le_refl _) (Nat.le_of_ble_eq_true rfl) hnt dX7_one_151 154 rfl hz1 (fun _ e9 => by cases e9) (fun z9 e9 cells2 hc2 => ?_)
  cases e9
  refine jx_lt (t0 := u151.2) h ?_
  clear h
  intro t151 e2 h
  replace hc : c0 + cells2 = t151.2.2 ∧ t151.2.2 ≤ DC := jx_f7 e2 hc2 hz2
  clear e2 hc2 hz1 hz2 hg
  replace h := p_pr_inv h
  obtain ⟨hb, h⟩ := h
  refine je_new C (ci := 12) rfl in_X15 tyX15 tyX15_ok q1079 q1080 q191 rfl (jx_f1 (k := 1) hc hb) (jx_f2 (k := 1) (n := 1) hc hb (Nat.le_of_ble_eq_true rfl)) dX7_one_154 157 rfl ?_
  refine je_widen (cells2 + 1) (64 * (cells2 + 1)) (Nat.le_refl _) (jx_f3 (Nat.le_of_ble_eq_true rfl)) ?_
  refine je_ltr h ?_
  clear h
  intro b154 h
  refine jx_lt h ?_
  clear h
  intro t154 e2 h
  replace hc : c0 + (cells2 + 1) = t154.2.2 ∧ t154.2.2 ≤ DC := jx_f4 (k := 1) e2 hc hb
  clear e2 hb
  refine je_dup C dX7_one_157 158 rfl rfl ?_
  refine je_aload_n C dX7_one_158 159 rfl 0 rfl ?_
  refine je_iconst C (0) dX7_one_159 160 rfl ic_0 ?_
  refine je_sipush C (9999) dX7_one_160 163 rfl sp_9999 ?_
  replace h := p_ob_inv h
  obtain ⟨V163, he, h⟩ := h
  replace h := p_ex_inv h
  rcases h with ⟨z9, hg, hz1, rfl⟩ | ⟨u163, hg, hz1, hz2, h⟩
  · exact jx_callV (As := [.int (0 : Int32), .int (9999 : Int32)]) (rest := [.ref (G.2.1 + b154), .ref (G.2.1 + b154)]) C (hmX7_number hg) he rfl hdX7_number rfl cwX7_141 rfl ⟨(show 7 + 1 ≤ 8 + (d + 1) from by omega), (show 8 + (4 + 11) + 152 ≤ 175 + (d + 1) * 23 from by omega)⟩ ⟨rfl, rfl⟩ hc (Nat.le_refl _) (Nat.le_of_ble_eq_true rfl) hnt dX7_one_163 166 rfl hz1 (fun _ e9 => e9) (fun _ e9 => by cases e9)
  refine jx_callV (As := [.int (0 : Int32), .int (9999 : Int32)]) (rest := [.ref (G.2.1 + b154), .ref (G.2.1 + b154)]) C (hmX7_number hg) he rfl hdX7_number rfl cwX7_141 rfl ⟨(show 7 + 1 ≤ 8 + (d + 1) from by omega), (show 8 + (4 + 11) + 152 ≤ 175 + (d + 1) * 23 from by omega)⟩ ⟨rfl, rfl⟩ hc (Nat.le_refl _) (Nat.le_of_ble_eq_true rfl) hnt dX7_one_163 166 rfl hz1 (fun _ e9 => by cases e9) (fun z9 e9 cells2 hc2 => ?_)
  cases e9
  refine je_lti (x := u163.1) (st := [.ref (G.2.1 + b154), .ref (G.2.1 + b154)]) h ?_
  clear h
  intro x163 h
  refine jx_lt (t0 := u163.2) h ?_
  clear h
  intro t163 e2 h
  replace hc : c0 + cells2 = t163.2.2 ∧ t163.2.2 ≤ DC := jx_f7 e2 hc2 hz2
  clear e2 hc2 hz1 hz2 hg
  refine je_i2l C dX7_one_166 167 rfl ?_
  replace h := p_cl_inv h
  obtain ⟨u167, hg, h⟩ := h
  refine je_callIN (As := [.long x163.toInt64]) (rest := [.ref (G.2.1 + b154)]) C (hmX15_init hg) hdX15_init rfl ccX7_272 rfl ⟨(show 2 + 1 ≤ 8 + (d + 1) from by omega), (show 8 + (3 + 11) + 40 ≤ 175 + (d + 1) * 23 from by omega)⟩ ⟨jx_f1 (k := 0) hc hc.2, jx_f2 (k := 0) (n := 0) hc hc.2 (Nat.le_of_ble_eq_true rfl)⟩ (Nat.le_of_ble_eq_true rfl) dX7_one_167 170 rfl ?_
  refine je_widen (cells2) (64 * (cells2)) (Nat.le_refl _) (jx_f30 (Nat.le_of_ble_eq_true rfl)) ?_
  refine jx_lt (t0 := x_of u167 (t163.2.2 + 0)) h ?_
  clear h
  intro t167 e2 h
  replace hc : c0 + (cells2) = t167.2.2 ∧ t167.2.2 ≤ DC := jx_f80 (k := 0) e2 hc hc.2
  clear e2 hg
  cases h
  exact jx_ret hc.1 (Nat.le_refl _) (je_aret (x := (some (G.2.1 + b154))) C dX7_one_170)
set_option maxHeartbeats 4000000 in
theorem hwX7_one_118 {p : Program} {l : Launch} {e : Env} {s : State} {m : MethodId} {args : Array Value} {below : List Frame} {meth : Method} {c : Code} {G : je_G} {F : Nat} {rc : Nat → hS → Nat → Option ((Nat × hS) ⊕ (Option Nat × hS))} {d : Nat} {c0 : Nat} {r9 : (Nat × hS) ⊕ (Option Nat × hS)} (C : Cx p s m args meth c G "MinistryDesks$Reader" cX7_one 2 (some (.object "MinistryDesks$Node"))) (hnt : ∀ x ∈ c.exceptionTable.toList, False) (hrc : hgX7 l G d rc) (τ : hS) (a0 : Nat) (cells : Nat) (hc : c0 + cells = τ.2.2 ∧ τ.2.2 ≤ DC) (h : hbX7_one_118 G F rc τ a0 = some r9) : Js p l e ({ frames := (8 + (d + 1)), cells := DC - c0, slots := 64 * (DC - c0), locals := (175 + (d + 1) * 23) } : Room) s m args below meth c G 2 (xMQ below G (xO r9) args s c0) τ.1 (G.2.1 + τ.2.1) cells (64 * cells) 118 [(0, .ref (G.2.1 + a0))] [] := by
  unfold hbX7_one_118 at h
  refine je_aload_n C dX7_one_118 119 rfl 0 rfl ?_
  replace h := p_ob_inv h
  obtain ⟨V119, he, h⟩ := h
  replace h := p_vi_inv h
  obtain ⟨x119, hv, h⟩ := h
  refine je_get (k := 3) C he rfl in_X7 (by decide) q554 rfl dX7_one_119 122 rfl hv ?_
  refine je_iconst C (3) dX7_one_122 123 rfl ic_3 ?_
  refine je_icmp_eq C 131 dX7_one_123 126 rfl rfl h ?_ ?_
  · clear h
    intro h
    refine je_aload_n C dX7_one_131 132 rfl 0 rfl ?_
    refine je_aload_n C dX7_one_132 133 rfl 0 rfl ?_
    replace h := p_ob_inv h
    obtain ⟨V133, he, h⟩ := h
    replace h := p_vi_inv h
    obtain ⟨x133, hv, h⟩ := h
    refine je_get (k := 4) C he rfl in_X7 (by decide) q555 rfl dX7_one_133 136 rfl hv ?_
    refine je_sipush C (9999) dX7_one_136 139 rfl sp_9999 ?_
    refine je_icmp_le C 146 dX7_one_139 142 rfl rfl h ?_ ?_
    · clear h
      intro h
      refine je_iconst C (0) dX7_one_146 147 rfl ic_0 ?_
      exact hwX7_one_147 C hnt hrc τ a0 (0 : Int32) a0 cells hc h
    clear h
    intro h
    refine je_iconst C (1) dX7_one_142 143 rfl ic_1 ?_
    refine je_goto C 147 dX7_one_143 rfl ?_
    exact hwX7_one_147 C hnt hrc τ a0 (1 : Int32) a0 cells hc h
  clear h
  intro h
  refine je_aload_n C dX7_one_126 127 rfl 0 rfl ?_
  replace h := p_ob_inv h
  obtain ⟨V127, he, h⟩ := h
  replace h := p_pr_inv h
  obtain ⟨hb, h⟩ := h
  replace h := p_cl_inv h
  obtain ⟨u127, hg, h⟩ := h
  refine je_callV (As := []) (rest := []) (o := (some (va_rf u127.1))) C (hmX7_wrong hg) he rfl hdX7_wrong rfl cwX7_99 rfl ⟨(show 4 + 1 ≤ 8 + (d + 1) from by omega), (show 8 + (1 + 11) + 90 ≤ 175 + (d + 1) * 23 from by omega)⟩ ⟨jx_f1 (k := 1) hc hb, jx_f2 (k := 1) (n := 8) hc hb (Nat.le_of_ble_eq_true rfl)⟩ (Nat.le_of_ble_eq_true rfl) dX7_one_127 130 rfl ?_
  refine je_widen (cells + 1) (64 * (cells + 1)) (Nat.le_refl _) (jx_f3 (Nat.le_of_ble_eq_true rfl)) ?_
  refine je_ltq (x := u127.1) (st := []) h ?_
  clear h
  intro x127 h
  refine jx_lt (t0 := x_of u127.2 (τ.2.2 + 1)) h ?_
  clear h
  intro t127 e2 h
  replace hc : c0 + (cells + 1) = t127.2.2 ∧ t127.2.2 ≤ DC := jx_f8 (k := 1) e2 hc hb
  clear e2 hg hb
  obtain ⟨j130, hj9, h8⟩ := p_at_inv h
  clear h
  subst hj9
  have h := h8
  clear h8
  replace h := p_ob_inv h
  obtain ⟨V130, he, h⟩ := h
  cases h
  exact jx_athrow C hnt he rfl hc.1 (Nat.le_refl _) dX7_one_130
set_option maxHeartbeats 4000000 in
theorem hwX7_one_24 {p : Program} {l : Launch} {e : Env} {s : State} {m : MethodId} {args : Array Value} {below : List Frame} {meth : Method} {c : Code} {G : je_G} {F : Nat} {rc : Nat → hS → Nat → Option ((Nat × hS) ⊕ (Option Nat × hS))} {d : Nat} {c0 : Nat} {r9 : (Nat × hS) ⊕ (Option Nat × hS)} (C : Cx p s m args meth c G "MinistryDesks$Reader" cX7_one 2 (some (.object "MinistryDesks$Node"))) (hnt : ∀ x ∈ c.exceptionTable.toList, False) (hrc : hgX7 l G d rc) (τ : hS) (a0 : Nat) (s0 : Int32) (s1 : Nat) (cells : Nat) (hc : c0 + cells = τ.2.2 ∧ τ.2.2 ≤ DC) (h : hbX7_one_24 G F rc τ a0 s0 s1 = some r9) : Js p l e ({ frames := (8 + (d + 1)), cells := DC - c0, slots := 64 * (DC - c0), locals := (175 + (d + 1) * 23) } : Room) s m args below meth c G 2 (xMQ below G (xO r9) args s c0) τ.1 (G.2.1 + τ.2.1) cells (64 * cells) 24 [(0, .ref (G.2.1 + a0))] [.int s0, .ref (G.2.1 + s1)] := by
  unfold hbX7_one_24 at h
  replace h := p_ob_inv h
  obtain ⟨V24, he, h⟩ := h
  replace h := p_ex_inv h
  rcases h with ⟨z9, hg, hz1, rfl⟩ | ⟨u24, hg, hz1, hz2, h⟩
  · exact jx_callV (As := [.int s0]) (rest := []) C (hmX7_much hg) he rfl hdX7_much rfl cwX7_103 rfl ⟨(show 4 + 1 ≤ 8 + (d + 1) from by omega), (show 8 + (2 + 11) + 90 ≤ 175 + (d + 1) * 23 from by omega)⟩ ⟨rfl, rfl⟩ hc (Nat.le_refl _) (Nat.le_of_ble_eq_true rfl) hnt dX7_one_24 27 rfl hz1 (fun _ e9 => e9) (fun _ e9 => by cases e9)
  refine jx_callV (As := [.int s0]) (rest := []) C (hmX7_much hg) he rfl hdX7_much rfl cwX7_103 rfl ⟨(show 4 + 1 ≤ 8 + (d + 1) from by omega), (show 8 + (2 + 11) + 90 ≤ 175 + (d + 1) * 23 from by omega)⟩ ⟨rfl, rfl⟩ hc (Nat.le_refl _) (Nat.le_of_ble_eq_true rfl) hnt dX7_one_24 27 rfl hz1 (fun _ e9 => by cases e9) (fun z9 e9 cells2 hc2 => ?_)
  cases e9
  refine jx_lt (t0 := u24.2) h ?_
  clear h
  intro t24 e2 h
  replace hc : c0 + cells2 = t24.2.2 ∧ t24.2.2 ≤ DC := jx_f7 e2 hc2 hz2
  clear e2 hc2 hz1 hz2 hg
  refine je_aload_n C dX7_one_27 28 rfl 0 rfl ?_
  refine je_dup C dX7_one_28 29 rfl rfl ?_
  replace h := p_ob_inv h
  obtain ⟨V29, he, h⟩ := h
  replace h := p_vi_inv h
  obtain ⟨x29, hv, h⟩ := h
  refine je_get (k := 6) C he rfl in_X7 (by decide) q557 rfl dX7_one_29 32 rfl hv ?_
  refine je_iconst C (1) dX7_one_32 33 rfl ic_1 ?_
  refine je_iadd C dX7_one_33 34 rfl ?_
  replace h := p_ob_inv h
  obtain ⟨V34, he, h⟩ := h
  refine je_put (k := 6) (v := .int (x29 + (1 : Int32))) C he rfl in_X7 tyX7 tyX7_ok nmX7 (by decide) q557 rfl rfl rfl rfl dX7_one_34 37 rfl ?_
  refine jx_lt h ?_
  clear h
  intro t34 e2 h
  replace hc : c0 + cells2 = t34.2.2 ∧ t34.2.2 ≤ DC := jx_f0 e2 hc
  clear e2
  refine je_aload_n C dX7_one_37 38 rfl 0 rfl ?_
  replace h := p_ob_inv h
  obtain ⟨V38, he, h⟩ := h
  replace h := p_cl_inv h
  obtain ⟨u38, hg, h⟩ := h
  refine je_callV (As := []) (rest := []) (o := none) C (hmX7_take hg) he rfl hdX7_take rfl cwX7_107 rfl ⟨(show 6 + 1 ≤ 8 + (d + 1) from by omega), (show 8 + (1 + 11) + 132 ≤ 175 + (d + 1) * 23 from by omega)⟩ ⟨jx_f1 (k := 0) hc hc.2, jx_f2 (k := 0) (n := 0) hc hc.2 (Nat.le_of_ble_eq_true rfl)⟩ (Nat.le_of_ble_eq_true rfl) dX7_one_38 41 rfl ?_
  refine je_widen (cells2) (64 * (cells2)) (Nat.le_refl _) (jx_f30 (Nat.le_of_ble_eq_true rfl)) ?_
  refine jx_lt (t0 := x_of u38 (t34.2.2 + 0)) h ?_
  clear h
  intro t38 e2 h
  replace hc : c0 + (cells2) = t38.2.2 ∧ t38.2.2 ≤ DC := jx_f80 (k := 0) e2 hc hc.2
  clear e2 hg
  refine je_aload_n C dX7_one_41 42 rfl 0 rfl ?_
  replace h := p_ob_inv h
  obtain ⟨V42, he, h⟩ := h
  replace h := p_ex_inv h
  rcases h with ⟨z9, hg, hz1, rfl⟩ | ⟨u42, hg, hz1, hz2, h⟩
  · exact jx_callV (As := []) (rest := []) C ((hrc _ _ _).1 hg) he rfl hdX7_or rfl cwX7_205 rfl ⟨Nat.le_refl _, (show 8 + (2 + 11) + (175 + d * 23) ≤ 175 + (d + 1) * 23 from by omega)⟩ ⟨rfl, rfl⟩ hc (Nat.le_refl _) (Nat.le_of_ble_eq_true rfl) hnt dX7_one_42 45 rfl hz1 (fun _ e9 => e9) (fun _ e9 => by cases e9)
  refine jx_callV (As := []) (rest := []) C ((hrc _ _ _).1 hg) he rfl hdX7_or rfl cwX7_205 rfl ⟨Nat.le_refl _, (show 8 + (2 + 11) + (175 + d * 23) ≤ 175 + (d + 1) * 23 from by omega)⟩ ⟨rfl, rfl⟩ hc (Nat.le_refl _) (Nat.le_of_ble_eq_true rfl) hnt dX7_one_42 45 rfl hz1 (fun _ e9 => by cases e9) (fun z9 e9 cells2 hc2 => ?_)
  cases e9
  refine je_ltq (x := u42.1) (st := []) h ?_
  clear h
  intro x42 h
  refine jx_lt (t0 := u42.2) h ?_
  clear h
  intro t42 e2 h
  replace hc : c0 + cells2 = t42.2.2 ∧ t42.2.2 ≤ DC := jx_f7 e2 hc2 hz2
  clear e2 hc2 hz1 hz2 hg
  refine je_astoreR_n C dX7_one_45 46 rfl (Nat.le_of_ble_eq_true rfl) [(1, va_rf x42), (0, .ref (G.2.1 + a0))] rfl ?_
  refine je_aload_n C dX7_one_46 47 rfl 1 rfl ?_
  refine je_bipush C (41) dX7_one_47 49 rfl bp_41 ?_
  replace h := p_ob_inv h
  obtain ⟨V49, he, h⟩ := h
  replace h := p_cl_inv h
  obtain ⟨x49, hg, h⟩ := h
  refine je_callV (As := [.int (41 : Int32)]) (rest := []) (o := (some (.int x49))) C (hmX7_isSign hg) he rfl hdX7_isSign rfl cwX7_116 rfl ⟨(show 0 + 1 ≤ 8 + (d + 1) from by omega), (show 8 + (2 + 11) + 0 ≤ 175 + (d + 1) * 23 from by omega)⟩ ⟨jx_f1 (k := 0) hc hc.2, jx_f2 (k := 0) (n := 0) hc hc.2 (Nat.le_of_ble_eq_true rfl)⟩ (Nat.le_of_ble_eq_true rfl) dX7_one_49 52 rfl ?_
  refine je_widen (cells2) (64 * (cells2)) (Nat.le_refl _) (jx_f30 (Nat.le_of_ble_eq_true rfl)) ?_
  refine je_if_ne C 60 dX7_one_52 55 rfl rfl h ?_ ?_
  · clear h
    intro h
    refine je_aload_n C dX7_one_60 61 rfl 1 rfl ?_
    refine je_dup C dX7_one_61 62 rfl rfl ?_
    replace h := p_ob_inv h
    obtain ⟨V62, he, h⟩ := h
    replace h := p_vi_inv h
    obtain ⟨x62, hv, h⟩ := h
    refine je_get (k := 6) C he rfl in_X7 (by decide) q557 rfl dX7_one_62 65 rfl hv ?_
    refine je_iconst C (1) dX7_one_65 66 rfl ic_1 ?_
    refine je_isub C dX7_one_66 67 rfl ?_
    replace h := p_ob_inv h
    obtain ⟨V67, he, h⟩ := h
    refine je_put (k := 6) (v := .int (x62 - (1 : Int32))) C he rfl in_X7 tyX7 tyX7_ok nmX7 (by decide) q557 rfl rfl rfl rfl dX7_one_67 70 rfl ?_
    refine jx_lt h ?_
    clear h
    intro t67 e2 h
    replace hc : c0 + cells2 = t67.2.2 ∧ t67.2.2 ≤ DC := jx_f0 e2 hc
    clear e2
    refine je_aload_n C dX7_one_70 71 rfl 1 rfl ?_
    replace h := p_ob_inv h
    obtain ⟨V71, he, h⟩ := h
    replace h := p_cl_inv h
    obtain ⟨u71, hg, h⟩ := h
    refine je_callV (As := []) (rest := []) (o := none) C (hmX7_take hg) he rfl hdX7_take rfl cwX7_107 rfl ⟨(show 6 + 1 ≤ 8 + (d + 1) from by omega), (show 8 + (1 + 11) + 132 ≤ 175 + (d + 1) * 23 from by omega)⟩ ⟨jx_f1 (k := 0) hc hc.2, jx_f2 (k := 0) (n := 0) hc hc.2 (Nat.le_of_ble_eq_true rfl)⟩ (Nat.le_of_ble_eq_true rfl) dX7_one_71 74 rfl ?_
    refine je_widen (cells2) (64 * (cells2)) (Nat.le_refl _) (jx_f30 (Nat.le_of_ble_eq_true rfl)) ?_
    refine jx_lt (t0 := x_of u71 (t67.2.2 + 0)) h ?_
    clear h
    intro t71 e2 h
    replace hc : c0 + (cells2) = t71.2.2 ∧ t71.2.2 ≤ DC := jx_f80 (k := 0) e2 hc hc.2
    clear e2 hg
    refine je_aloadR_n C dX7_one_74 75 rfl 0 rfl ?_
    cases h
    exact jx_ret hc.1 (Nat.le_refl _) (je_aret C dX7_one_75)
  clear h
  intro h
  refine je_aload_n C dX7_one_55 56 rfl 1 rfl ?_
  replace h := p_ob_inv h
  obtain ⟨V56, he, h⟩ := h
  replace h := p_pr_inv h
  obtain ⟨hb, h⟩ := h
  replace h := p_cl_inv h
  obtain ⟨u56, hg, h⟩ := h
  refine je_callV (As := []) (rest := []) (o := (some (va_rf u56.1))) C (hmX7_wrong hg) he rfl hdX7_wrong rfl cwX7_99 rfl ⟨(show 4 + 1 ≤ 8 + (d + 1) from by omega), (show 8 + (1 + 11) + 90 ≤ 175 + (d + 1) * 23 from by omega)⟩ ⟨jx_f1 (k := 1) hc hb, jx_f2 (k := 1) (n := 8) hc hb (Nat.le_of_ble_eq_true rfl)⟩ (Nat.le_of_ble_eq_true rfl) dX7_one_56 59 rfl ?_
  refine je_widen (cells2 + 1) (64 * (cells2 + 1)) (Nat.le_refl _) (jx_f3 (Nat.le_of_ble_eq_true rfl)) ?_
  refine je_ltq (x := u56.1) (st := []) h ?_
  clear h
  intro x56 h
  refine jx_lt (t0 := x_of u56.2 (t42.2.2 + 1)) h ?_
  clear h
  intro t56 e2 h
  replace hc : c0 + (cells2 + 1) = t56.2.2 ∧ t56.2.2 ≤ DC := jx_f8 (k := 1) e2 hc hb
  clear e2 hg hb
  obtain ⟨j59, hj9, h8⟩ := p_at_inv h
  clear h
  subst hj9
  have h := h8
  clear h8
  replace h := p_ob_inv h
  obtain ⟨V59, he, h⟩ := h
  cases h
  exact jx_athrow C hnt he rfl hc.1 (Nat.le_refl _) dX7_one_59
set_option maxHeartbeats 4000000 in
theorem hmX7_one {l : Launch} {G : je_G} {F : Nat} {rc : Nat → hS → Nat → Option ((Nat × hS) ⊕ (Option Nat × hS))} {d : Nat} {τ : hS} {a0 : Nat} {r9 : (Nat × hS) ⊕ (Option Nat × hS)} (hrc : hgX7 l G d rc) (h : hX7_one G F rc τ a0 = some r9) : MetX l G yX7_one cX7_one 2 (some (.object "MinistryDesks$Node")) (8 + (d + 1)) (175 + (d + 1) * 23) [.ref (G.2.1 + a0)] τ (xO r9) := by
  by_cases hDC : τ.2.2 ≤ DC
  · refine jx_met "MinistryDesks$Reader" rfl (by decide +kernel) (Nat.le_of_ble_eq_true rfl) [(0, .ref (G.2.1 + a0))] rfl (fun p e s m args below meth c C hnt => ?_)
    have hc : τ.2.2 + 0 = τ.2.2 ∧ τ.2.2 ≤ DC := ⟨rfl, hDC⟩
    unfold hX7_one at h
    obtain ⟨-, h⟩ := p_pr_inv h
    refine je_widen 0 (64 * 0) (Nat.le_refl _) (Nat.le_refl _) ?_
    refine je_aload_n C dX7_one_0 1 rfl 0 rfl ?_
    refine je_bipush C (40) dX7_one_1 3 rfl bp_40 ?_
    replace h := p_ob_inv h
    obtain ⟨V3, he, h⟩ := h
    replace h := p_cl_inv h
    obtain ⟨x3, hg, h⟩ := h
    refine je_callV (As := [.int (40 : Int32)]) (rest := []) (o := (some (.int x3))) C (hmX7_isSign hg) he rfl hdX7_isSign rfl cwX7_116 rfl ⟨(show 0 + 1 ≤ 8 + (d + 1) from by omega), (show 8 + (2 + 11) + 0 ≤ 175 + (d + 1) * 23 from by omega)⟩ ⟨jx_f1 (k := 0) hc hc.2, jx_f2 (k := 0) (n := 0) hc hc.2 (Nat.le_of_ble_eq_true rfl)⟩ (Nat.le_of_ble_eq_true rfl) dX7_one_3 6 rfl ?_
    refine je_widen (0) (64 * (0)) (Nat.le_refl _) (jx_f30 (Nat.le_of_ble_eq_true rfl)) ?_
    refine je_if_eq C 76 dX7_one_6 9 rfl rfl h ?_ ?_
    · clear h
      intro h
      refine je_aload_n C dX7_one_76 77 rfl 0 rfl ?_
      replace h := p_ob_inv h
      obtain ⟨V77, he, h⟩ := h
      replace h := p_vi_inv h
      obtain ⟨x77, hv, h⟩ := h
      refine je_get (k := 3) C he rfl in_X7 (by decide) q554 rfl dX7_one_77 80 rfl hv ?_
      refine je_iconst C (1) dX7_one_80 81 rfl ic_1 ?_
      refine je_icmp_ne C 118 dX7_one_81 84 rfl rfl h ?_ ?_
      · clear h
        intro h
        exact hwX7_one_118 C hnt hrc τ a0 0 hc h
      clear h
      intro h
      refine je_aload_n C dX7_one_84 85 rfl 0 rfl ?_
      replace h := p_ob_inv h
      obtain ⟨V85, he, h⟩ := h
      replace h := p_vi_inv h
      obtain ⟨x85, hv, h⟩ := h
      refine je_get (k := 4) C he rfl in_X7 (by decide) q555 rfl dX7_one_85 88 rfl hv ?_
      refine je_bipush C (14) dX7_one_88 90 rfl bp_14 ?_
      refine je_icmp_lt C 118 dX7_one_90 93 rfl rfl h ?_ ?_
      · clear h
        intro h
        exact hwX7_one_118 C hnt hrc τ a0 0 hc h
      clear h
      intro h
      refine je_aload_n C dX7_one_93 94 rfl 0 rfl ?_
      replace h := p_ob_inv h
      obtain ⟨V94, he, h⟩ := h
      replace h := p_ex_inv h
      rcases h with ⟨z9, hg, hz1, rfl⟩ | ⟨u94, hg, hz1, hz2, h⟩
      · exact jx_callV (As := []) (rest := []) C (hmX7_knot hg) he rfl hdX7_knot rfl cwX7_226 rfl ⟨(show 5 + 1 ≤ 8 + (d + 1) from by omega), (show 8 + (1 + 11) + 111 ≤ 175 + (d + 1) * 23 from by omega)⟩ ⟨rfl, rfl⟩ hc (Nat.le_refl _) (Nat.le_of_ble_eq_true rfl) hnt dX7_one_94 97 rfl hz1 (fun _ e9 => e9) (fun _ e9 => by cases e9)
      refine jx_callV (As := []) (rest := []) C (hmX7_knot hg) he rfl hdX7_knot rfl cwX7_226 rfl ⟨(show 5 + 1 ≤ 8 + (d + 1) from by omega), (show 8 + (1 + 11) + 111 ≤ 175 + (d + 1) * 23 from by omega)⟩ ⟨rfl, rfl⟩ hc (Nat.le_refl _) (Nat.le_of_ble_eq_true rfl) hnt dX7_one_94 97 rfl hz1 (fun _ e9 => by cases e9) (fun z9 e9 cells2 hc2 => ?_)
      cases e9
      refine jx_lt (t0 := u94.2) h ?_
      clear h
      intro t94 e2 h
      replace hc : τ.2.2 + cells2 = t94.2.2 ∧ t94.2.2 ≤ DC := jx_f7 e2 hc2 hz2
      clear e2 hc2 hz1 hz2 hg
      refine je_aload_n C dX7_one_97 98 rfl 0 rfl ?_
      replace h := p_ob_inv h
      obtain ⟨V98, he, h⟩ := h
      replace h := p_vi_inv h
      obtain ⟨x98, hv, h⟩ := h
      refine je_get (k := 4) C he rfl in_X7 (by decide) q555 rfl dX7_one_98 101 rfl hv ?_
      refine je_bipush C (14) dX7_one_101 103 rfl bp_14 ?_
      refine je_isub C dX7_one_103 104 rfl ?_
      refine je_lti h ?_
      clear h
      intro t104 h
      refine je_istore_n C dX7_one_104 105 rfl (Nat.le_of_ble_eq_true rfl) [(1, .int t104), (0, .ref (G.2.1 + a0))] rfl ?_
      refine je_aload_n C dX7_one_105 106 rfl 1 rfl ?_
      replace h := p_ob_inv h
      obtain ⟨V106, he, h⟩ := h
      replace h := p_cl_inv h
      obtain ⟨u106, hg, h⟩ := h
      refine je_callV (As := []) (rest := []) (o := none) C (hmX7_take hg) he rfl hdX7_take rfl cwX7_107 rfl ⟨(show 6 + 1 ≤ 8 + (d + 1) from by omega), (show 8 + (1 + 11) + 132 ≤ 175 + (d + 1) * 23 from by omega)⟩ ⟨jx_f1 (k := 0) hc hc.2, jx_f2 (k := 0) (n := 0) hc hc.2 (Nat.le_of_ble_eq_true rfl)⟩ (Nat.le_of_ble_eq_true rfl) dX7_one_106 109 rfl ?_
      refine je_widen (cells2) (64 * (cells2)) (Nat.le_refl _) (jx_f30 (Nat.le_of_ble_eq_true rfl)) ?_
      refine jx_lt (t0 := x_of u106 (t94.2.2 + 0)) h ?_
      clear h
      intro t106 e2 h
      replace hc : τ.2.2 + (cells2) = t106.2.2 ∧ t106.2.2 ≤ DC := jx_f80 (k := 0) e2 hc hc.2
      clear e2 hg
      replace h := p_pr_inv h
      obtain ⟨hb, h⟩ := h
      refine je_new C (ci := 13) rfl in_X14 tyX14 tyX14_ok q1069 q1070 q190 rfl (jx_f1 (k := 1) hc hb) (jx_f2 (k := 1) (n := 1) hc hb (Nat.le_of_ble_eq_true rfl)) dX7_one_109 112 rfl ?_
      refine je_widen (cells2 + 1) (64 * (cells2 + 1)) (Nat.le_refl _) (jx_f3 (Nat.le_of_ble_eq_true rfl)) ?_
      refine je_ltr h ?_
      clear h
      intro b109 h
      refine jx_lt h ?_
      clear h
      intro t109 e2 h
      replace hc : τ.2.2 + (cells2 + 1) = t109.2.2 ∧ t109.2.2 ≤ DC := jx_f4 (k := 1) e2 hc hb
      clear e2 hb
      refine je_dup C dX7_one_112 113 rfl rfl ?_
      refine je_iload_n C dX7_one_113 114 rfl 0 rfl ?_
      replace h := p_cl_inv h
      obtain ⟨u114, hg, h⟩ := h
      refine je_callIN (As := [.int t104]) (rest := [.ref (G.2.1 + b109)]) C (hmX14_init hg) hdX14_init rfl ccX7_267 rfl ⟨(show 2 + 1 ≤ 8 + (d + 1) from by omega), (show 8 + (2 + 11) + 40 ≤ 175 + (d + 1) * 23 from by omega)⟩ ⟨jx_f1 (k := 0) hc hc.2, jx_f2 (k := 0) (n := 0) hc hc.2 (Nat.le_of_ble_eq_true rfl)⟩ (Nat.le_of_ble_eq_true rfl) dX7_one_114 117 rfl ?_
      refine je_widen (cells2 + 1) (64 * (cells2 + 1)) (Nat.le_refl _) (jx_f30 (Nat.le_of_ble_eq_true rfl)) ?_
      refine jx_lt (t0 := x_of u114 (t109.2.2 + 0)) h ?_
      clear h
      intro t114 e2 h
      replace hc : τ.2.2 + (cells2 + 1) = t114.2.2 ∧ t114.2.2 ≤ DC := jx_f80 (k := 0) e2 hc hc.2
      clear e2 hg
      cases h
      exact jx_ret hc.1 (Nat.le_refl _) (je_aret (x := (some (G.2.1 + b109))) C dX7_one_117)
    clear h
    intro h
    refine je_aload_n C dX7_one_9 10 rfl 0 rfl ?_
    refine je_aload_n C dX7_one_10 11 rfl 0 rfl ?_
    replace h := p_ob_inv h
    obtain ⟨V11, he, h⟩ := h
    replace h := p_vi_inv h
    obtain ⟨x11, hv, h⟩ := h
    refine je_get (k := 6) C he rfl in_X7 (by decide) q557 rfl dX7_one_11 14 rfl hv ?_
    refine je_bipush C (8) dX7_one_14 16 rfl bp_8 ?_
    refine je_icmp_ne C 23 dX7_one_16 19 rfl rfl h ?_ ?_
    · clear h
      intro h
      refine je_iconst C (0) dX7_one_23 24 rfl ic_0 ?_
      exact hwX7_one_24 C hnt hrc τ a0 (0 : Int32) a0 0 hc h
    clear h
    intro h
    refine je_iconst C (1) dX7_one_19 20 rfl ic_1 ?_
    refine je_goto C 24 dX7_one_20 rfl ?_
    exact hwX7_one_24 C hnt hrc τ a0 (1 : Int32) a0 0 hc h
  · unfold hX7_one at h
    exact absurd (p_pr_inv h).1 hDC
theorem hm_gd7 {l : Launch} (G : je_G) (F : Nat) : ∀ d, hgX7 l G d (gX7 G F d)
  | 0 => fun τ a0 r9 => ⟨(fun h => by cases h), (fun h => by cases h), (fun h => by cases h), (fun h => by cases h), (fun h => by cases h), (fun h => by cases h), (fun h => by cases h)⟩
  | d + 1 => fun τ a0 r9 => ⟨fun h => hmX7_or (d := d) (hm_gd7 G F d) h, fun h => hmX7_and (d := d) (hm_gd7 G F d) h, fun h => hmX7_not (d := d) (hm_gd7 G F d) h, fun h => hmX7_compared (d := d) (hm_gd7 G F d) h, fun h => hmX7_sum (d := d) (hm_gd7 G F d) h, fun h => hmX7_product (d := d) (hm_gd7 G F d) h, fun h => hmX7_one (d := d) (hm_gd7 G F d) h⟩
theorem hm_gX7 {l : Launch} (G : je_G) (F : Nat) : hgX7 l G HD7 (gX7 G F HD7) := hm_gd7 G F HD7
set_option maxHeartbeats 4000000 in
theorem hwX2_may_2 {p : Program} {l : Launch} {e : Env} {s : State} {m : MethodId} {args : Array Value} {below : List Frame} {meth : Method} {c : Code} {G : je_G} {F : Nat} {τ : hT} {r9 : Int32} (C : Cx p s m args meth c G "MinistryDesks$House" cX2_may 3 (some .int)) : ∀ (n : Nat) (a0 : Nat) (v1 : Int32) (v2 : Int32), hbX2_may_2 G F n τ a0 v1 v2 = some r9 → Js p l e ({ frames := 3, cells := 0, slots := 0, locals := 64 } : Room) s m args below meth c G 3 (MQ below (je_Q G (some (.int r9)) τ.1 (G.2.1 + τ.2)) args s 0 0 (je_A G)) τ.1 (G.2.1 + τ.2) 0 0 2 [(0, .ref (G.2.1 + a0)), (1, .int v1), (2, .int v2)] [] := by
  intro n
  induction n with
  | zero =>
    intro a0 v1 v2 h
    cases h
  | succ n ih =>
    intro a0 v1 v2 h
    rw [hbX2_may_2] at h
    refine je_iload_n C dX2_may_2 3 rfl 2 rfl ?_
    refine je_aload_n C dX2_may_3 4 rfl 0 rfl ?_
    replace h := p_ob_inv h
    obtain ⟨V4, he, h⟩ := h
    replace h := p_vr_inv h
    obtain ⟨x4, hv, h⟩ := h
    refine je_get (k := 5) C he rfl in_X2 (by decide) q262 rfl dX2_may_4 7 rfl hv ?_
    obtain ⟨j7, hj9, h8⟩ := p_at_inv h
    clear h
    subst hj9
    have h := h8
    clear h8
    replace h := p_ob_inv h
    obtain ⟨V7, he, h⟩ := h
    replace h := p_cl_inv h
    obtain ⟨x7, hg, h⟩ := h
    refine je_callV (As := []) (rest := [.int v2]) (o := (some (.int x7))) C (hmJ2_size hg) he rfl hdJ2_size rfl cwX2_37 rfl ⟨Nat.le_of_ble_eq_true rfl, Nat.le_of_ble_eq_true rfl⟩ ⟨Nat.le_of_ble_eq_true rfl, Nat.le_of_ble_eq_true rfl⟩ (Nat.le_of_ble_eq_true rfl) dX2_may_7 10 rfl ?_
    refine je_icmp_ge C 39 dX2_may_10 13 rfl rfl h ?_ ?_
    · clear h
      intro h
      refine je_iconst C (-1) dX2_may_39 40 rfl ic_m1 ?_
      cases h
      exact je_iret C dX2_may_40
    clear h
    intro h
    refine je_aload_n C dX2_may_13 14 rfl 0 rfl ?_
    replace h := p_ob_inv h
    obtain ⟨V14, he, h⟩ := h
    replace h := p_vr_inv h
    obtain ⟨x14, hv, h⟩ := h
    refine je_get (k := 5) C he rfl in_X2 (by decide) q262 rfl dX2_may_14 17 rfl hv ?_
    refine je_iload_n C dX2_may_17 18 rfl 2 rfl ?_
    obtain ⟨j18, hj9, h8⟩ := p_at_inv h
    clear h
    subst hj9
    have h := h8
    clear h8
    replace h := p_ob_inv h
    obtain ⟨V18, he, h⟩ := h
    replace h := p_cl_inv h
    obtain ⟨x18, hg, h⟩ := h
    refine je_callV (As := [.int v2]) (rest := []) (o := (some (va_rf x18))) C (hmJ2_get hg) he rfl hdJ2_get rfl cwX2_41 rfl ⟨Nat.le_of_ble_eq_true rfl, Nat.le_of_ble_eq_true rfl⟩ ⟨Nat.le_of_ble_eq_true rfl, Nat.le_of_ble_eq_true rfl⟩ (Nat.le_of_ble_eq_true rfl) dX2_may_18 21 rfl ?_
    obtain ⟨j21, hj9, h8⟩ := p_at_inv h
    clear h
    subst hj9
    have h := h8
    clear h8
    replace h := p_ob_inv h
    obtain ⟨V21, he, h⟩ := h
    refine je_cast C he rfl q1146 dX2_may_21 24 rfl ?_
    replace h := p_ob_inv h
    obtain ⟨V24, he, h⟩ := h
    replace h := p_vi_inv h
    obtain ⟨x24, hv, h⟩ := h
    refine je_getN (k := 0) C he rfl in_X21 (by decide) q1154 rfl dX2_may_24 27 rfl hv ?_
    refine je_iload_n C dX2_may_27 28 rfl 1 rfl ?_
    refine je_icmp_ne C 33 dX2_may_28 31 rfl rfl h ?_ ?_
    · clear h
      intro h
      refine je_iinc C (1) dX2_may_33 36 rfl 2 rfl ic_1 (Nat.le_of_ble_eq_true rfl) [(2, .int (v2 + (1 : Int32))), (0, .ref (G.2.1 + a0)), (1, .int v1)] rfl ?_
      refine je_goto C 2 dX2_may_36 rfl ?_
      refine je_sub [1, 2, 0] [(0, .ref (G.2.1 + a0)), (1, .int v1), (2, .int (v2 + (1 : Int32)))] rfl ?_
      exact ih a0 v1 (v2 + (1 : Int32)) h
    clear h
    intro h
    refine je_iload_n C dX2_may_31 32 rfl 2 rfl ?_
    cases h
    exact je_iret C dX2_may_32
set_option maxHeartbeats 4000000 in
theorem hmX2_may {l : Launch} {G : je_G} {F : Nat} {τ : hT} {a0 : Nat} {v1 : Int32} {r9 : Int32} (h : hX2_may G F τ a0 v1 = some r9) : MetS l G yX2_may cX2_may 3 (some .int) 3 64 0 0 [.ref (G.2.1 + a0), .int v1] τ.1 (G.2.1 + τ.2) (some (.int r9)) τ.1 (G.2.1 + τ.2) := by
  refine je_met "MinistryDesks$House" rfl (by decide +kernel) (Nat.le_of_ble_eq_true rfl) [(0, .ref (G.2.1 + a0)), (1, .int v1)] rfl (fun p e s m args below meth c C => ?_)
  unfold hX2_may at h
  refine je_iconst C (0) dX2_may_0 1 rfl ic_0 ?_
  refine je_istore_n C dX2_may_1 2 rfl (Nat.le_of_ble_eq_true rfl) [(2, .int (0 : Int32)), (0, .ref (G.2.1 + a0)), (1, .int v1)] rfl ?_
  refine je_sub [1, 2, 0] [(0, .ref (G.2.1 + a0)), (1, .int v1), (2, .int (0 : Int32))] rfl ?_
  exact hwX2_may_2 C F a0 v1 (0 : Int32) h
set_option maxHeartbeats 4000000 in
theorem hmJ14_init_X21 {l : Launch} {G : je_G} {τ : hT} {a0 : Nat} {r9 : Unit} (h : hJ14_init_X21 G τ a0 = some r9) : MetS l G yJ14_init cJ14_init 1 none 1 20 0 0 [.ref (G.2.1 + a0)] τ.1 (G.2.1 + τ.2) none τ.1 (G.2.1 + τ.2) := by
  refine je_metI "java/lang/Record" rfl (by decide +kernel) rfl (Nat.le_of_ble_eq_true rfl) [(0, .ref (G.2.1 + a0))] rfl (fun p e s m args below meth c C hI => ?_)
  unfold hJ14_init_X21 at h
  refine je_aload_n C dJ14_init_0 1 rfl 0 rfl ?_
  refine je_obji C hoJ14_1 ⟨Nat.le_of_ble_eq_true rfl, Nat.le_of_ble_eq_true rfl⟩ (Nat.le_of_ble_eq_true rfl) dJ14_init_1 4 rfl ?_
  cases h
  exact je_vret C dJ14_init_4
theorem ccX21_1 : Cond.methodLink "MinistryDesks$May" 1 yJ14_init ∈ lw_all ∧ Cond.instanceMethod yJ14_init ∈ lw_all ∧ Cond.initialized yJ14_init.cls ∈ lw_all ∧ Cond.code yJ14_init cJ14_init 1 none ∈ lw_all := ⟨q1152, q949, q185, q950⟩
set_option maxHeartbeats 4000000 in
theorem hmX21_init {l : Launch} {G : je_G} {τ : hT} {a0 : Nat} {v1 : Int32} {q2 : Option Nat} {r9 : hT} (h : hX21_init G τ a0 v1 q2 = some r9) : MetS l G yX21_init cX21_init 3 none 2 40 0 0 [.ref (G.2.1 + a0), .int v1, va_rf q2] τ.1 (G.2.1 + τ.2) none r9.1 (G.2.1 + r9.2) := by
  refine je_metI "MinistryDesks$May" rfl (by decide +kernel) rfl (by cases q2 <;> exact Nat.le_of_ble_eq_true rfl) [(0, .ref (G.2.1 + a0)), (1, .int v1), (2, va_rf q2)] (by cases q2 <;> rfl) (fun p e s m args below meth c C hI => ?_)
  unfold hX21_init at h
  refine je_aload_n C dX21_init_0 1 rfl 0 rfl ?_
  replace h := p_cl_inv h
  obtain ⟨u1, hg, h⟩ := h
  refine je_callI (As := []) (rest := []) C (hmJ14_init_X21 hg) hdJ14_init rfl ccX21_1 rfl ⟨Nat.le_of_ble_eq_true rfl, Nat.le_of_ble_eq_true rfl⟩ ⟨Nat.le_of_ble_eq_true rfl, Nat.le_of_ble_eq_true rfl⟩ (Nat.le_of_ble_eq_true rfl) dX21_init_1 4 rfl ?_
  refine je_aload_n C dX21_init_4 5 rfl 0 rfl ?_
  refine je_iload_n C dX21_init_5 6 rfl 1 rfl ?_
  replace h := p_ob_inv h
  obtain ⟨V6, he, h⟩ := h
  refine je_putF (k := 0) (v := .int v1) C hI he rfl in_X21 tyX21 tyX21_ok nmX21 (by decide) q1153 rfl rfl rfl rfl rfl dX21_init_6 9 rfl ?_
  refine jh_lt h ?_
  clear h
  intro t6 h
  refine je_aload_n C dX21_init_9 10 rfl 0 rfl ?_
  refine je_aloadR_n C dX21_init_10 11 rfl 2 rfl ?_
  replace h := p_ob_inv h
  obtain ⟨V11, he, h⟩ := h
  refine je_putF (k := 1) (v := va_rf q2) C hI he rfl in_X21 tyX21 tyX21_ok nmX21 (by decide) q1155 rfl rfl rfl je_refnar je_reffit dX21_init_11 14 rfl ?_
  refine jh_lt h ?_
  clear h
  intro t11 h
  cases h
  exact je_vret C dX21_init_14
theorem hdJ2_add : je_hd yJ2_add 1 := ⟨by decide +kernel, by decide +kernel, by decide +kernel⟩
theorem hdX10_init : je_hd yX10_init 2 := ⟨by decide +kernel, by decide +kernel, by decide +kernel⟩
theorem hdX11_init : je_hd yX11_init 4 := ⟨by decide +kernel, by decide +kernel, by decide +kernel⟩
theorem hdX12_init : je_hd yX12_init 4 := ⟨by decide +kernel, by decide +kernel, by decide +kernel⟩
theorem hdX13_init : je_hd yX13_init 2 := ⟨by decide +kernel, by decide +kernel, by decide +kernel⟩
theorem hdX21_init : je_hd yX21_init 2 := ⟨by decide +kernel, by decide +kernel, by decide +kernel⟩
theorem hdX7_name : je_hd yX7_name 0 := ⟨by decide +kernel, by decide +kernel, by decide +kernel⟩
theorem hdX7_newName : je_hd yX7_newName 1 := ⟨by decide +kernel, by decide +kernel, by decide +kernel⟩
theorem hdX7_there : je_hd yX7_there 1 := ⟨by decide +kernel, by decide +kernel, by decide +kernel⟩
theorem hdX9_init : je_hd yX9_init 2 := ⟨by decide +kernel, by decide +kernel, by decide +kernel⟩
theorem ccX7_144 : Cond.methodLink "MinistryDesks$Reader" 144 yX9_init ∈ lw_all ∧ Cond.instanceMethod yX9_init ∈ lw_all ∧ Cond.initialized yX9_init.cls ∈ lw_all ∧ Cond.code yX9_init cX9_init 3 none ∈ lw_all := ⟨q846, q847, q181, q848⟩
theorem ccX7_167 : Cond.methodLinkNest "MinistryDesks$Reader" 167 yX10_init "MinistryDesks" ∈ lw_tbl ∧ Cond.instanceMethod yX10_init ∈ lw_all ∧ Cond.initialized yX10_init.cls ∈ lw_all ∧ Cond.code yX10_init cX10_init 3 none ∈ lw_all := ⟨q945, q946, q186, q947⟩
theorem ccX7_173 : Cond.methodLinkNest "MinistryDesks$Reader" 173 yX11_init "MinistryDesks" ∈ lw_tbl ∧ Cond.instanceMethod yX11_init ∈ lw_all ∧ Cond.initialized yX11_init.cls ∈ lw_all ∧ Cond.code yX11_init cX11_init 5 none ∈ lw_all := ⟨q963, q964, q187, q965⟩
theorem ccX7_181 : Cond.methodLinkNest "MinistryDesks$Reader" 181 yX12_init "MinistryDesks" ∈ lw_tbl ∧ Cond.instanceMethod yX12_init ∈ lw_all ∧ Cond.initialized yX12_init.cls ∈ lw_all ∧ Cond.code yX12_init cX12_init 5 none ∈ lw_all := ⟨q990, q991, q188, q992⟩
theorem ccX7_187 : Cond.methodLinkNest "MinistryDesks$Reader" 187 yX13_init "MinistryDesks" ∈ lw_tbl ∧ Cond.instanceMethod yX13_init ∈ lw_all ∧ Cond.initialized yX13_init.cls ∈ lw_all ∧ Cond.code yX13_init cX13_init 3 none ∈ lw_all := ⟨q1016, q1017, q189, q1018⟩
theorem ccX7_217 : Cond.methodLinkNest "MinistryDesks$Reader" 217 yX21_init "MinistryDesks" ∈ lw_tbl ∧ Cond.instanceMethod yX21_init ∈ lw_all ∧ Cond.initialized yX21_init.cls ∈ lw_all ∧ Cond.code yX21_init cX21_init 3 none ∈ lw_all := ⟨q1149, q1150, q197, q1151⟩
theorem cwX7_126 : GoodIn lw_all (wsV "MinistryDesks$Reader" 126 "java/util/ArrayList" yJ2_size (ws_ yJ2_size cJ2_size 1 (some .int))) := lw_V q802 q803 q804 q165 q805
theorem cwX7_130 : GoodIn lw_all (wsV "MinistryDesks$Reader" 130 "MinistryDesks$Reader" yX7_name (ws_ yX7_name cX7_name 1 (some .int))) := lw_V q810 q812 qs13 q170 q813
theorem cwX7_133 : GoodIn lw_all (wsV "MinistryDesks$Reader" 133 "MinistryDesks$House" yX2_desk (ws_ yX2_desk cX2_desk 3 (some .int))) := lw_V q814 q815 q816 q162 q817
theorem cwX7_136 : GoodIn lw_all (wsV "MinistryDesks$Reader" 136 "MinistryDesks$Reader" yX7_newName (ws_ yX7_newName cX7_newName 3 (some .int))) := lw_V q832 q834 qs14 q170 q835
theorem cwX7_145 : GoodIn lw_all (wsV "MinistryDesks$Reader" 145 "java/util/ArrayList" yJ2_add (ws_ yJ2_add cJ2_add 2 (some .boolean))) := lw_V q866 q867 q868 q165 q869
theorem cwX7_149 : GoodIn lw_all (wsV "MinistryDesks$Reader" 149 "java/util/ArrayList" yJ2_get (ws_ yJ2_get cJ2_get 2 (some (.object "java/lang/Object")))) := lw_V q933 q820 q821 q165 q822
theorem cwX7_156 : GoodIn lw_all (wsV "MinistryDesks$Reader" 156 "MinistryDesks$Reader" yX7_there (ws_ yX7_there cX7_there 2 (some .int))) := lw_V q934 q936 qs20 q170 q937
theorem cwX7_162 : GoodIn lw_all (wsV "MinistryDesks$Reader" 162 "MinistryDesks$House" yX2_fact (ws_ yX2_fact cX2_fact 3 (some .int))) := lw_V q938 q939 q940 q162 q941
theorem cwX7_212 : GoodIn lw_all (wsV "MinistryDesks$Reader" 212 "MinistryDesks$House" yX2_may (ws_ yX2_may cX2_may 3 (some .int))) := lw_V q1142 q1143 q1144 q162 q1145
set_option maxHeartbeats 4000000 in
theorem hwX7_line_72 {p : Program} {l : Launch} {e : Env} {s : State} {m : MethodId} {args : Array Value} {below : List Frame} {meth : Method} {c : Code} {G : je_G} {F : Nat} {c0 : Nat} {r9 : (Nat × hS) ⊕ (Unit × hS)} (C : Cx p s m args meth c G "MinistryDesks$Reader" cX7_line 4 none) (hnt : ∀ x ∈ c.exceptionTable.toList, False) (τ : hS) (a0 : Nat) (s0 : Int32) (s1 : Nat) (cells : Nat) (hc : c0 + cells = τ.2.2 ∧ τ.2.2 ≤ DC) (h : hbX7_line_72 G F τ a0 s0 s1 = some r9) : Js p l e ({ frames := 89, cells := DC - c0, slots := 64 * (DC - c0), locals := 2036 } : Room) s m args below meth c G 4 (xMQ below G (xV r9) args s c0) τ.1 (G.2.1 + τ.2.1) cells (64 * cells) 72 [(0, .ref (G.2.1 + a0))] [.int s0, .ref (G.2.1 + s1)] := by
  unfold hbX7_line_72 at h
  replace h := p_ob_inv h
  obtain ⟨V72, he, h⟩ := h
  replace h := p_ex_inv h
  rcases h with ⟨z9, hg, hz1, rfl⟩ | ⟨u72, hg, hz1, hz2, h⟩
  · exact jx_callV (As := [.int s0]) (rest := []) C (hmX7_much hg) he rfl hdX7_much rfl cwX7_103 rfl ⟨Nat.le_of_ble_eq_true rfl, Nat.le_of_ble_eq_true rfl⟩ ⟨rfl, rfl⟩ hc (Nat.le_refl _) (Nat.le_of_ble_eq_true rfl) hnt dX7_line_72 75 rfl hz1 (fun _ e9 => e9) (fun _ e9 => by cases e9)
  refine jx_callV (As := [.int s0]) (rest := []) C (hmX7_much hg) he rfl hdX7_much rfl cwX7_103 rfl ⟨Nat.le_of_ble_eq_true rfl, Nat.le_of_ble_eq_true rfl⟩ ⟨rfl, rfl⟩ hc (Nat.le_refl _) (Nat.le_of_ble_eq_true rfl) hnt dX7_line_72 75 rfl hz1 (fun _ e9 => by cases e9) (fun z9 e9 cells2 hc2 => ?_)
  cases e9
  refine jx_lt (t0 := u72.2) h ?_
  clear h
  intro t72 e2 h
  replace hc : c0 + cells2 = t72.2.2 ∧ t72.2.2 ≤ DC := jx_f7 e2 hc2 hz2
  clear e2 hc2 hz1 hz2 hg
  refine je_aload_n C dX7_line_75 76 rfl 0 rfl ?_
  replace h := p_ob_inv h
  obtain ⟨V76, he, h⟩ := h
  replace h := p_cl_inv h
  obtain ⟨u76, hg, h⟩ := h
  refine je_callV (As := []) (rest := []) (o := none) C (hmX7_take hg) he rfl hdX7_take rfl cwX7_107 rfl ⟨Nat.le_of_ble_eq_true rfl, Nat.le_of_ble_eq_true rfl⟩ ⟨jx_f1 (k := 0) hc hc.2, jx_f2 (k := 0) (n := 0) hc hc.2 (Nat.le_of_ble_eq_true rfl)⟩ (Nat.le_of_ble_eq_true rfl) dX7_line_76 79 rfl ?_
  refine je_widen (cells2) (64 * (cells2)) (Nat.le_refl _) (jx_f30 (Nat.le_of_ble_eq_true rfl)) ?_
  refine jx_lt (t0 := x_of u76 (t72.2.2 + 0)) h ?_
  clear h
  intro t76 e2 h
  replace hc : c0 + (cells2) = t76.2.2 ∧ t76.2.2 ≤ DC := jx_f80 (k := 0) e2 hc hc.2
  clear e2 hg
  refine je_aload_n C dX7_line_79 80 rfl 0 rfl ?_
  refine je_aload_n C dX7_line_80 81 rfl 0 rfl ?_
  replace h := p_ob_inv h
  obtain ⟨V81, he, h⟩ := h
  replace h := p_vr_inv h
  obtain ⟨x81, hv, h⟩ := h
  refine je_get (k := 1) C he rfl in_X7 (by decide) q552 rfl dX7_line_81 84 rfl hv ?_
  refine je_aload_n C dX7_line_84 85 rfl 0 rfl ?_
  replace h := p_ob_inv h
  obtain ⟨V85, he, h⟩ := h
  replace h := p_ex_inv h
  rcases h with ⟨z9, hg, hz1, rfl⟩ | ⟨u85, hg, hz1, hz2, h⟩
  · exact jx_callV (As := []) (rest := [va_rf x81, .ref (G.2.1 + a0)]) C (hmX7_name hg) he rfl hdX7_name rfl cwX7_130 rfl ⟨Nat.le_of_ble_eq_true rfl, Nat.le_of_ble_eq_true rfl⟩ ⟨rfl, rfl⟩ hc (Nat.le_refl _) (by simp only [List.map_cons, List.map_nil, je_cat, List.sum_cons, List.sum_nil]; exact Nat.le_of_ble_eq_true rfl) hnt dX7_line_85 88 rfl hz1 (fun _ e9 => e9) (fun _ e9 => by cases e9)
  refine jx_callV (As := []) (rest := [va_rf x81, .ref (G.2.1 + a0)]) C (hmX7_name hg) he rfl hdX7_name rfl cwX7_130 rfl ⟨Nat.le_of_ble_eq_true rfl, Nat.le_of_ble_eq_true rfl⟩ ⟨rfl, rfl⟩ hc (Nat.le_refl _) (by simp only [List.map_cons, List.map_nil, je_cat, List.sum_cons, List.sum_nil]; exact Nat.le_of_ble_eq_true rfl) hnt dX7_line_85 88 rfl hz1 (fun _ e9 => by cases e9) (fun z9 e9 cells2 hc2 => ?_)
  cases e9
  refine je_lti (x := u85.1) (st := [va_rf x81, .ref (G.2.1 + a0)]) h ?_
  clear h
  intro x85 h
  refine jx_lt (t0 := u85.2) h ?_
  clear h
  intro t85 e2 h
  replace hc : c0 + cells2 = t85.2.2 ∧ t85.2.2 ≤ DC := jx_f7 e2 hc2 hz2
  clear e2 hc2 hz1 hz2 hg
  obtain ⟨j88, hj9, h8⟩ := p_at_inv h
  clear h
  subst hj9
  have h := h8
  clear h8
  replace h := p_ob_inv h
  obtain ⟨V88, he, h⟩ := h
  replace h := p_cl_inv h
  obtain ⟨x88, hg, h⟩ := h
  refine je_callV (As := [.int x85]) (rest := [.ref (G.2.1 + a0)]) (o := (some (.int x88))) C (hmX2_desk hg) he rfl hdX2_desk rfl cwX7_133 rfl ⟨Nat.le_of_ble_eq_true rfl, Nat.le_of_ble_eq_true rfl⟩ ⟨jx_f1 (k := 0) hc hc.2, jx_f2 (k := 0) (n := 0) hc hc.2 (Nat.le_of_ble_eq_true rfl)⟩ (Nat.le_of_ble_eq_true rfl) dX7_line_88 91 rfl ?_
  refine je_widen (cells2) (64 * (cells2)) (Nat.le_refl _) (jx_f30 (Nat.le_of_ble_eq_true rfl)) ?_
  replace h := p_ob_inv h
  obtain ⟨V91, he, h⟩ := h
  replace h := p_ex_inv h
  rcases h with ⟨z9, hg, hz1, rfl⟩ | ⟨u91, hg, hz1, hz2, h⟩
  · exact jx_callV (As := [.int x88]) (rest := []) C (hmX7_newName hg) he rfl hdX7_newName rfl cwX7_136 rfl ⟨Nat.le_of_ble_eq_true rfl, Nat.le_of_ble_eq_true rfl⟩ ⟨rfl, rfl⟩ hc (Nat.le_refl _) (Nat.le_of_ble_eq_true rfl) hnt dX7_line_91 94 rfl hz1 (fun _ e9 => e9) (fun _ e9 => by cases e9)
  refine jx_callV (As := [.int x88]) (rest := []) C (hmX7_newName hg) he rfl hdX7_newName rfl cwX7_136 rfl ⟨Nat.le_of_ble_eq_true rfl, Nat.le_of_ble_eq_true rfl⟩ ⟨rfl, rfl⟩ hc (Nat.le_refl _) (Nat.le_of_ble_eq_true rfl) hnt dX7_line_91 94 rfl hz1 (fun _ e9 => by cases e9) (fun z9 e9 cells2 hc2 => ?_)
  cases e9
  refine je_lti (x := u91.1) (st := []) h ?_
  clear h
  intro x91 h
  refine jx_lt (t0 := u91.2) h ?_
  clear h
  intro t91 e2 h
  replace hc : c0 + cells2 = t91.2.2 ∧ t91.2.2 ≤ DC := jx_f7 e2 hc2 hz2
  clear e2 hc2 hz1 hz2 hg
  refine je_istore_n C dX7_line_94 95 rfl (Nat.le_of_ble_eq_true rfl) [(1, .int x91), (0, .ref (G.2.1 + a0))] rfl ?_
  refine je_aload_n C dX7_line_95 96 rfl 1 rfl ?_
  replace h := p_ob_inv h
  obtain ⟨V96, he, h⟩ := h
  replace h := p_vr_inv h
  obtain ⟨x96, hv, h⟩ := h
  refine je_get (k := 1) C he rfl in_X7 (by decide) q552 rfl dX7_line_96 99 rfl hv ?_
  obtain ⟨j99, hj9, h8⟩ := p_at_inv h
  clear h
  subst hj9
  have h := h8
  clear h8
  replace h := p_ob_inv h
  obtain ⟨V99, he, h⟩ := h
  replace h := p_vr_inv h
  obtain ⟨x99, hv, h⟩ := h
  refine je_getN (k := 0) C he rfl in_X2 (by decide) q247 rfl dX7_line_99 102 rfl hv ?_
  replace h := p_pr_inv h
  obtain ⟨hb, h⟩ := h
  refine je_new C (ci := 6) rfl in_X9 tyX9 tyX9_ok q840 q841 q181 rfl (jx_f1 (k := 1) hc hb) (jx_f2 (k := 1) (n := 3) hc hb (Nat.le_of_ble_eq_true rfl)) dX7_line_102 105 rfl ?_
  refine je_widen (cells2 + 1) (64 * (cells2 + 1)) (Nat.le_refl _) (jx_f3 (Nat.le_of_ble_eq_true rfl)) ?_
  refine je_ltr h ?_
  clear h
  intro b102 h
  refine jx_lt h ?_
  clear h
  intro t102 e2 h
  replace hc : c0 + (cells2 + 1) = t102.2.2 ∧ t102.2.2 ≤ DC := jx_f4 (k := 1) e2 hc hb
  clear e2 hb
  refine je_dup C dX7_line_105 106 rfl rfl ?_
  refine je_iload_n C dX7_line_106 107 rfl 0 rfl ?_
  refine je_aload_n C dX7_line_107 108 rfl 1 rfl ?_
  refine je_iconst C (1) dX7_line_108 109 rfl ic_1 ?_
  refine je_bipush C (6) dX7_line_109 111 rfl bp_6 ?_
  replace h := p_ob_inv h
  obtain ⟨V111, he, h⟩ := h
  replace h := p_ex_inv h
  rcases h with ⟨z9, hg, hz1, rfl⟩ | ⟨u111, hg, hz1, hz2, h⟩
  · exact jx_callV (As := [.int (1 : Int32), .int (6 : Int32)]) (rest := [.int x91, .ref (G.2.1 + b102), .ref (G.2.1 + b102), va_rf x99]) C (hmX7_number hg) he rfl hdX7_number rfl cwX7_141 rfl ⟨Nat.le_of_ble_eq_true rfl, Nat.le_of_ble_eq_true rfl⟩ ⟨rfl, rfl⟩ hc (Nat.le_refl _) (by simp only [List.map_cons, List.map_nil, je_cat, List.sum_cons, List.sum_nil]; exact Nat.le_of_ble_eq_true rfl) hnt dX7_line_111 114 rfl hz1 (fun _ e9 => e9) (fun _ e9 => by cases e9)
  refine jx_callV (As := [.int (1 : Int32), .int (6 : Int32)]) (rest := [.int x91, .ref (G.2.1 + b102), .ref (G.2.1 + b102), va_rf x99]) C (hmX7_number hg) he rfl hdX7_number rfl cwX7_141 rfl ⟨Nat.le_of_ble_eq_true rfl, Nat.le_of_ble_eq_true rfl⟩ ⟨rfl, rfl⟩ hc (Nat.le_refl _) (by simp only [List.map_cons, List.map_nil, je_cat, List.sum_cons, List.sum_nil]; exact Nat.le_of_ble_eq_true rfl) hnt dX7_line_111 114 rfl hz1 (fun _ e9 => by cases e9) (fun z9 e9 cells2 hc2 => ?_)
  cases e9
  refine je_lti (x := u111.1) (st := [.int x91, .ref (G.2.1 + b102), .ref (G.2.1 + b102), va_rf x99]) h ?_
  clear h
  intro x111 h
  refine jx_lt (t0 := u111.2) h ?_
  clear h
  intro t111 e2 h
  replace hc : c0 + cells2 = t111.2.2 ∧ t111.2.2 ≤ DC := jx_f7 e2 hc2 hz2
  clear e2 hc2 hz1 hz2 hg
  replace h := p_cl_inv h
  obtain ⟨u114, hg, h⟩ := h
  refine je_callI (As := [.int x91, .int x111]) (rest := [.ref (G.2.1 + b102), va_rf x99]) C (hmX9_init hg) hdX9_init rfl ccX7_144 rfl ⟨Nat.le_of_ble_eq_true rfl, Nat.le_of_ble_eq_true rfl⟩ ⟨jx_f1 (k := 0) hc hc.2, jx_f2 (k := 0) (n := 0) hc hc.2 (Nat.le_of_ble_eq_true rfl)⟩ (by simp only [List.map_cons, List.map_nil, je_cat, List.sum_cons, List.sum_nil]; exact Nat.le_of_ble_eq_true rfl) dX7_line_114 117 rfl ?_
  refine je_widen (cells2) (64 * (cells2)) (Nat.le_refl _) (jx_f30 (Nat.le_of_ble_eq_true rfl)) ?_
  refine jx_lt (t0 := x_of u114 (t111.2.2 + 0)) h ?_
  clear h
  intro t114 e2 h
  replace hc : c0 + (cells2) = t114.2.2 ∧ t114.2.2 ≤ DC := jx_f80 (k := 0) e2 hc hc.2
  clear e2 hg
  obtain ⟨j117, hj9, h8⟩ := p_at_inv h
  clear h
  subst hj9
  have h := h8
  clear h8
  replace h := p_ob_inv h
  obtain ⟨V117, he, h⟩ := h
  replace h := p_pr_inv h
  obtain ⟨hb, h⟩ := h
  replace h := p_cl_inv h
  obtain ⟨u117, hg, h⟩ := h
  refine je_callV (As := [.ref (G.2.1 + b102)]) (rest := []) (o := (some (.int u117.1))) C (hmJ2_add hg) he rfl hdJ2_add rfl cwX7_145 rfl ⟨Nat.le_of_ble_eq_true rfl, Nat.le_of_ble_eq_true rfl⟩ ⟨jx_f1 (k := 1) hc hb, jx_f2 (k := 1) (n := 40) hc hb (Nat.le_of_ble_eq_true rfl)⟩ (Nat.le_of_ble_eq_true rfl) dX7_line_117 120 rfl ?_
  refine je_widen (cells2 + 1) (64 * (cells2 + 1)) (Nat.le_refl _) (jx_f3 (Nat.le_of_ble_eq_true rfl)) ?_
  refine je_lti (x := u117.1) (st := []) h ?_
  clear h
  intro x117 h
  refine jx_lt (t0 := x_of u117.2 (t114.2.2 + 1)) h ?_
  clear h
  intro t117 e2 h
  replace hc : c0 + (cells2 + 1) = t117.2.2 ∧ t117.2.2 ≤ DC := jx_f8 (k := 1) e2 hc hb
  clear e2 hg hb
  refine je_pop C dX7_line_120 121 rfl rfl ?_
  refine je_goto C 802 dX7_line_121 rfl ?_
  cases h
  exact jx_ret hc.1 (Nat.le_refl _) (je_vret C dX7_line_802)
set_option maxHeartbeats 4000000 in
theorem hwX7_line_170 {p : Program} {l : Launch} {e : Env} {s : State} {m : MethodId} {args : Array Value} {below : List Frame} {meth : Method} {c : Code} {G : je_G} {F : Nat} {c0 : Nat} {r9 : (Nat × hS) ⊕ (Unit × hS)} (C : Cx p s m args meth c G "MinistryDesks$Reader" cX7_line 4 none) (hnt : ∀ x ∈ c.exceptionTable.toList, False) (τ : hS) (a0 : Nat) (v1 : Int32) (s0 : Int32) (s1 : Nat) (cells : Nat) (hc : c0 + cells = τ.2.2 ∧ τ.2.2 ≤ DC) (h : hbX7_line_170 G F τ a0 v1 s0 s1 = some r9) : Js p l e ({ frames := 89, cells := DC - c0, slots := 64 * (DC - c0), locals := 2036 } : Room) s m args below meth c G 4 (xMQ below G (xV r9) args s c0) τ.1 (G.2.1 + τ.2.1) cells (64 * cells) 170 [(0, .ref (G.2.1 + a0)), (1, .int v1)] [.int s0, .ref (G.2.1 + s1)] := by
  unfold hbX7_line_170 at h
  replace h := p_ob_inv h
  obtain ⟨V170, he, h⟩ := h
  replace h := p_ex_inv h
  rcases h with ⟨z9, hg, hz1, rfl⟩ | ⟨u170, hg, hz1, hz2, h⟩
  · exact jx_callV (As := [.int s0]) (rest := []) C (hmX7_told hg) he rfl hdX7_told rfl cwX7_110 rfl ⟨Nat.le_of_ble_eq_true rfl, Nat.le_of_ble_eq_true rfl⟩ ⟨rfl, rfl⟩ hc (Nat.le_refl _) (Nat.le_of_ble_eq_true rfl) hnt dX7_line_170 173 rfl hz1 (fun _ e9 => e9) (fun _ e9 => by cases e9)
  refine jx_callV (As := [.int s0]) (rest := []) C (hmX7_told hg) he rfl hdX7_told rfl cwX7_110 rfl ⟨Nat.le_of_ble_eq_true rfl, Nat.le_of_ble_eq_true rfl⟩ ⟨rfl, rfl⟩ hc (Nat.le_refl _) (Nat.le_of_ble_eq_true rfl) hnt dX7_line_170 173 rfl hz1 (fun _ e9 => by cases e9) (fun z9 e9 cells2 hc2 => ?_)
  cases e9
  refine jx_lt (t0 := u170.2) h ?_
  clear h
  intro t170 e2 h
  replace hc : c0 + cells2 = t170.2.2 ∧ t170.2.2 ≤ DC := jx_f7 e2 hc2 hz2
  clear e2 hc2 hz1 hz2 hg
  refine je_aload_n C dX7_line_173 174 rfl 0 rfl ?_
  refine je_iload_n C dX7_line_174 175 rfl 1 rfl ?_
  replace h := p_ob_inv h
  obtain ⟨V175, he, h⟩ := h
  replace h := p_ex_inv h
  rcases h with ⟨z9, hg, hz1, rfl⟩ | ⟨u175, hg, hz1, hz2, h⟩
  · exact jx_callV (As := [.int v1]) (rest := []) C (hmX7_there hg) he rfl hdX7_there rfl cwX7_156 rfl ⟨Nat.le_of_ble_eq_true rfl, Nat.le_of_ble_eq_true rfl⟩ ⟨rfl, rfl⟩ hc (Nat.le_refl _) (Nat.le_of_ble_eq_true rfl) hnt dX7_line_175 178 rfl hz1 (fun _ e9 => e9) (fun _ e9 => by cases e9)
  refine jx_callV (As := [.int v1]) (rest := []) C (hmX7_there hg) he rfl hdX7_there rfl cwX7_156 rfl ⟨Nat.le_of_ble_eq_true rfl, Nat.le_of_ble_eq_true rfl⟩ ⟨rfl, rfl⟩ hc (Nat.le_refl _) (Nat.le_of_ble_eq_true rfl) hnt dX7_line_175 178 rfl hz1 (fun _ e9 => by cases e9) (fun z9 e9 cells2 hc2 => ?_)
  cases e9
  refine je_lti (x := u175.1) (st := []) h ?_
  clear h
  intro x175 h
  refine jx_lt (t0 := u175.2) h ?_
  clear h
  intro t175 e2 h
  replace hc : c0 + cells2 = t175.2.2 ∧ t175.2.2 ≤ DC := jx_f7 e2 hc2 hz2
  clear e2 hc2 hz1 hz2 hg
  refine je_pop C dX7_line_178 179 rfl rfl ?_
  refine je_aload_n C dX7_line_179 180 rfl 0 rfl ?_
  replace h := p_ob_inv h
  obtain ⟨V180, he, h⟩ := h
  replace h := p_vr_inv h
  obtain ⟨x180, hv, h⟩ := h
  refine je_get (k := 1) C he rfl in_X7 (by decide) q552 rfl dX7_line_180 183 rfl hv ?_
  refine je_aload_n C dX7_line_183 184 rfl 0 rfl ?_
  replace h := p_ob_inv h
  obtain ⟨V184, he, h⟩ := h
  replace h := p_ex_inv h
  rcases h with ⟨z9, hg, hz1, rfl⟩ | ⟨u184, hg, hz1, hz2, h⟩
  · exact jx_callV (As := []) (rest := [va_rf x180]) C (hmX7_name hg) he rfl hdX7_name rfl cwX7_130 rfl ⟨Nat.le_of_ble_eq_true rfl, Nat.le_of_ble_eq_true rfl⟩ ⟨rfl, rfl⟩ hc (Nat.le_refl _) (by simp only [List.map_cons, List.map_nil, je_cat, List.sum_cons, List.sum_nil]; exact Nat.le_of_ble_eq_true rfl) hnt dX7_line_184 187 rfl hz1 (fun _ e9 => e9) (fun _ e9 => by cases e9)
  refine jx_callV (As := []) (rest := [va_rf x180]) C (hmX7_name hg) he rfl hdX7_name rfl cwX7_130 rfl ⟨Nat.le_of_ble_eq_true rfl, Nat.le_of_ble_eq_true rfl⟩ ⟨rfl, rfl⟩ hc (Nat.le_refl _) (by simp only [List.map_cons, List.map_nil, je_cat, List.sum_cons, List.sum_nil]; exact Nat.le_of_ble_eq_true rfl) hnt dX7_line_184 187 rfl hz1 (fun _ e9 => by cases e9) (fun z9 e9 cells2 hc2 => ?_)
  cases e9
  refine je_lti (x := u184.1) (st := [va_rf x180]) h ?_
  clear h
  intro x184 h
  refine jx_lt (t0 := u184.2) h ?_
  clear h
  intro t184 e2 h
  replace hc : c0 + cells2 = t184.2.2 ∧ t184.2.2 ≤ DC := jx_f7 e2 hc2 hz2
  clear e2 hc2 hz1 hz2 hg
  obtain ⟨j187, hj9, h8⟩ := p_at_inv h
  clear h
  subst hj9
  have h := h8
  clear h8
  replace h := p_ob_inv h
  obtain ⟨V187, he, h⟩ := h
  replace h := p_cl_inv h
  obtain ⟨x187, hg, h⟩ := h
  refine je_callV (As := [.int x184]) (rest := []) (o := (some (.int x187))) C (hmX2_desk hg) he rfl hdX2_desk rfl cwX7_133 rfl ⟨Nat.le_of_ble_eq_true rfl, Nat.le_of_ble_eq_true rfl⟩ ⟨jx_f1 (k := 0) hc hc.2, jx_f2 (k := 0) (n := 0) hc hc.2 (Nat.le_of_ble_eq_true rfl)⟩ (Nat.le_of_ble_eq_true rfl) dX7_line_187 190 rfl ?_
  refine je_widen (cells2) (64 * (cells2)) (Nat.le_refl _) (jx_f30 (Nat.le_of_ble_eq_true rfl)) ?_
  refine je_istore_n C dX7_line_190 191 rfl (Nat.le_of_ble_eq_true rfl) [(2, .int x187), (0, .ref (G.2.1 + a0)), (1, .int v1)] rfl ?_
  refine je_iload_n C dX7_line_191 192 rfl 0 rfl ?_
  refine je_iload_n C dX7_line_192 193 rfl 2 rfl ?_
  refine je_icmp_ne C 209 dX7_line_193 196 rfl rfl h ?_ ?_
  · clear h
    intro h
    refine je_aload_n C dX7_line_209 210 rfl 1 rfl ?_
    replace h := p_ob_inv h
    obtain ⟨V210, he, h⟩ := h
    replace h := p_vr_inv h
    obtain ⟨x210, hv, h⟩ := h
    refine je_get (k := 1) C he rfl in_X7 (by decide) q552 rfl dX7_line_210 213 rfl hv ?_
    obtain ⟨j213, hj9, h8⟩ := p_at_inv h
    clear h
    subst hj9
    have h := h8
    clear h8
    replace h := p_ob_inv h
    obtain ⟨V213, he, h⟩ := h
    replace h := p_vr_inv h
    obtain ⟨x213, hv, h⟩ := h
    refine je_getN (k := 0) C he rfl in_X2 (by decide) q247 rfl dX7_line_213 216 rfl hv ?_
    refine je_iload_n C dX7_line_216 217 rfl 2 rfl ?_
    obtain ⟨j217, hj9, h8⟩ := p_at_inv h
    clear h
    subst hj9
    have h := h8
    clear h8
    replace h := p_ob_inv h
    obtain ⟨V217, he, h⟩ := h
    replace h := p_cl_inv h
    obtain ⟨x217, hg, h⟩ := h
    refine je_callV (As := [.int v1]) (rest := []) (o := (some (va_rf x217))) C (hmJ2_get hg) he rfl hdJ2_get rfl cwX7_149 rfl ⟨Nat.le_of_ble_eq_true rfl, Nat.le_of_ble_eq_true rfl⟩ ⟨jx_f1 (k := 0) hc hc.2, jx_f2 (k := 0) (n := 0) hc hc.2 (Nat.le_of_ble_eq_true rfl)⟩ (Nat.le_of_ble_eq_true rfl) dX7_line_217 220 rfl ?_
    refine je_widen (cells2) (64 * (cells2)) (Nat.le_refl _) (jx_f30 (Nat.le_of_ble_eq_true rfl)) ?_
    obtain ⟨j220, hj9, h8⟩ := p_at_inv h
    clear h
    subst hj9
    have h := h8
    clear h8
    replace h := p_ob_inv h
    obtain ⟨V220, he, h⟩ := h
    refine je_cast C he rfl q840 dX7_line_220 223 rfl ?_
    refine je_aload_n C dX7_line_223 224 rfl 1 rfl ?_
    refine je_iload_n C dX7_line_224 225 rfl 0 rfl ?_
    replace h := p_ob_inv h
    obtain ⟨V225, he, h⟩ := h
    replace h := p_ex_inv h
    rcases h with ⟨z9, hg, hz1, rfl⟩ | ⟨u225, hg, hz1, hz2, h⟩
    · exact jx_callV (As := [.int x187]) (rest := [.ref (G.2.1 + j220)]) C (hmX7_there hg) he rfl hdX7_there rfl cwX7_156 rfl ⟨Nat.le_of_ble_eq_true rfl, Nat.le_of_ble_eq_true rfl⟩ ⟨rfl, rfl⟩ hc (Nat.le_refl _) (Nat.le_of_ble_eq_true rfl) hnt dX7_line_225 228 rfl hz1 (fun _ e9 => e9) (fun _ e9 => by cases e9)
    refine jx_callV (As := [.int x187]) (rest := [.ref (G.2.1 + j220)]) C (hmX7_there hg) he rfl hdX7_there rfl cwX7_156 rfl ⟨Nat.le_of_ble_eq_true rfl, Nat.le_of_ble_eq_true rfl⟩ ⟨rfl, rfl⟩ hc (Nat.le_refl _) (Nat.le_of_ble_eq_true rfl) hnt dX7_line_225 228 rfl hz1 (fun _ e9 => by cases e9) (fun z9 e9 cells2 hc2 => ?_)
    cases e9
    refine je_lti (x := u225.1) (st := [.ref (G.2.1 + j220)]) h ?_
    clear h
    intro x225 h
    refine jx_lt (t0 := u225.2) h ?_
    clear h
    intro t225 e2 h
    replace hc : c0 + cells2 = t225.2.2 ∧ t225.2.2 ≤ DC := jx_f7 e2 hc2 hz2
    clear e2 hc2 hz1 hz2 hg
    replace h := p_ob_inv h
    obtain ⟨V228, he, h⟩ := h
    refine je_putN (k := 2) (v := .int x225) C he rfl in_X9 tyX9 tyX9_ok nmX9 (by decide) q858 rfl rfl rfl rfl dX7_line_228 231 rfl ?_
    refine jx_lt h ?_
    clear h
    intro t228 e2 h
    replace hc : c0 + cells2 = t228.2.2 ∧ t228.2.2 ≤ DC := jx_f0 e2 hc
    clear e2
    refine je_goto C 802 dX7_line_231 rfl ?_
    cases h
    exact jx_ret hc.1 (Nat.le_refl _) (je_vret C dX7_line_802)
  clear h
  intro h
  replace h := p_pr_inv h
  obtain ⟨hb, h⟩ := h
  refine je_new C (ci := 19) rfl in_X8 tyX8 tyX8_ok q728 q729 q179 rfl (jx_f1 (k := 1) hc hb) (jx_f2 (k := 1) (n := 8) hc hb (Nat.le_of_ble_eq_true rfl)) dX7_line_196 199 rfl ?_
  refine je_widen (cells2 + 1) (64 * (cells2 + 1)) (Nat.le_refl _) (jx_f3 (Nat.le_of_ble_eq_true rfl)) ?_
  refine je_ltr h ?_
  clear h
  intro b196 h
  refine jx_lt h ?_
  clear h
  intro t196 e2 h
  replace hc : c0 + (cells2 + 1) = t196.2.2 ∧ t196.2.2 ≤ DC := jx_f4 (k := 1) e2 hc hb
  clear e2 hb
  refine je_dup C dX7_line_199 200 rfl rfl ?_
  refine je_iconst C (5) dX7_line_200 201 rfl ic_5 ?_
  refine je_aload_n C dX7_line_201 202 rfl 1 rfl ?_
  replace h := p_ob_inv h
  obtain ⟨V202, he, h⟩ := h
  replace h := p_vi_inv h
  obtain ⟨x202, hv, h⟩ := h
  refine je_get (k := 5) C he rfl in_X7 (by decide) q556 rfl dX7_line_202 205 rfl hv ?_
  replace h := p_cl_inv h
  obtain ⟨u205, hg, h⟩ := h
  refine je_callI (As := [.int (5 : Int32), .int x202]) (rest := [.ref (G.2.1 + b196)]) C (hmX8_init hg) hdX8_init rfl ccX7_96 rfl ⟨Nat.le_of_ble_eq_true rfl, Nat.le_of_ble_eq_true rfl⟩ ⟨jx_f1 (k := 0) hc hc.2, jx_f2 (k := 0) (n := 0) hc hc.2 (Nat.le_of_ble_eq_true rfl)⟩ (Nat.le_of_ble_eq_true rfl) dX7_line_205 208 rfl ?_
  refine je_widen (cells2 + 1) (64 * (cells2 + 1)) (Nat.le_refl _) (jx_f30 (Nat.le_of_ble_eq_true rfl)) ?_
  refine jx_lt (t0 := x_of u205 (t196.2.2 + 0)) h ?_
  clear h
  intro t205 e2 h
  replace hc : c0 + (cells2 + 1) = t205.2.2 ∧ t205.2.2 ≤ DC := jx_f80 (k := 0) e2 hc hc.2
  clear e2 hg
  replace h := p_ob_inv h
  obtain ⟨V208, he, h⟩ := h
  cases h
  exact jx_athrow C hnt he rfl hc.1 (Nat.le_refl _) dX7_line_208
set_option maxHeartbeats 4000000 in
theorem hwX7_line_169 {p : Program} {l : Launch} {e : Env} {s : State} {m : MethodId} {args : Array Value} {below : List Frame} {meth : Method} {c : Code} {G : je_G} {F : Nat} {c0 : Nat} {r9 : (Nat × hS) ⊕ (Unit × hS)} (C : Cx p s m args meth c G "MinistryDesks$Reader" cX7_line 4 none) (hnt : ∀ x ∈ c.exceptionTable.toList, False) (τ : hS) (a0 : Nat) (v1 : Int32) (s0 : Nat) (cells : Nat) (hc : c0 + cells = τ.2.2 ∧ τ.2.2 ≤ DC) (h : hbX7_line_169 G F τ a0 v1 s0 = some r9) : Js p l e ({ frames := 89, cells := DC - c0, slots := 64 * (DC - c0), locals := 2036 } : Room) s m args below meth c G 4 (xMQ below G (xV r9) args s c0) τ.1 (G.2.1 + τ.2.1) cells (64 * cells) 169 [(0, .ref (G.2.1 + a0)), (1, .int v1)] [.ref (G.2.1 + s0)] := by
  unfold hbX7_line_169 at h
  refine je_iconst C (0) dX7_line_169 170 rfl ic_0 ?_
  exact hwX7_line_170 C hnt τ a0 v1 (0 : Int32) s0 cells hc h
set_option maxHeartbeats 4000000 in
theorem hwX7_line_255 {p : Program} {l : Launch} {e : Env} {s : State} {m : MethodId} {args : Array Value} {below : List Frame} {meth : Method} {c : Code} {G : je_G} {F : Nat} {c0 : Nat} {r9 : (Nat × hS) ⊕ (Unit × hS)} (C : Cx p s m args meth c G "MinistryDesks$Reader" cX7_line 4 none) (hnt : ∀ x ∈ c.exceptionTable.toList, False) (τ : hS) (a0 : Nat) (s0 : Int32) (s1 : Nat) (cells : Nat) (hc : c0 + cells = τ.2.2 ∧ τ.2.2 ≤ DC) (h : hbX7_line_255 G F τ a0 s0 s1 = some r9) : Js p l e ({ frames := 89, cells := DC - c0, slots := 64 * (DC - c0), locals := 2036 } : Room) s m args below meth c G 4 (xMQ below G (xV r9) args s c0) τ.1 (G.2.1 + τ.2.1) cells (64 * cells) 255 [(0, .ref (G.2.1 + a0))] [.int s0, .ref (G.2.1 + s1)] := by
  unfold hbX7_line_255 at h
  replace h := p_ob_inv h
  obtain ⟨V255, he, h⟩ := h
  replace h := p_ex_inv h
  rcases h with ⟨z9, hg, hz1, rfl⟩ | ⟨u255, hg, hz1, hz2, h⟩
  · exact jx_callV (As := [.int s0]) (rest := []) C (hmX7_much hg) he rfl hdX7_much rfl cwX7_103 rfl ⟨Nat.le_of_ble_eq_true rfl, Nat.le_of_ble_eq_true rfl⟩ ⟨rfl, rfl⟩ hc (Nat.le_refl _) (Nat.le_of_ble_eq_true rfl) hnt dX7_line_255 258 rfl hz1 (fun _ e9 => e9) (fun _ e9 => by cases e9)
  refine jx_callV (As := [.int s0]) (rest := []) C (hmX7_much hg) he rfl hdX7_much rfl cwX7_103 rfl ⟨Nat.le_of_ble_eq_true rfl, Nat.le_of_ble_eq_true rfl⟩ ⟨rfl, rfl⟩ hc (Nat.le_refl _) (Nat.le_of_ble_eq_true rfl) hnt dX7_line_255 258 rfl hz1 (fun _ e9 => by cases e9) (fun z9 e9 cells2 hc2 => ?_)
  cases e9
  refine jx_lt (t0 := u255.2) h ?_
  clear h
  intro t255 e2 h
  replace hc : c0 + cells2 = t255.2.2 ∧ t255.2.2 ≤ DC := jx_f7 e2 hc2 hz2
  clear e2 hc2 hz1 hz2 hg
  refine je_aload_n C dX7_line_258 259 rfl 0 rfl ?_
  replace h := p_ob_inv h
  obtain ⟨V259, he, h⟩ := h
  replace h := p_cl_inv h
  obtain ⟨u259, hg, h⟩ := h
  refine je_callV (As := []) (rest := []) (o := none) C (hmX7_take hg) he rfl hdX7_take rfl cwX7_107 rfl ⟨Nat.le_of_ble_eq_true rfl, Nat.le_of_ble_eq_true rfl⟩ ⟨jx_f1 (k := 0) hc hc.2, jx_f2 (k := 0) (n := 0) hc hc.2 (Nat.le_of_ble_eq_true rfl)⟩ (Nat.le_of_ble_eq_true rfl) dX7_line_259 262 rfl ?_
  refine je_widen (cells2) (64 * (cells2)) (Nat.le_refl _) (jx_f30 (Nat.le_of_ble_eq_true rfl)) ?_
  refine jx_lt (t0 := x_of u259 (t255.2.2 + 0)) h ?_
  clear h
  intro t259 e2 h
  replace hc : c0 + (cells2) = t259.2.2 ∧ t259.2.2 ≤ DC := jx_f80 (k := 0) e2 hc hc.2
  clear e2 hg
  refine je_aload_n C dX7_line_262 263 rfl 0 rfl ?_
  refine je_aload_n C dX7_line_263 264 rfl 0 rfl ?_
  replace h := p_ob_inv h
  obtain ⟨V264, he, h⟩ := h
  replace h := p_vr_inv h
  obtain ⟨x264, hv, h⟩ := h
  refine je_get (k := 1) C he rfl in_X7 (by decide) q552 rfl dX7_line_264 267 rfl hv ?_
  refine je_aload_n C dX7_line_267 268 rfl 0 rfl ?_
  replace h := p_ob_inv h
  obtain ⟨V268, he, h⟩ := h
  replace h := p_ex_inv h
  rcases h with ⟨z9, hg, hz1, rfl⟩ | ⟨u268, hg, hz1, hz2, h⟩
  · exact jx_callV (As := []) (rest := [va_rf x264, .ref (G.2.1 + a0)]) C (hmX7_name hg) he rfl hdX7_name rfl cwX7_130 rfl ⟨Nat.le_of_ble_eq_true rfl, Nat.le_of_ble_eq_true rfl⟩ ⟨rfl, rfl⟩ hc (Nat.le_refl _) (by simp only [List.map_cons, List.map_nil, je_cat, List.sum_cons, List.sum_nil]; exact Nat.le_of_ble_eq_true rfl) hnt dX7_line_268 271 rfl hz1 (fun _ e9 => e9) (fun _ e9 => by cases e9)
  refine jx_callV (As := []) (rest := [va_rf x264, .ref (G.2.1 + a0)]) C (hmX7_name hg) he rfl hdX7_name rfl cwX7_130 rfl ⟨Nat.le_of_ble_eq_true rfl, Nat.le_of_ble_eq_true rfl⟩ ⟨rfl, rfl⟩ hc (Nat.le_refl _) (by simp only [List.map_cons, List.map_nil, je_cat, List.sum_cons, List.sum_nil]; exact Nat.le_of_ble_eq_true rfl) hnt dX7_line_268 271 rfl hz1 (fun _ e9 => by cases e9) (fun z9 e9 cells2 hc2 => ?_)
  cases e9
  refine je_lti (x := u268.1) (st := [va_rf x264, .ref (G.2.1 + a0)]) h ?_
  clear h
  intro x268 h
  refine jx_lt (t0 := u268.2) h ?_
  clear h
  intro t268 e2 h
  replace hc : c0 + cells2 = t268.2.2 ∧ t268.2.2 ≤ DC := jx_f7 e2 hc2 hz2
  clear e2 hc2 hz1 hz2 hg
  obtain ⟨j271, hj9, h8⟩ := p_at_inv h
  clear h
  subst hj9
  have h := h8
  clear h8
  replace h := p_ob_inv h
  obtain ⟨V271, he, h⟩ := h
  replace h := p_cl_inv h
  obtain ⟨x271, hg, h⟩ := h
  refine je_callV (As := [.int x268]) (rest := [.ref (G.2.1 + a0)]) (o := (some (.int x271))) C (hmX2_fact hg) he rfl hdX2_fact rfl cwX7_162 rfl ⟨Nat.le_of_ble_eq_true rfl, Nat.le_of_ble_eq_true rfl⟩ ⟨jx_f1 (k := 0) hc hc.2, jx_f2 (k := 0) (n := 0) hc hc.2 (Nat.le_of_ble_eq_true rfl)⟩ (Nat.le_of_ble_eq_true rfl) dX7_line_271 274 rfl ?_
  refine je_widen (cells2) (64 * (cells2)) (Nat.le_refl _) (jx_f30 (Nat.le_of_ble_eq_true rfl)) ?_
  replace h := p_ob_inv h
  obtain ⟨V274, he, h⟩ := h
  replace h := p_ex_inv h
  rcases h with ⟨z9, hg, hz1, rfl⟩ | ⟨u274, hg, hz1, hz2, h⟩
  · exact jx_callV (As := [.int x271]) (rest := []) C (hmX7_newName hg) he rfl hdX7_newName rfl cwX7_136 rfl ⟨Nat.le_of_ble_eq_true rfl, Nat.le_of_ble_eq_true rfl⟩ ⟨rfl, rfl⟩ hc (Nat.le_refl _) (Nat.le_of_ble_eq_true rfl) hnt dX7_line_274 277 rfl hz1 (fun _ e9 => e9) (fun _ e9 => by cases e9)
  refine jx_callV (As := [.int x271]) (rest := []) C (hmX7_newName hg) he rfl hdX7_newName rfl cwX7_136 rfl ⟨Nat.le_of_ble_eq_true rfl, Nat.le_of_ble_eq_true rfl⟩ ⟨rfl, rfl⟩ hc (Nat.le_refl _) (Nat.le_of_ble_eq_true rfl) hnt dX7_line_274 277 rfl hz1 (fun _ e9 => by cases e9) (fun z9 e9 cells2 hc2 => ?_)
  cases e9
  refine je_lti (x := u274.1) (st := []) h ?_
  clear h
  intro x274 h
  refine jx_lt (t0 := u274.2) h ?_
  clear h
  intro t274 e2 h
  replace hc : c0 + cells2 = t274.2.2 ∧ t274.2.2 ≤ DC := jx_f7 e2 hc2 hz2
  clear e2 hc2 hz1 hz2 hg
  refine je_istore_n C dX7_line_277 278 rfl (Nat.le_of_ble_eq_true rfl) [(1, .int x274), (0, .ref (G.2.1 + a0))] rfl ?_
  refine je_aload_n C dX7_line_278 279 rfl 1 rfl ?_
  replace h := p_ob_inv h
  obtain ⟨V279, he, h⟩ := h
  replace h := p_vr_inv h
  obtain ⟨x279, hv, h⟩ := h
  refine je_get (k := 1) C he rfl in_X7 (by decide) q552 rfl dX7_line_279 282 rfl hv ?_
  obtain ⟨j282, hj9, h8⟩ := p_at_inv h
  clear h
  subst hj9
  have h := h8
  clear h8
  replace h := p_ob_inv h
  obtain ⟨V282, he, h⟩ := h
  replace h := p_vr_inv h
  obtain ⟨x282, hv, h⟩ := h
  refine je_getN (k := 1) C he rfl in_X2 (by decide) q250 rfl dX7_line_282 285 rfl hv ?_
  replace h := p_pr_inv h
  obtain ⟨hb, h⟩ := h
  refine je_new C (ci := 7) rfl in_X10 tyX10 tyX10_ok q943 q944 q186 rfl (jx_f1 (k := 1) hc hb) (jx_f2 (k := 1) (n := 2) hc hb (Nat.le_of_ble_eq_true rfl)) dX7_line_285 288 rfl ?_
  refine je_widen (cells2 + 1) (64 * (cells2 + 1)) (Nat.le_refl _) (jx_f3 (Nat.le_of_ble_eq_true rfl)) ?_
  refine je_ltr h ?_
  clear h
  intro b285 h
  refine jx_lt h ?_
  clear h
  intro t285 e2 h
  replace hc : c0 + (cells2 + 1) = t285.2.2 ∧ t285.2.2 ≤ DC := jx_f4 (k := 1) e2 hc hb
  clear e2 hb
  refine je_dup C dX7_line_288 289 rfl rfl ?_
  refine je_iload_n C dX7_line_289 290 rfl 0 rfl ?_
  refine je_aload_n C dX7_line_290 291 rfl 1 rfl ?_
  refine je_iconst C (0) dX7_line_291 292 rfl ic_0 ?_
  refine je_bipush C (99) dX7_line_292 294 rfl bp_99 ?_
  replace h := p_ob_inv h
  obtain ⟨V294, he, h⟩ := h
  replace h := p_ex_inv h
  rcases h with ⟨z9, hg, hz1, rfl⟩ | ⟨u294, hg, hz1, hz2, h⟩
  · exact jx_callV (As := [.int (0 : Int32), .int (99 : Int32)]) (rest := [.int x274, .ref (G.2.1 + b285), .ref (G.2.1 + b285), va_rf x282]) C (hmX7_number hg) he rfl hdX7_number rfl cwX7_141 rfl ⟨Nat.le_of_ble_eq_true rfl, Nat.le_of_ble_eq_true rfl⟩ ⟨rfl, rfl⟩ hc (Nat.le_refl _) (by simp only [List.map_cons, List.map_nil, je_cat, List.sum_cons, List.sum_nil]; exact Nat.le_of_ble_eq_true rfl) hnt dX7_line_294 297 rfl hz1 (fun _ e9 => e9) (fun _ e9 => by cases e9)
  refine jx_callV (As := [.int (0 : Int32), .int (99 : Int32)]) (rest := [.int x274, .ref (G.2.1 + b285), .ref (G.2.1 + b285), va_rf x282]) C (hmX7_number hg) he rfl hdX7_number rfl cwX7_141 rfl ⟨Nat.le_of_ble_eq_true rfl, Nat.le_of_ble_eq_true rfl⟩ ⟨rfl, rfl⟩ hc (Nat.le_refl _) (by simp only [List.map_cons, List.map_nil, je_cat, List.sum_cons, List.sum_nil]; exact Nat.le_of_ble_eq_true rfl) hnt dX7_line_294 297 rfl hz1 (fun _ e9 => by cases e9) (fun z9 e9 cells2 hc2 => ?_)
  cases e9
  refine je_lti (x := u294.1) (st := [.int x274, .ref (G.2.1 + b285), .ref (G.2.1 + b285), va_rf x282]) h ?_
  clear h
  intro x294 h
  refine jx_lt (t0 := u294.2) h ?_
  clear h
  intro t294 e2 h
  replace hc : c0 + cells2 = t294.2.2 ∧ t294.2.2 ≤ DC := jx_f7 e2 hc2 hz2
  clear e2 hc2 hz1 hz2 hg
  replace h := p_cl_inv h
  obtain ⟨u297, hg, h⟩ := h
  refine je_callIN (As := [.int x274, .int x294]) (rest := [.ref (G.2.1 + b285), va_rf x282]) C (hmX10_init hg) hdX10_init rfl ccX7_167 rfl ⟨Nat.le_of_ble_eq_true rfl, Nat.le_of_ble_eq_true rfl⟩ ⟨jx_f1 (k := 0) hc hc.2, jx_f2 (k := 0) (n := 0) hc hc.2 (Nat.le_of_ble_eq_true rfl)⟩ (by simp only [List.map_cons, List.map_nil, je_cat, List.sum_cons, List.sum_nil]; exact Nat.le_of_ble_eq_true rfl) dX7_line_297 300 rfl ?_
  refine je_widen (cells2) (64 * (cells2)) (Nat.le_refl _) (jx_f30 (Nat.le_of_ble_eq_true rfl)) ?_
  refine jx_lt (t0 := x_of u297 (t294.2.2 + 0)) h ?_
  clear h
  intro t297 e2 h
  replace hc : c0 + (cells2) = t297.2.2 ∧ t297.2.2 ≤ DC := jx_f80 (k := 0) e2 hc hc.2
  clear e2 hg
  obtain ⟨j300, hj9, h8⟩ := p_at_inv h
  clear h
  subst hj9
  have h := h8
  clear h8
  replace h := p_ob_inv h
  obtain ⟨V300, he, h⟩ := h
  replace h := p_pr_inv h
  obtain ⟨hb, h⟩ := h
  replace h := p_cl_inv h
  obtain ⟨u300, hg, h⟩ := h
  refine je_callV (As := [.ref (G.2.1 + b285)]) (rest := []) (o := (some (.int u300.1))) C (hmJ2_add hg) he rfl hdJ2_add rfl cwX7_145 rfl ⟨Nat.le_of_ble_eq_true rfl, Nat.le_of_ble_eq_true rfl⟩ ⟨jx_f1 (k := 1) hc hb, jx_f2 (k := 1) (n := 40) hc hb (Nat.le_of_ble_eq_true rfl)⟩ (Nat.le_of_ble_eq_true rfl) dX7_line_300 303 rfl ?_
  refine je_widen (cells2 + 1) (64 * (cells2 + 1)) (Nat.le_refl _) (jx_f3 (Nat.le_of_ble_eq_true rfl)) ?_
  refine je_lti (x := u300.1) (st := []) h ?_
  clear h
  intro x300 h
  refine jx_lt (t0 := x_of u300.2 (t297.2.2 + 1)) h ?_
  clear h
  intro t300 e2 h
  replace hc : c0 + (cells2 + 1) = t300.2.2 ∧ t300.2.2 ≤ DC := jx_f8 (k := 1) e2 hc hb
  clear e2 hg hb
  refine je_pop C dX7_line_303 304 rfl rfl ?_
  refine je_goto C 802 dX7_line_304 rfl ?_
  cases h
  exact jx_ret hc.1 (Nat.le_refl _) (je_vret C dX7_line_802)
set_option maxHeartbeats 4000000 in
theorem hwX7_line_328 {p : Program} {l : Launch} {e : Env} {s : State} {m : MethodId} {args : Array Value} {below : List Frame} {meth : Method} {c : Code} {G : je_G} {F : Nat} {c0 : Nat} {r9 : (Nat × hS) ⊕ (Unit × hS)} (C : Cx p s m args meth c G "MinistryDesks$Reader" cX7_line 4 none) (hnt : ∀ x ∈ c.exceptionTable.toList, False) (τ : hS) (a0 : Nat) (s0 : Int32) (s1 : Nat) (cells : Nat) (hc : c0 + cells = τ.2.2 ∧ τ.2.2 ≤ DC) (h : hbX7_line_328 G F τ a0 s0 s1 = some r9) : Js p l e ({ frames := 89, cells := DC - c0, slots := 64 * (DC - c0), locals := 2036 } : Room) s m args below meth c G 4 (xMQ below G (xV r9) args s c0) τ.1 (G.2.1 + τ.2.1) cells (64 * cells) 328 [(0, .ref (G.2.1 + a0))] [.int s0, .ref (G.2.1 + s1)] := by
  unfold hbX7_line_328 at h
  replace h := p_ob_inv h
  obtain ⟨V328, he, h⟩ := h
  replace h := p_ex_inv h
  rcases h with ⟨z9, hg, hz1, rfl⟩ | ⟨u328, hg, hz1, hz2, h⟩
  · exact jx_callV (As := [.int s0]) (rest := []) C (hmX7_much hg) he rfl hdX7_much rfl cwX7_103 rfl ⟨Nat.le_of_ble_eq_true rfl, Nat.le_of_ble_eq_true rfl⟩ ⟨rfl, rfl⟩ hc (Nat.le_refl _) (Nat.le_of_ble_eq_true rfl) hnt dX7_line_328 331 rfl hz1 (fun _ e9 => e9) (fun _ e9 => by cases e9)
  refine jx_callV (As := [.int s0]) (rest := []) C (hmX7_much hg) he rfl hdX7_much rfl cwX7_103 rfl ⟨Nat.le_of_ble_eq_true rfl, Nat.le_of_ble_eq_true rfl⟩ ⟨rfl, rfl⟩ hc (Nat.le_refl _) (Nat.le_of_ble_eq_true rfl) hnt dX7_line_328 331 rfl hz1 (fun _ e9 => by cases e9) (fun z9 e9 cells2 hc2 => ?_)
  cases e9
  refine jx_lt (t0 := u328.2) h ?_
  clear h
  intro t328 e2 h
  replace hc : c0 + cells2 = t328.2.2 ∧ t328.2.2 ≤ DC := jx_f7 e2 hc2 hz2
  clear e2 hc2 hz1 hz2 hg
  refine je_aload_n C dX7_line_331 332 rfl 0 rfl ?_
  replace h := p_ob_inv h
  obtain ⟨V332, he, h⟩ := h
  replace h := p_cl_inv h
  obtain ⟨u332, hg, h⟩ := h
  refine je_callV (As := []) (rest := []) (o := none) C (hmX7_take hg) he rfl hdX7_take rfl cwX7_107 rfl ⟨Nat.le_of_ble_eq_true rfl, Nat.le_of_ble_eq_true rfl⟩ ⟨jx_f1 (k := 0) hc hc.2, jx_f2 (k := 0) (n := 0) hc hc.2 (Nat.le_of_ble_eq_true rfl)⟩ (Nat.le_of_ble_eq_true rfl) dX7_line_332 335 rfl ?_
  refine je_widen (cells2) (64 * (cells2)) (Nat.le_refl _) (jx_f30 (Nat.le_of_ble_eq_true rfl)) ?_
  refine jx_lt (t0 := x_of u332 (t328.2.2 + 0)) h ?_
  clear h
  intro t332 e2 h
  replace hc : c0 + (cells2) = t332.2.2 ∧ t332.2.2 ≤ DC := jx_f80 (k := 0) e2 hc hc.2
  clear e2 hg
  refine je_aload_n C dX7_line_335 336 rfl 0 rfl ?_
  refine je_iconst C (0) dX7_line_336 337 rfl ic_0 ?_
  refine je_bipush C (60) dX7_line_337 339 rfl bp_60 ?_
  replace h := p_ob_inv h
  obtain ⟨V339, he, h⟩ := h
  replace h := p_ex_inv h
  rcases h with ⟨z9, hg, hz1, rfl⟩ | ⟨u339, hg, hz1, hz2, h⟩
  · exact jx_callV (As := [.int (0 : Int32), .int (60 : Int32)]) (rest := []) C (hmX7_number hg) he rfl hdX7_number rfl cwX7_141 rfl ⟨Nat.le_of_ble_eq_true rfl, Nat.le_of_ble_eq_true rfl⟩ ⟨rfl, rfl⟩ hc (Nat.le_refl _) (Nat.le_of_ble_eq_true rfl) hnt dX7_line_339 342 rfl hz1 (fun _ e9 => e9) (fun _ e9 => by cases e9)
  refine jx_callV (As := [.int (0 : Int32), .int (60 : Int32)]) (rest := []) C (hmX7_number hg) he rfl hdX7_number rfl cwX7_141 rfl ⟨Nat.le_of_ble_eq_true rfl, Nat.le_of_ble_eq_true rfl⟩ ⟨rfl, rfl⟩ hc (Nat.le_refl _) (Nat.le_of_ble_eq_true rfl) hnt dX7_line_339 342 rfl hz1 (fun _ e9 => by cases e9) (fun z9 e9 cells2 hc2 => ?_)
  cases e9
  refine je_lti (x := u339.1) (st := []) h ?_
  clear h
  intro x339 h
  refine jx_lt (t0 := u339.2) h ?_
  clear h
  intro t339 e2 h
  replace hc : c0 + cells2 = t339.2.2 ∧ t339.2.2 ≤ DC := jx_f7 e2 hc2 hz2
  clear e2 hc2 hz1 hz2 hg
  refine je_istore_n C dX7_line_342 343 rfl (Nat.le_of_ble_eq_true rfl) [(1, .int x339), (0, .ref (G.2.1 + a0))] rfl ?_
  refine je_aload_n C dX7_line_343 344 rfl 1 rfl ?_
  refine je_aload_n C dX7_line_344 345 rfl 1 rfl ?_
  replace h := p_ob_inv h
  obtain ⟨V345, he, h⟩ := h
  replace h := p_vr_inv h
  obtain ⟨x345, hv, h⟩ := h
  refine je_get (k := 1) C he rfl in_X7 (by decide) q552 rfl dX7_line_345 348 rfl hv ?_
  refine je_aload_n C dX7_line_348 349 rfl 1 rfl ?_
  replace h := p_ob_inv h
  obtain ⟨V349, he, h⟩ := h
  replace h := p_ex_inv h
  rcases h with ⟨z9, hg, hz1, rfl⟩ | ⟨u349, hg, hz1, hz2, h⟩
  · exact jx_callV (As := []) (rest := [va_rf x345, .ref (G.2.1 + a0)]) C (hmX7_name hg) he rfl hdX7_name rfl cwX7_130 rfl ⟨Nat.le_of_ble_eq_true rfl, Nat.le_of_ble_eq_true rfl⟩ ⟨rfl, rfl⟩ hc (Nat.le_refl _) (by simp only [List.map_cons, List.map_nil, je_cat, List.sum_cons, List.sum_nil]; exact Nat.le_of_ble_eq_true rfl) hnt dX7_line_349 352 rfl hz1 (fun _ e9 => e9) (fun _ e9 => by cases e9)
  refine jx_callV (As := []) (rest := [va_rf x345, .ref (G.2.1 + a0)]) C (hmX7_name hg) he rfl hdX7_name rfl cwX7_130 rfl ⟨Nat.le_of_ble_eq_true rfl, Nat.le_of_ble_eq_true rfl⟩ ⟨rfl, rfl⟩ hc (Nat.le_refl _) (by simp only [List.map_cons, List.map_nil, je_cat, List.sum_cons, List.sum_nil]; exact Nat.le_of_ble_eq_true rfl) hnt dX7_line_349 352 rfl hz1 (fun _ e9 => by cases e9) (fun z9 e9 cells2 hc2 => ?_)
  cases e9
  refine je_lti (x := u349.1) (st := [va_rf x345, .ref (G.2.1 + a0)]) h ?_
  clear h
  intro x349 h
  refine jx_lt (t0 := u349.2) h ?_
  clear h
  intro t349 e2 h
  replace hc : c0 + cells2 = t349.2.2 ∧ t349.2.2 ≤ DC := jx_f7 e2 hc2 hz2
  clear e2 hc2 hz1 hz2 hg
  obtain ⟨j352, hj9, h8⟩ := p_at_inv h
  clear h
  subst hj9
  have h := h8
  clear h8
  replace h := p_ob_inv h
  obtain ⟨V352, he, h⟩ := h
  replace h := p_cl_inv h
  obtain ⟨x352, hg, h⟩ := h
  refine je_callV (As := [.int x349]) (rest := [.ref (G.2.1 + a0)]) (o := (some (.int x352))) C (hmX2_desk hg) he rfl hdX2_desk rfl cwX7_133 rfl ⟨Nat.le_of_ble_eq_true rfl, Nat.le_of_ble_eq_true rfl⟩ ⟨jx_f1 (k := 0) hc hc.2, jx_f2 (k := 0) (n := 0) hc hc.2 (Nat.le_of_ble_eq_true rfl)⟩ (Nat.le_of_ble_eq_true rfl) dX7_line_352 355 rfl ?_
  refine je_widen (cells2) (64 * (cells2)) (Nat.le_refl _) (jx_f30 (Nat.le_of_ble_eq_true rfl)) ?_
  replace h := p_ob_inv h
  obtain ⟨V355, he, h⟩ := h
  replace h := p_ex_inv h
  rcases h with ⟨z9, hg, hz1, rfl⟩ | ⟨u355, hg, hz1, hz2, h⟩
  · exact jx_callV (As := [.int x352]) (rest := []) C (hmX7_there hg) he rfl hdX7_there rfl cwX7_156 rfl ⟨Nat.le_of_ble_eq_true rfl, Nat.le_of_ble_eq_true rfl⟩ ⟨rfl, rfl⟩ hc (Nat.le_refl _) (Nat.le_of_ble_eq_true rfl) hnt dX7_line_355 358 rfl hz1 (fun _ e9 => e9) (fun _ e9 => by cases e9)
  refine jx_callV (As := [.int x352]) (rest := []) C (hmX7_there hg) he rfl hdX7_there rfl cwX7_156 rfl ⟨Nat.le_of_ble_eq_true rfl, Nat.le_of_ble_eq_true rfl⟩ ⟨rfl, rfl⟩ hc (Nat.le_refl _) (Nat.le_of_ble_eq_true rfl) hnt dX7_line_355 358 rfl hz1 (fun _ e9 => by cases e9) (fun z9 e9 cells2 hc2 => ?_)
  cases e9
  refine je_lti (x := u355.1) (st := []) h ?_
  clear h
  intro x355 h
  refine jx_lt (t0 := u355.2) h ?_
  clear h
  intro t355 e2 h
  replace hc : c0 + cells2 = t355.2.2 ∧ t355.2.2 ≤ DC := jx_f7 e2 hc2 hz2
  clear e2 hc2 hz1 hz2 hg
  refine je_istore_n C dX7_line_358 359 rfl (Nat.le_of_ble_eq_true rfl) [(2, .int x355), (1, .int x339), (0, .ref (G.2.1 + a0))] rfl ?_
  refine je_aload_n C dX7_line_359 360 rfl 2 rfl ?_
  refine je_aload_n C dX7_line_360 361 rfl 2 rfl ?_
  replace h := p_ob_inv h
  obtain ⟨V361, he, h⟩ := h
  replace h := p_vr_inv h
  obtain ⟨x361, hv, h⟩ := h
  refine je_get (k := 1) C he rfl in_X7 (by decide) q552 rfl dX7_line_361 364 rfl hv ?_
  refine je_aload_n C dX7_line_364 365 rfl 2 rfl ?_
  replace h := p_ob_inv h
  obtain ⟨V365, he, h⟩ := h
  replace h := p_ex_inv h
  rcases h with ⟨z9, hg, hz1, rfl⟩ | ⟨u365, hg, hz1, hz2, h⟩
  · exact jx_callV (As := []) (rest := [va_rf x361, .ref (G.2.1 + a0)]) C (hmX7_name hg) he rfl hdX7_name rfl cwX7_130 rfl ⟨Nat.le_of_ble_eq_true rfl, Nat.le_of_ble_eq_true rfl⟩ ⟨rfl, rfl⟩ hc (Nat.le_refl _) (by simp only [List.map_cons, List.map_nil, je_cat, List.sum_cons, List.sum_nil]; exact Nat.le_of_ble_eq_true rfl) hnt dX7_line_365 368 rfl hz1 (fun _ e9 => e9) (fun _ e9 => by cases e9)
  refine jx_callV (As := []) (rest := [va_rf x361, .ref (G.2.1 + a0)]) C (hmX7_name hg) he rfl hdX7_name rfl cwX7_130 rfl ⟨Nat.le_of_ble_eq_true rfl, Nat.le_of_ble_eq_true rfl⟩ ⟨rfl, rfl⟩ hc (Nat.le_refl _) (by simp only [List.map_cons, List.map_nil, je_cat, List.sum_cons, List.sum_nil]; exact Nat.le_of_ble_eq_true rfl) hnt dX7_line_365 368 rfl hz1 (fun _ e9 => by cases e9) (fun z9 e9 cells2 hc2 => ?_)
  cases e9
  refine je_lti (x := u365.1) (st := [va_rf x361, .ref (G.2.1 + a0)]) h ?_
  clear h
  intro x365 h
  refine jx_lt (t0 := u365.2) h ?_
  clear h
  intro t365 e2 h
  replace hc : c0 + cells2 = t365.2.2 ∧ t365.2.2 ≤ DC := jx_f7 e2 hc2 hz2
  clear e2 hc2 hz1 hz2 hg
  obtain ⟨j368, hj9, h8⟩ := p_at_inv h
  clear h
  subst hj9
  have h := h8
  clear h8
  replace h := p_ob_inv h
  obtain ⟨V368, he, h⟩ := h
  replace h := p_cl_inv h
  obtain ⟨x368, hg, h⟩ := h
  refine je_callV (As := [.int x365]) (rest := [.ref (G.2.1 + a0)]) (o := (some (.int x368))) C (hmX2_fact hg) he rfl hdX2_fact rfl cwX7_162 rfl ⟨Nat.le_of_ble_eq_true rfl, Nat.le_of_ble_eq_true rfl⟩ ⟨jx_f1 (k := 0) hc hc.2, jx_f2 (k := 0) (n := 0) hc hc.2 (Nat.le_of_ble_eq_true rfl)⟩ (Nat.le_of_ble_eq_true rfl) dX7_line_368 371 rfl ?_
  refine je_widen (cells2) (64 * (cells2)) (Nat.le_refl _) (jx_f30 (Nat.le_of_ble_eq_true rfl)) ?_
  replace h := p_ob_inv h
  obtain ⟨V371, he, h⟩ := h
  replace h := p_ex_inv h
  rcases h with ⟨z9, hg, hz1, rfl⟩ | ⟨u371, hg, hz1, hz2, h⟩
  · exact jx_callV (As := [.int x368]) (rest := []) C (hmX7_there hg) he rfl hdX7_there rfl cwX7_156 rfl ⟨Nat.le_of_ble_eq_true rfl, Nat.le_of_ble_eq_true rfl⟩ ⟨rfl, rfl⟩ hc (Nat.le_refl _) (Nat.le_of_ble_eq_true rfl) hnt dX7_line_371 374 rfl hz1 (fun _ e9 => e9) (fun _ e9 => by cases e9)
  refine jx_callV (As := [.int x368]) (rest := []) C (hmX7_there hg) he rfl hdX7_there rfl cwX7_156 rfl ⟨Nat.le_of_ble_eq_true rfl, Nat.le_of_ble_eq_true rfl⟩ ⟨rfl, rfl⟩ hc (Nat.le_refl _) (Nat.le_of_ble_eq_true rfl) hnt dX7_line_371 374 rfl hz1 (fun _ e9 => by cases e9) (fun z9 e9 cells2 hc2 => ?_)
  cases e9
  refine je_lti (x := u371.1) (st := []) h ?_
  clear h
  intro x371 h
  refine jx_lt (t0 := u371.2) h ?_
  clear h
  intro t371 e2 h
  replace hc : c0 + cells2 = t371.2.2 ∧ t371.2.2 ≤ DC := jx_f7 e2 hc2 hz2
  clear e2 hc2 hz1 hz2 hg
  refine je_istore_n C dX7_line_374 375 rfl (Nat.le_of_ble_eq_true rfl) [(3, .int x371), (2, .int x355), (1, .int x339), (0, .ref (G.2.1 + a0))] rfl ?_
  refine je_aload_n C dX7_line_375 376 rfl 3 rfl ?_
  replace h := p_ob_inv h
  obtain ⟨V376, he, h⟩ := h
  replace h := p_vr_inv h
  obtain ⟨x376, hv, h⟩ := h
  refine je_get (k := 1) C he rfl in_X7 (by decide) q552 rfl dX7_line_376 379 rfl hv ?_
  obtain ⟨j379, hj9, h8⟩ := p_at_inv h
  clear h
  subst hj9
  have h := h8
  clear h8
  replace h := p_ob_inv h
  obtain ⟨V379, he, h⟩ := h
  replace h := p_vr_inv h
  obtain ⟨x379, hv, h⟩ := h
  refine je_getN (k := 2) C he rfl in_X2 (by decide) q254 rfl dX7_line_379 382 rfl hv ?_
  replace h := p_pr_inv h
  obtain ⟨hb, h⟩ := h
  refine je_new C (ci := 8) rfl in_X11 tyX11 tyX11_ok q961 q962 q187 rfl (jx_f1 (k := 1) hc hb) (jx_f2 (k := 1) (n := 4) hc hb (Nat.le_of_ble_eq_true rfl)) dX7_line_382 385 rfl ?_
  refine je_widen (cells2 + 1) (64 * (cells2 + 1)) (Nat.le_refl _) (jx_f3 (Nat.le_of_ble_eq_true rfl)) ?_
  refine je_ltr h ?_
  clear h
  intro b382 h
  refine jx_lt h ?_
  clear h
  intro t382 e2 h
  replace hc : c0 + (cells2 + 1) = t382.2.2 ∧ t382.2.2 ≤ DC := jx_f4 (k := 1) e2 hc hb
  clear e2 hb
  refine je_dup C dX7_line_385 386 rfl rfl ?_
  refine je_iload_n C dX7_line_386 387 rfl 2 rfl ?_
  refine je_iload_n C dX7_line_387 388 rfl 1 rfl ?_
  refine je_iload_n C dX7_line_388 389 rfl 0 rfl ?_
  refine je_aload_n C dX7_line_389 390 rfl 3 rfl ?_
  refine je_iload_n C dX7_line_390 391 rfl 2 rfl ?_
  refine je_bipush C (99) dX7_line_391 393 rfl bp_99 ?_
  replace h := p_ob_inv h
  obtain ⟨V393, he, h⟩ := h
  replace h := p_ex_inv h
  rcases h with ⟨z9, hg, hz1, rfl⟩ | ⟨u393, hg, hz1, hz2, h⟩
  · exact jx_callV (As := [.int x339, .int (99 : Int32)]) (rest := [.int x371, .int x355, .int x339, .ref (G.2.1 + b382), .ref (G.2.1 + b382), va_rf x379]) C (hmX7_number hg) he rfl hdX7_number rfl cwX7_141 rfl ⟨Nat.le_of_ble_eq_true rfl, Nat.le_of_ble_eq_true rfl⟩ ⟨rfl, rfl⟩ hc (Nat.le_refl _) (by simp only [List.map_cons, List.map_nil, je_cat, List.sum_cons, List.sum_nil]; exact Nat.le_of_ble_eq_true rfl) hnt dX7_line_393 396 rfl hz1 (fun _ e9 => e9) (fun _ e9 => by cases e9)
  refine jx_callV (As := [.int x339, .int (99 : Int32)]) (rest := [.int x371, .int x355, .int x339, .ref (G.2.1 + b382), .ref (G.2.1 + b382), va_rf x379]) C (hmX7_number hg) he rfl hdX7_number rfl cwX7_141 rfl ⟨Nat.le_of_ble_eq_true rfl, Nat.le_of_ble_eq_true rfl⟩ ⟨rfl, rfl⟩ hc (Nat.le_refl _) (by simp only [List.map_cons, List.map_nil, je_cat, List.sum_cons, List.sum_nil]; exact Nat.le_of_ble_eq_true rfl) hnt dX7_line_393 396 rfl hz1 (fun _ e9 => by cases e9) (fun z9 e9 cells2 hc2 => ?_)
  cases e9
  refine je_lti (x := u393.1) (st := [.int x371, .int x355, .int x339, .ref (G.2.1 + b382), .ref (G.2.1 + b382), va_rf x379]) h ?_
  clear h
  intro x393 h
  refine jx_lt (t0 := u393.2) h ?_
  clear h
  intro t393 e2 h
  replace hc : c0 + cells2 = t393.2.2 ∧ t393.2.2 ≤ DC := jx_f7 e2 hc2 hz2
  clear e2 hc2 hz1 hz2 hg
  replace h := p_cl_inv h
  obtain ⟨u396, hg, h⟩ := h
  refine je_callIN (As := [.int x339, .int x355, .int x371, .int x393]) (rest := [.ref (G.2.1 + b382), va_rf x379]) C (hmX11_init hg) hdX11_init rfl ccX7_173 rfl ⟨Nat.le_of_ble_eq_true rfl, Nat.le_of_ble_eq_true rfl⟩ ⟨jx_f1 (k := 0) hc hc.2, jx_f2 (k := 0) (n := 0) hc hc.2 (Nat.le_of_ble_eq_true rfl)⟩ (by simp only [List.map_cons, List.map_nil, je_cat, List.sum_cons, List.sum_nil]; exact Nat.le_of_ble_eq_true rfl) dX7_line_396 399 rfl ?_
  refine je_widen (cells2) (64 * (cells2)) (Nat.le_refl _) (jx_f30 (Nat.le_of_ble_eq_true rfl)) ?_
  refine jx_lt (t0 := x_of u396 (t393.2.2 + 0)) h ?_
  clear h
  intro t396 e2 h
  replace hc : c0 + (cells2) = t396.2.2 ∧ t396.2.2 ≤ DC := jx_f80 (k := 0) e2 hc hc.2
  clear e2 hg
  obtain ⟨j399, hj9, h8⟩ := p_at_inv h
  clear h
  subst hj9
  have h := h8
  clear h8
  replace h := p_ob_inv h
  obtain ⟨V399, he, h⟩ := h
  replace h := p_pr_inv h
  obtain ⟨hb, h⟩ := h
  replace h := p_cl_inv h
  obtain ⟨u399, hg, h⟩ := h
  refine je_callV (As := [.ref (G.2.1 + b382)]) (rest := []) (o := (some (.int u399.1))) C (hmJ2_add hg) he rfl hdJ2_add rfl cwX7_145 rfl ⟨Nat.le_of_ble_eq_true rfl, Nat.le_of_ble_eq_true rfl⟩ ⟨jx_f1 (k := 1) hc hb, jx_f2 (k := 1) (n := 40) hc hb (Nat.le_of_ble_eq_true rfl)⟩ (Nat.le_of_ble_eq_true rfl) dX7_line_399 402 rfl ?_
  refine je_widen (cells2 + 1) (64 * (cells2 + 1)) (Nat.le_refl _) (jx_f3 (Nat.le_of_ble_eq_true rfl)) ?_
  refine je_lti (x := u399.1) (st := []) h ?_
  clear h
  intro x399 h
  refine jx_lt (t0 := x_of u399.2 (t396.2.2 + 1)) h ?_
  clear h
  intro t399 e2 h
  replace hc : c0 + (cells2 + 1) = t399.2.2 ∧ t399.2.2 ≤ DC := jx_f8 (k := 1) e2 hc hb
  clear e2 hg hb
  refine je_pop C dX7_line_402 403 rfl rfl ?_
  refine je_goto C 802 dX7_line_403 rfl ?_
  cases h
  exact jx_ret hc.1 (Nat.le_refl _) (je_vret C dX7_line_802)
set_option maxHeartbeats 4000000 in
theorem hwX7_line_427 {p : Program} {l : Launch} {e : Env} {s : State} {m : MethodId} {args : Array Value} {below : List Frame} {meth : Method} {c : Code} {G : je_G} {F : Nat} {c0 : Nat} {r9 : (Nat × hS) ⊕ (Unit × hS)} (C : Cx p s m args meth c G "MinistryDesks$Reader" cX7_line 4 none) (hnt : ∀ x ∈ c.exceptionTable.toList, False) (τ : hS) (a0 : Nat) (s0 : Int32) (s1 : Nat) (cells : Nat) (hc : c0 + cells = τ.2.2 ∧ τ.2.2 ≤ DC) (h : hbX7_line_427 G F τ a0 s0 s1 = some r9) : Js p l e ({ frames := 89, cells := DC - c0, slots := 64 * (DC - c0), locals := 2036 } : Room) s m args below meth c G 4 (xMQ below G (xV r9) args s c0) τ.1 (G.2.1 + τ.2.1) cells (64 * cells) 427 [(0, .ref (G.2.1 + a0))] [.int s0, .ref (G.2.1 + s1)] := by
  unfold hbX7_line_427 at h
  replace h := p_ob_inv h
  obtain ⟨V427, he, h⟩ := h
  replace h := p_ex_inv h
  rcases h with ⟨z9, hg, hz1, rfl⟩ | ⟨u427, hg, hz1, hz2, h⟩
  · exact jx_callV (As := [.int s0]) (rest := []) C (hmX7_much hg) he rfl hdX7_much rfl cwX7_103 rfl ⟨Nat.le_of_ble_eq_true rfl, Nat.le_of_ble_eq_true rfl⟩ ⟨rfl, rfl⟩ hc (Nat.le_refl _) (Nat.le_of_ble_eq_true rfl) hnt dX7_line_427 430 rfl hz1 (fun _ e9 => e9) (fun _ e9 => by cases e9)
  refine jx_callV (As := [.int s0]) (rest := []) C (hmX7_much hg) he rfl hdX7_much rfl cwX7_103 rfl ⟨Nat.le_of_ble_eq_true rfl, Nat.le_of_ble_eq_true rfl⟩ ⟨rfl, rfl⟩ hc (Nat.le_refl _) (Nat.le_of_ble_eq_true rfl) hnt dX7_line_427 430 rfl hz1 (fun _ e9 => by cases e9) (fun z9 e9 cells2 hc2 => ?_)
  cases e9
  refine jx_lt (t0 := u427.2) h ?_
  clear h
  intro t427 e2 h
  replace hc : c0 + cells2 = t427.2.2 ∧ t427.2.2 ≤ DC := jx_f7 e2 hc2 hz2
  clear e2 hc2 hz1 hz2 hg
  refine je_aload_n C dX7_line_430 431 rfl 0 rfl ?_
  replace h := p_ob_inv h
  obtain ⟨V431, he, h⟩ := h
  replace h := p_cl_inv h
  obtain ⟨u431, hg, h⟩ := h
  refine je_callV (As := []) (rest := []) (o := none) C (hmX7_take hg) he rfl hdX7_take rfl cwX7_107 rfl ⟨Nat.le_of_ble_eq_true rfl, Nat.le_of_ble_eq_true rfl⟩ ⟨jx_f1 (k := 0) hc hc.2, jx_f2 (k := 0) (n := 0) hc hc.2 (Nat.le_of_ble_eq_true rfl)⟩ (Nat.le_of_ble_eq_true rfl) dX7_line_431 434 rfl ?_
  refine je_widen (cells2) (64 * (cells2)) (Nat.le_refl _) (jx_f30 (Nat.le_of_ble_eq_true rfl)) ?_
  refine jx_lt (t0 := x_of u431 (t427.2.2 + 0)) h ?_
  clear h
  intro t431 e2 h
  replace hc : c0 + (cells2) = t431.2.2 ∧ t431.2.2 ≤ DC := jx_f80 (k := 0) e2 hc hc.2
  clear e2 hg
  refine je_aload_n C dX7_line_434 435 rfl 0 rfl ?_
  refine je_iconst C (0) dX7_line_435 436 rfl ic_0 ?_
  refine je_bipush C (60) dX7_line_436 438 rfl bp_60 ?_
  replace h := p_ob_inv h
  obtain ⟨V438, he, h⟩ := h
  replace h := p_ex_inv h
  rcases h with ⟨z9, hg, hz1, rfl⟩ | ⟨u438, hg, hz1, hz2, h⟩
  · exact jx_callV (As := [.int (0 : Int32), .int (60 : Int32)]) (rest := []) C (hmX7_number hg) he rfl hdX7_number rfl cwX7_141 rfl ⟨Nat.le_of_ble_eq_true rfl, Nat.le_of_ble_eq_true rfl⟩ ⟨rfl, rfl⟩ hc (Nat.le_refl _) (Nat.le_of_ble_eq_true rfl) hnt dX7_line_438 441 rfl hz1 (fun _ e9 => e9) (fun _ e9 => by cases e9)
  refine jx_callV (As := [.int (0 : Int32), .int (60 : Int32)]) (rest := []) C (hmX7_number hg) he rfl hdX7_number rfl cwX7_141 rfl ⟨Nat.le_of_ble_eq_true rfl, Nat.le_of_ble_eq_true rfl⟩ ⟨rfl, rfl⟩ hc (Nat.le_refl _) (Nat.le_of_ble_eq_true rfl) hnt dX7_line_438 441 rfl hz1 (fun _ e9 => by cases e9) (fun z9 e9 cells2 hc2 => ?_)
  cases e9
  refine je_lti (x := u438.1) (st := []) h ?_
  clear h
  intro x438 h
  refine jx_lt (t0 := u438.2) h ?_
  clear h
  intro t438 e2 h
  replace hc : c0 + cells2 = t438.2.2 ∧ t438.2.2 ≤ DC := jx_f7 e2 hc2 hz2
  clear e2 hc2 hz1 hz2 hg
  refine je_istore_n C dX7_line_441 442 rfl (Nat.le_of_ble_eq_true rfl) [(1, .int x438), (0, .ref (G.2.1 + a0))] rfl ?_
  refine je_aload_n C dX7_line_442 443 rfl 1 rfl ?_
  refine je_aload_n C dX7_line_443 444 rfl 1 rfl ?_
  replace h := p_ob_inv h
  obtain ⟨V444, he, h⟩ := h
  replace h := p_vr_inv h
  obtain ⟨x444, hv, h⟩ := h
  refine je_get (k := 1) C he rfl in_X7 (by decide) q552 rfl dX7_line_444 447 rfl hv ?_
  refine je_aload_n C dX7_line_447 448 rfl 1 rfl ?_
  replace h := p_ob_inv h
  obtain ⟨V448, he, h⟩ := h
  replace h := p_ex_inv h
  rcases h with ⟨z9, hg, hz1, rfl⟩ | ⟨u448, hg, hz1, hz2, h⟩
  · exact jx_callV (As := []) (rest := [va_rf x444, .ref (G.2.1 + a0)]) C (hmX7_name hg) he rfl hdX7_name rfl cwX7_130 rfl ⟨Nat.le_of_ble_eq_true rfl, Nat.le_of_ble_eq_true rfl⟩ ⟨rfl, rfl⟩ hc (Nat.le_refl _) (by simp only [List.map_cons, List.map_nil, je_cat, List.sum_cons, List.sum_nil]; exact Nat.le_of_ble_eq_true rfl) hnt dX7_line_448 451 rfl hz1 (fun _ e9 => e9) (fun _ e9 => by cases e9)
  refine jx_callV (As := []) (rest := [va_rf x444, .ref (G.2.1 + a0)]) C (hmX7_name hg) he rfl hdX7_name rfl cwX7_130 rfl ⟨Nat.le_of_ble_eq_true rfl, Nat.le_of_ble_eq_true rfl⟩ ⟨rfl, rfl⟩ hc (Nat.le_refl _) (by simp only [List.map_cons, List.map_nil, je_cat, List.sum_cons, List.sum_nil]; exact Nat.le_of_ble_eq_true rfl) hnt dX7_line_448 451 rfl hz1 (fun _ e9 => by cases e9) (fun z9 e9 cells2 hc2 => ?_)
  cases e9
  refine je_lti (x := u448.1) (st := [va_rf x444, .ref (G.2.1 + a0)]) h ?_
  clear h
  intro x448 h
  refine jx_lt (t0 := u448.2) h ?_
  clear h
  intro t448 e2 h
  replace hc : c0 + cells2 = t448.2.2 ∧ t448.2.2 ≤ DC := jx_f7 e2 hc2 hz2
  clear e2 hc2 hz1 hz2 hg
  obtain ⟨j451, hj9, h8⟩ := p_at_inv h
  clear h
  subst hj9
  have h := h8
  clear h8
  replace h := p_ob_inv h
  obtain ⟨V451, he, h⟩ := h
  replace h := p_cl_inv h
  obtain ⟨x451, hg, h⟩ := h
  refine je_callV (As := [.int x448]) (rest := [.ref (G.2.1 + a0)]) (o := (some (.int x451))) C (hmX2_desk hg) he rfl hdX2_desk rfl cwX7_133 rfl ⟨Nat.le_of_ble_eq_true rfl, Nat.le_of_ble_eq_true rfl⟩ ⟨jx_f1 (k := 0) hc hc.2, jx_f2 (k := 0) (n := 0) hc hc.2 (Nat.le_of_ble_eq_true rfl)⟩ (Nat.le_of_ble_eq_true rfl) dX7_line_451 454 rfl ?_
  refine je_widen (cells2) (64 * (cells2)) (Nat.le_refl _) (jx_f30 (Nat.le_of_ble_eq_true rfl)) ?_
  replace h := p_ob_inv h
  obtain ⟨V454, he, h⟩ := h
  replace h := p_ex_inv h
  rcases h with ⟨z9, hg, hz1, rfl⟩ | ⟨u454, hg, hz1, hz2, h⟩
  · exact jx_callV (As := [.int x451]) (rest := []) C (hmX7_there hg) he rfl hdX7_there rfl cwX7_156 rfl ⟨Nat.le_of_ble_eq_true rfl, Nat.le_of_ble_eq_true rfl⟩ ⟨rfl, rfl⟩ hc (Nat.le_refl _) (Nat.le_of_ble_eq_true rfl) hnt dX7_line_454 457 rfl hz1 (fun _ e9 => e9) (fun _ e9 => by cases e9)
  refine jx_callV (As := [.int x451]) (rest := []) C (hmX7_there hg) he rfl hdX7_there rfl cwX7_156 rfl ⟨Nat.le_of_ble_eq_true rfl, Nat.le_of_ble_eq_true rfl⟩ ⟨rfl, rfl⟩ hc (Nat.le_refl _) (Nat.le_of_ble_eq_true rfl) hnt dX7_line_454 457 rfl hz1 (fun _ e9 => by cases e9) (fun z9 e9 cells2 hc2 => ?_)
  cases e9
  refine je_lti (x := u454.1) (st := []) h ?_
  clear h
  intro x454 h
  refine jx_lt (t0 := u454.2) h ?_
  clear h
  intro t454 e2 h
  replace hc : c0 + cells2 = t454.2.2 ∧ t454.2.2 ≤ DC := jx_f7 e2 hc2 hz2
  clear e2 hc2 hz1 hz2 hg
  refine je_istore_n C dX7_line_457 458 rfl (Nat.le_of_ble_eq_true rfl) [(2, .int x454), (1, .int x438), (0, .ref (G.2.1 + a0))] rfl ?_
  refine je_aload_n C dX7_line_458 459 rfl 2 rfl ?_
  refine je_aload_n C dX7_line_459 460 rfl 2 rfl ?_
  replace h := p_ob_inv h
  obtain ⟨V460, he, h⟩ := h
  replace h := p_vr_inv h
  obtain ⟨x460, hv, h⟩ := h
  refine je_get (k := 1) C he rfl in_X7 (by decide) q552 rfl dX7_line_460 463 rfl hv ?_
  refine je_aload_n C dX7_line_463 464 rfl 2 rfl ?_
  replace h := p_ob_inv h
  obtain ⟨V464, he, h⟩ := h
  replace h := p_ex_inv h
  rcases h with ⟨z9, hg, hz1, rfl⟩ | ⟨u464, hg, hz1, hz2, h⟩
  · exact jx_callV (As := []) (rest := [va_rf x460, .ref (G.2.1 + a0)]) C (hmX7_name hg) he rfl hdX7_name rfl cwX7_130 rfl ⟨Nat.le_of_ble_eq_true rfl, Nat.le_of_ble_eq_true rfl⟩ ⟨rfl, rfl⟩ hc (Nat.le_refl _) (by simp only [List.map_cons, List.map_nil, je_cat, List.sum_cons, List.sum_nil]; exact Nat.le_of_ble_eq_true rfl) hnt dX7_line_464 467 rfl hz1 (fun _ e9 => e9) (fun _ e9 => by cases e9)
  refine jx_callV (As := []) (rest := [va_rf x460, .ref (G.2.1 + a0)]) C (hmX7_name hg) he rfl hdX7_name rfl cwX7_130 rfl ⟨Nat.le_of_ble_eq_true rfl, Nat.le_of_ble_eq_true rfl⟩ ⟨rfl, rfl⟩ hc (Nat.le_refl _) (by simp only [List.map_cons, List.map_nil, je_cat, List.sum_cons, List.sum_nil]; exact Nat.le_of_ble_eq_true rfl) hnt dX7_line_464 467 rfl hz1 (fun _ e9 => by cases e9) (fun z9 e9 cells2 hc2 => ?_)
  cases e9
  refine je_lti (x := u464.1) (st := [va_rf x460, .ref (G.2.1 + a0)]) h ?_
  clear h
  intro x464 h
  refine jx_lt (t0 := u464.2) h ?_
  clear h
  intro t464 e2 h
  replace hc : c0 + cells2 = t464.2.2 ∧ t464.2.2 ≤ DC := jx_f7 e2 hc2 hz2
  clear e2 hc2 hz1 hz2 hg
  obtain ⟨j467, hj9, h8⟩ := p_at_inv h
  clear h
  subst hj9
  have h := h8
  clear h8
  replace h := p_ob_inv h
  obtain ⟨V467, he, h⟩ := h
  replace h := p_cl_inv h
  obtain ⟨x467, hg, h⟩ := h
  refine je_callV (As := [.int x464]) (rest := [.ref (G.2.1 + a0)]) (o := (some (.int x467))) C (hmX2_fact hg) he rfl hdX2_fact rfl cwX7_162 rfl ⟨Nat.le_of_ble_eq_true rfl, Nat.le_of_ble_eq_true rfl⟩ ⟨jx_f1 (k := 0) hc hc.2, jx_f2 (k := 0) (n := 0) hc hc.2 (Nat.le_of_ble_eq_true rfl)⟩ (Nat.le_of_ble_eq_true rfl) dX7_line_467 470 rfl ?_
  refine je_widen (cells2) (64 * (cells2)) (Nat.le_refl _) (jx_f30 (Nat.le_of_ble_eq_true rfl)) ?_
  replace h := p_ob_inv h
  obtain ⟨V470, he, h⟩ := h
  replace h := p_ex_inv h
  rcases h with ⟨z9, hg, hz1, rfl⟩ | ⟨u470, hg, hz1, hz2, h⟩
  · exact jx_callV (As := [.int x467]) (rest := []) C (hmX7_there hg) he rfl hdX7_there rfl cwX7_156 rfl ⟨Nat.le_of_ble_eq_true rfl, Nat.le_of_ble_eq_true rfl⟩ ⟨rfl, rfl⟩ hc (Nat.le_refl _) (Nat.le_of_ble_eq_true rfl) hnt dX7_line_470 473 rfl hz1 (fun _ e9 => e9) (fun _ e9 => by cases e9)
  refine jx_callV (As := [.int x467]) (rest := []) C (hmX7_there hg) he rfl hdX7_there rfl cwX7_156 rfl ⟨Nat.le_of_ble_eq_true rfl, Nat.le_of_ble_eq_true rfl⟩ ⟨rfl, rfl⟩ hc (Nat.le_refl _) (Nat.le_of_ble_eq_true rfl) hnt dX7_line_470 473 rfl hz1 (fun _ e9 => by cases e9) (fun z9 e9 cells2 hc2 => ?_)
  cases e9
  refine je_lti (x := u470.1) (st := []) h ?_
  clear h
  intro x470 h
  refine jx_lt (t0 := u470.2) h ?_
  clear h
  intro t470 e2 h
  replace hc : c0 + cells2 = t470.2.2 ∧ t470.2.2 ≤ DC := jx_f7 e2 hc2 hz2
  clear e2 hc2 hz1 hz2 hg
  refine je_istore_n C dX7_line_473 474 rfl (Nat.le_of_ble_eq_true rfl) [(3, .int x470), (2, .int x454), (1, .int x438), (0, .ref (G.2.1 + a0))] rfl ?_
  refine je_aload_n C dX7_line_474 475 rfl 3 rfl ?_
  replace h := p_ob_inv h
  obtain ⟨V475, he, h⟩ := h
  replace h := p_vr_inv h
  obtain ⟨x475, hv, h⟩ := h
  refine je_get (k := 1) C he rfl in_X7 (by decide) q552 rfl dX7_line_475 478 rfl hv ?_
  obtain ⟨j478, hj9, h8⟩ := p_at_inv h
  clear h
  subst hj9
  have h := h8
  clear h8
  replace h := p_ob_inv h
  obtain ⟨V478, he, h⟩ := h
  replace h := p_vr_inv h
  obtain ⟨x478, hv, h⟩ := h
  refine je_getN (k := 3) C he rfl in_X2 (by decide) q258 rfl dX7_line_478 481 rfl hv ?_
  replace h := p_pr_inv h
  obtain ⟨hb, h⟩ := h
  refine je_new C (ci := 9) rfl in_X12 tyX12 tyX12_ok q988 q989 q188 rfl (jx_f1 (k := 1) hc hb) (jx_f2 (k := 1) (n := 4) hc hb (Nat.le_of_ble_eq_true rfl)) dX7_line_481 484 rfl ?_
  refine je_widen (cells2 + 1) (64 * (cells2 + 1)) (Nat.le_refl _) (jx_f3 (Nat.le_of_ble_eq_true rfl)) ?_
  refine je_ltr h ?_
  clear h
  intro b481 h
  refine jx_lt h ?_
  clear h
  intro t481 e2 h
  replace hc : c0 + (cells2 + 1) = t481.2.2 ∧ t481.2.2 ≤ DC := jx_f4 (k := 1) e2 hc hb
  clear e2 hb
  refine je_dup C dX7_line_484 485 rfl rfl ?_
  refine je_iload_n C dX7_line_485 486 rfl 2 rfl ?_
  refine je_iload_n C dX7_line_486 487 rfl 1 rfl ?_
  refine je_iload_n C dX7_line_487 488 rfl 0 rfl ?_
  refine je_aload_n C dX7_line_488 489 rfl 3 rfl ?_
  refine je_iconst C (0) dX7_line_489 490 rfl ic_0 ?_
  refine je_bipush C (100) dX7_line_490 492 rfl bp_100 ?_
  replace h := p_ob_inv h
  obtain ⟨V492, he, h⟩ := h
  replace h := p_ex_inv h
  rcases h with ⟨z9, hg, hz1, rfl⟩ | ⟨u492, hg, hz1, hz2, h⟩
  · exact jx_callV (As := [.int (0 : Int32), .int (100 : Int32)]) (rest := [.int x470, .int x454, .int x438, .ref (G.2.1 + b481), .ref (G.2.1 + b481), va_rf x478]) C (hmX7_number hg) he rfl hdX7_number rfl cwX7_141 rfl ⟨Nat.le_of_ble_eq_true rfl, Nat.le_of_ble_eq_true rfl⟩ ⟨rfl, rfl⟩ hc (Nat.le_refl _) (by simp only [List.map_cons, List.map_nil, je_cat, List.sum_cons, List.sum_nil]; exact Nat.le_of_ble_eq_true rfl) hnt dX7_line_492 495 rfl hz1 (fun _ e9 => e9) (fun _ e9 => by cases e9)
  refine jx_callV (As := [.int (0 : Int32), .int (100 : Int32)]) (rest := [.int x470, .int x454, .int x438, .ref (G.2.1 + b481), .ref (G.2.1 + b481), va_rf x478]) C (hmX7_number hg) he rfl hdX7_number rfl cwX7_141 rfl ⟨Nat.le_of_ble_eq_true rfl, Nat.le_of_ble_eq_true rfl⟩ ⟨rfl, rfl⟩ hc (Nat.le_refl _) (by simp only [List.map_cons, List.map_nil, je_cat, List.sum_cons, List.sum_nil]; exact Nat.le_of_ble_eq_true rfl) hnt dX7_line_492 495 rfl hz1 (fun _ e9 => by cases e9) (fun z9 e9 cells2 hc2 => ?_)
  cases e9
  refine je_lti (x := u492.1) (st := [.int x470, .int x454, .int x438, .ref (G.2.1 + b481), .ref (G.2.1 + b481), va_rf x478]) h ?_
  clear h
  intro x492 h
  refine jx_lt (t0 := u492.2) h ?_
  clear h
  intro t492 e2 h
  replace hc : c0 + cells2 = t492.2.2 ∧ t492.2.2 ≤ DC := jx_f7 e2 hc2 hz2
  clear e2 hc2 hz1 hz2 hg
  replace h := p_cl_inv h
  obtain ⟨u495, hg, h⟩ := h
  refine je_callIN (As := [.int x438, .int x454, .int x470, .int x492]) (rest := [.ref (G.2.1 + b481), va_rf x478]) C (hmX12_init hg) hdX12_init rfl ccX7_181 rfl ⟨Nat.le_of_ble_eq_true rfl, Nat.le_of_ble_eq_true rfl⟩ ⟨jx_f1 (k := 0) hc hc.2, jx_f2 (k := 0) (n := 0) hc hc.2 (Nat.le_of_ble_eq_true rfl)⟩ (by simp only [List.map_cons, List.map_nil, je_cat, List.sum_cons, List.sum_nil]; exact Nat.le_of_ble_eq_true rfl) dX7_line_495 498 rfl ?_
  refine je_widen (cells2) (64 * (cells2)) (Nat.le_refl _) (jx_f30 (Nat.le_of_ble_eq_true rfl)) ?_
  refine jx_lt (t0 := x_of u495 (t492.2.2 + 0)) h ?_
  clear h
  intro t495 e2 h
  replace hc : c0 + (cells2) = t495.2.2 ∧ t495.2.2 ≤ DC := jx_f80 (k := 0) e2 hc hc.2
  clear e2 hg
  obtain ⟨j498, hj9, h8⟩ := p_at_inv h
  clear h
  subst hj9
  have h := h8
  clear h8
  replace h := p_ob_inv h
  obtain ⟨V498, he, h⟩ := h
  replace h := p_pr_inv h
  obtain ⟨hb, h⟩ := h
  replace h := p_cl_inv h
  obtain ⟨u498, hg, h⟩ := h
  refine je_callV (As := [.ref (G.2.1 + b481)]) (rest := []) (o := (some (.int u498.1))) C (hmJ2_add hg) he rfl hdJ2_add rfl cwX7_145 rfl ⟨Nat.le_of_ble_eq_true rfl, Nat.le_of_ble_eq_true rfl⟩ ⟨jx_f1 (k := 1) hc hb, jx_f2 (k := 1) (n := 40) hc hb (Nat.le_of_ble_eq_true rfl)⟩ (Nat.le_of_ble_eq_true rfl) dX7_line_498 501 rfl ?_
  refine je_widen (cells2 + 1) (64 * (cells2 + 1)) (Nat.le_refl _) (jx_f3 (Nat.le_of_ble_eq_true rfl)) ?_
  refine je_lti (x := u498.1) (st := []) h ?_
  clear h
  intro x498 h
  refine jx_lt (t0 := x_of u498.2 (t495.2.2 + 1)) h ?_
  clear h
  intro t498 e2 h
  replace hc : c0 + (cells2 + 1) = t498.2.2 ∧ t498.2.2 ≤ DC := jx_f8 (k := 1) e2 hc hb
  clear e2 hg hb
  refine je_pop C dX7_line_501 502 rfl rfl ?_
  refine je_goto C 802 dX7_line_502 rfl ?_
  cases h
  exact jx_ret hc.1 (Nat.le_refl _) (je_vret C dX7_line_802)
set_option maxHeartbeats 4000000 in
theorem hwX7_line_525 {p : Program} {l : Launch} {e : Env} {s : State} {m : MethodId} {args : Array Value} {below : List Frame} {meth : Method} {c : Code} {G : je_G} {F : Nat} {c0 : Nat} {r9 : (Nat × hS) ⊕ (Unit × hS)} (C : Cx p s m args meth c G "MinistryDesks$Reader" cX7_line 4 none) (hnt : ∀ x ∈ c.exceptionTable.toList, False) (τ : hS) (a0 : Nat) (s0 : Int32) (s1 : Nat) (cells : Nat) (hc : c0 + cells = τ.2.2 ∧ τ.2.2 ≤ DC) (h : hbX7_line_525 G F τ a0 s0 s1 = some r9) : Js p l e ({ frames := 89, cells := DC - c0, slots := 64 * (DC - c0), locals := 2036 } : Room) s m args below meth c G 4 (xMQ below G (xV r9) args s c0) τ.1 (G.2.1 + τ.2.1) cells (64 * cells) 525 [(0, .ref (G.2.1 + a0))] [.int s0, .ref (G.2.1 + s1)] := by
  unfold hbX7_line_525 at h
  replace h := p_ob_inv h
  obtain ⟨V525, he, h⟩ := h
  replace h := p_ex_inv h
  rcases h with ⟨z9, hg, hz1, rfl⟩ | ⟨u525, hg, hz1, hz2, h⟩
  · exact jx_callV (As := [.int s0]) (rest := []) C (hmX7_much hg) he rfl hdX7_much rfl cwX7_103 rfl ⟨Nat.le_of_ble_eq_true rfl, Nat.le_of_ble_eq_true rfl⟩ ⟨rfl, rfl⟩ hc (Nat.le_refl _) (Nat.le_of_ble_eq_true rfl) hnt dX7_line_525 528 rfl hz1 (fun _ e9 => e9) (fun _ e9 => by cases e9)
  refine jx_callV (As := [.int s0]) (rest := []) C (hmX7_much hg) he rfl hdX7_much rfl cwX7_103 rfl ⟨Nat.le_of_ble_eq_true rfl, Nat.le_of_ble_eq_true rfl⟩ ⟨rfl, rfl⟩ hc (Nat.le_refl _) (Nat.le_of_ble_eq_true rfl) hnt dX7_line_525 528 rfl hz1 (fun _ e9 => by cases e9) (fun z9 e9 cells2 hc2 => ?_)
  cases e9
  refine jx_lt (t0 := u525.2) h ?_
  clear h
  intro t525 e2 h
  replace hc : c0 + cells2 = t525.2.2 ∧ t525.2.2 ≤ DC := jx_f7 e2 hc2 hz2
  clear e2 hc2 hz1 hz2 hg
  refine je_aload_n C dX7_line_528 529 rfl 0 rfl ?_
  replace h := p_ob_inv h
  obtain ⟨V529, he, h⟩ := h
  replace h := p_cl_inv h
  obtain ⟨u529, hg, h⟩ := h
  refine je_callV (As := []) (rest := []) (o := none) C (hmX7_take hg) he rfl hdX7_take rfl cwX7_107 rfl ⟨Nat.le_of_ble_eq_true rfl, Nat.le_of_ble_eq_true rfl⟩ ⟨jx_f1 (k := 0) hc hc.2, jx_f2 (k := 0) (n := 0) hc hc.2 (Nat.le_of_ble_eq_true rfl)⟩ (Nat.le_of_ble_eq_true rfl) dX7_line_529 532 rfl ?_
  refine je_widen (cells2) (64 * (cells2)) (Nat.le_refl _) (jx_f30 (Nat.le_of_ble_eq_true rfl)) ?_
  refine jx_lt (t0 := x_of u529 (t525.2.2 + 0)) h ?_
  clear h
  intro t529 e2 h
  replace hc : c0 + (cells2) = t529.2.2 ∧ t529.2.2 ≤ DC := jx_f80 (k := 0) e2 hc hc.2
  clear e2 hg
  refine je_aload_n C dX7_line_532 533 rfl 0 rfl ?_
  refine je_iconst C (0) dX7_line_533 534 rfl ic_0 ?_
  refine je_bipush C (60) dX7_line_534 536 rfl bp_60 ?_
  replace h := p_ob_inv h
  obtain ⟨V536, he, h⟩ := h
  replace h := p_ex_inv h
  rcases h with ⟨z9, hg, hz1, rfl⟩ | ⟨u536, hg, hz1, hz2, h⟩
  · exact jx_callV (As := [.int (0 : Int32), .int (60 : Int32)]) (rest := []) C (hmX7_number hg) he rfl hdX7_number rfl cwX7_141 rfl ⟨Nat.le_of_ble_eq_true rfl, Nat.le_of_ble_eq_true rfl⟩ ⟨rfl, rfl⟩ hc (Nat.le_refl _) (Nat.le_of_ble_eq_true rfl) hnt dX7_line_536 539 rfl hz1 (fun _ e9 => e9) (fun _ e9 => by cases e9)
  refine jx_callV (As := [.int (0 : Int32), .int (60 : Int32)]) (rest := []) C (hmX7_number hg) he rfl hdX7_number rfl cwX7_141 rfl ⟨Nat.le_of_ble_eq_true rfl, Nat.le_of_ble_eq_true rfl⟩ ⟨rfl, rfl⟩ hc (Nat.le_refl _) (Nat.le_of_ble_eq_true rfl) hnt dX7_line_536 539 rfl hz1 (fun _ e9 => by cases e9) (fun z9 e9 cells2 hc2 => ?_)
  cases e9
  refine je_lti (x := u536.1) (st := []) h ?_
  clear h
  intro x536 h
  refine jx_lt (t0 := u536.2) h ?_
  clear h
  intro t536 e2 h
  replace hc : c0 + cells2 = t536.2.2 ∧ t536.2.2 ≤ DC := jx_f7 e2 hc2 hz2
  clear e2 hc2 hz1 hz2 hg
  refine je_istore_n C dX7_line_539 540 rfl (Nat.le_of_ble_eq_true rfl) [(1, .int x536), (0, .ref (G.2.1 + a0))] rfl ?_
  refine je_aload_n C dX7_line_540 541 rfl 1 rfl ?_
  replace h := p_ob_inv h
  obtain ⟨V541, he, h⟩ := h
  replace h := p_vr_inv h
  obtain ⟨x541, hv, h⟩ := h
  refine je_get (k := 1) C he rfl in_X7 (by decide) q552 rfl dX7_line_541 544 rfl hv ?_
  obtain ⟨j544, hj9, h8⟩ := p_at_inv h
  clear h
  subst hj9
  have h := h8
  clear h8
  replace h := p_ob_inv h
  obtain ⟨V544, he, h⟩ := h
  replace h := p_vr_inv h
  obtain ⟨x544, hv, h⟩ := h
  refine je_getN (k := 4) C he rfl in_X2 (by decide) q260 rfl dX7_line_544 547 rfl hv ?_
  replace h := p_pr_inv h
  obtain ⟨hb, h⟩ := h
  refine je_new C (ci := 10) rfl in_X13 tyX13 tyX13_ok q1014 q1015 q189 rfl (jx_f1 (k := 1) hc hb) (jx_f2 (k := 1) (n := 2) hc hb (Nat.le_of_ble_eq_true rfl)) dX7_line_547 550 rfl ?_
  refine je_widen (cells2 + 1) (64 * (cells2 + 1)) (Nat.le_refl _) (jx_f3 (Nat.le_of_ble_eq_true rfl)) ?_
  refine je_ltr h ?_
  clear h
  intro b547 h
  refine jx_lt h ?_
  clear h
  intro t547 e2 h
  replace hc : c0 + (cells2 + 1) = t547.2.2 ∧ t547.2.2 ≤ DC := jx_f4 (k := 1) e2 hc hb
  clear e2 hb
  refine je_dup C dX7_line_550 551 rfl rfl ?_
  refine je_iload_n C dX7_line_551 552 rfl 0 rfl ?_
  refine je_aload_n C dX7_line_552 553 rfl 1 rfl ?_
  refine je_aload_n C dX7_line_553 554 rfl 1 rfl ?_
  replace h := p_ob_inv h
  obtain ⟨V554, he, h⟩ := h
  replace h := p_vr_inv h
  obtain ⟨x554, hv, h⟩ := h
  refine je_get (k := 1) C he rfl in_X7 (by decide) q552 rfl dX7_line_554 557 rfl hv ?_
  refine je_aload_n C dX7_line_557 558 rfl 1 rfl ?_
  replace h := p_ob_inv h
  obtain ⟨V558, he, h⟩ := h
  replace h := p_ex_inv h
  rcases h with ⟨z9, hg, hz1, rfl⟩ | ⟨u558, hg, hz1, hz2, h⟩
  · exact jx_callV (As := []) (rest := [va_rf x554, .ref (G.2.1 + a0), .int x536, .ref (G.2.1 + b547), .ref (G.2.1 + b547), va_rf x544]) C (hmX7_name hg) he rfl hdX7_name rfl cwX7_130 rfl ⟨Nat.le_of_ble_eq_true rfl, Nat.le_of_ble_eq_true rfl⟩ ⟨rfl, rfl⟩ hc (Nat.le_refl _) (by simp only [List.map_cons, List.map_nil, je_cat, List.sum_cons, List.sum_nil]; exact Nat.le_of_ble_eq_true rfl) hnt dX7_line_558 561 rfl hz1 (fun _ e9 => e9) (fun _ e9 => by cases e9)
  refine jx_callV (As := []) (rest := [va_rf x554, .ref (G.2.1 + a0), .int x536, .ref (G.2.1 + b547), .ref (G.2.1 + b547), va_rf x544]) C (hmX7_name hg) he rfl hdX7_name rfl cwX7_130 rfl ⟨Nat.le_of_ble_eq_true rfl, Nat.le_of_ble_eq_true rfl⟩ ⟨rfl, rfl⟩ hc (Nat.le_refl _) (by simp only [List.map_cons, List.map_nil, je_cat, List.sum_cons, List.sum_nil]; exact Nat.le_of_ble_eq_true rfl) hnt dX7_line_558 561 rfl hz1 (fun _ e9 => by cases e9) (fun z9 e9 cells2 hc2 => ?_)
  cases e9
  refine je_lti (x := u558.1) (st := [va_rf x554, .ref (G.2.1 + a0), .int x536, .ref (G.2.1 + b547), .ref (G.2.1 + b547), va_rf x544]) h ?_
  clear h
  intro x558 h
  refine jx_lt (t0 := u558.2) h ?_
  clear h
  intro t558 e2 h
  replace hc : c0 + cells2 = t558.2.2 ∧ t558.2.2 ≤ DC := jx_f7 e2 hc2 hz2
  clear e2 hc2 hz1 hz2 hg
  obtain ⟨j561, hj9, h8⟩ := p_at_inv h
  clear h
  subst hj9
  have h := h8
  clear h8
  replace h := p_ob_inv h
  obtain ⟨V561, he, h⟩ := h
  replace h := p_cl_inv h
  obtain ⟨x561, hg, h⟩ := h
  refine je_callV (As := [.int x558]) (rest := [.ref (G.2.1 + a0), .int x536, .ref (G.2.1 + b547), .ref (G.2.1 + b547), va_rf x544]) (o := (some (.int x561))) C (hmX2_desk hg) he rfl hdX2_desk rfl cwX7_133 rfl ⟨Nat.le_of_ble_eq_true rfl, Nat.le_of_ble_eq_true rfl⟩ ⟨jx_f1 (k := 0) hc hc.2, jx_f2 (k := 0) (n := 0) hc hc.2 (Nat.le_of_ble_eq_true rfl)⟩ (by simp only [List.map_cons, List.map_nil, je_cat, List.sum_cons, List.sum_nil]; exact Nat.le_of_ble_eq_true rfl) dX7_line_561 564 rfl ?_
  refine je_widen (cells2) (64 * (cells2)) (Nat.le_refl _) (jx_f30 (Nat.le_of_ble_eq_true rfl)) ?_
  replace h := p_ob_inv h
  obtain ⟨V564, he, h⟩ := h
  replace h := p_ex_inv h
  rcases h with ⟨z9, hg, hz1, rfl⟩ | ⟨u564, hg, hz1, hz2, h⟩
  · exact jx_callV (As := [.int x561]) (rest := [.int x536, .ref (G.2.1 + b547), .ref (G.2.1 + b547), va_rf x544]) C (hmX7_there hg) he rfl hdX7_there rfl cwX7_156 rfl ⟨Nat.le_of_ble_eq_true rfl, Nat.le_of_ble_eq_true rfl⟩ ⟨rfl, rfl⟩ hc (Nat.le_refl _) (by simp only [List.map_cons, List.map_nil, je_cat, List.sum_cons, List.sum_nil]; exact Nat.le_of_ble_eq_true rfl) hnt dX7_line_564 567 rfl hz1 (fun _ e9 => e9) (fun _ e9 => by cases e9)
  refine jx_callV (As := [.int x561]) (rest := [.int x536, .ref (G.2.1 + b547), .ref (G.2.1 + b547), va_rf x544]) C (hmX7_there hg) he rfl hdX7_there rfl cwX7_156 rfl ⟨Nat.le_of_ble_eq_true rfl, Nat.le_of_ble_eq_true rfl⟩ ⟨rfl, rfl⟩ hc (Nat.le_refl _) (by simp only [List.map_cons, List.map_nil, je_cat, List.sum_cons, List.sum_nil]; exact Nat.le_of_ble_eq_true rfl) hnt dX7_line_564 567 rfl hz1 (fun _ e9 => by cases e9) (fun z9 e9 cells2 hc2 => ?_)
  cases e9
  refine je_lti (x := u564.1) (st := [.int x536, .ref (G.2.1 + b547), .ref (G.2.1 + b547), va_rf x544]) h ?_
  clear h
  intro x564 h
  refine jx_lt (t0 := u564.2) h ?_
  clear h
  intro t564 e2 h
  replace hc : c0 + cells2 = t564.2.2 ∧ t564.2.2 ≤ DC := jx_f7 e2 hc2 hz2
  clear e2 hc2 hz1 hz2 hg
  replace h := p_cl_inv h
  obtain ⟨u567, hg, h⟩ := h
  refine je_callIN (As := [.int x536, .int x564]) (rest := [.ref (G.2.1 + b547), va_rf x544]) C (hmX13_init hg) hdX13_init rfl ccX7_187 rfl ⟨Nat.le_of_ble_eq_true rfl, Nat.le_of_ble_eq_true rfl⟩ ⟨jx_f1 (k := 0) hc hc.2, jx_f2 (k := 0) (n := 0) hc hc.2 (Nat.le_of_ble_eq_true rfl)⟩ (by simp only [List.map_cons, List.map_nil, je_cat, List.sum_cons, List.sum_nil]; exact Nat.le_of_ble_eq_true rfl) dX7_line_567 570 rfl ?_
  refine je_widen (cells2) (64 * (cells2)) (Nat.le_refl _) (jx_f30 (Nat.le_of_ble_eq_true rfl)) ?_
  refine jx_lt (t0 := x_of u567 (t564.2.2 + 0)) h ?_
  clear h
  intro t567 e2 h
  replace hc : c0 + (cells2) = t567.2.2 ∧ t567.2.2 ≤ DC := jx_f80 (k := 0) e2 hc hc.2
  clear e2 hg
  obtain ⟨j570, hj9, h8⟩ := p_at_inv h
  clear h
  subst hj9
  have h := h8
  clear h8
  replace h := p_ob_inv h
  obtain ⟨V570, he, h⟩ := h
  replace h := p_pr_inv h
  obtain ⟨hb, h⟩ := h
  replace h := p_cl_inv h
  obtain ⟨u570, hg, h⟩ := h
  refine je_callV (As := [.ref (G.2.1 + b547)]) (rest := []) (o := (some (.int u570.1))) C (hmJ2_add hg) he rfl hdJ2_add rfl cwX7_145 rfl ⟨Nat.le_of_ble_eq_true rfl, Nat.le_of_ble_eq_true rfl⟩ ⟨jx_f1 (k := 1) hc hb, jx_f2 (k := 1) (n := 40) hc hb (Nat.le_of_ble_eq_true rfl)⟩ (Nat.le_of_ble_eq_true rfl) dX7_line_570 573 rfl ?_
  refine je_widen (cells2 + 1) (64 * (cells2 + 1)) (Nat.le_refl _) (jx_f3 (Nat.le_of_ble_eq_true rfl)) ?_
  refine je_lti (x := u570.1) (st := []) h ?_
  clear h
  intro x570 h
  refine jx_lt (t0 := x_of u570.2 (t567.2.2 + 1)) h ?_
  clear h
  intro t570 e2 h
  replace hc : c0 + (cells2 + 1) = t570.2.2 ∧ t570.2.2 ≤ DC := jx_f8 (k := 1) e2 hc hb
  clear e2 hg hb
  refine je_pop C dX7_line_573 574 rfl rfl ?_
  refine je_goto C 802 dX7_line_574 rfl ?_
  cases h
  exact jx_ret hc.1 (Nat.le_refl _) (je_vret C dX7_line_802)
set_option maxHeartbeats 4000000 in
theorem hwX7_line_698 {p : Program} {l : Launch} {e : Env} {s : State} {m : MethodId} {args : Array Value} {below : List Frame} {meth : Method} {c : Code} {G : je_G} {F : Nat} {c0 : Nat} {r9 : (Nat × hS) ⊕ (Unit × hS)} (C : Cx p s m args meth c G "MinistryDesks$Reader" cX7_line 4 none) (hnt : ∀ x ∈ c.exceptionTable.toList, False) (τ : hS) (a0 : Nat) (v1 : Int32) (s0 : Int32) (s1 : Nat) (cells : Nat) (hc : c0 + cells = τ.2.2 ∧ τ.2.2 ≤ DC) (h : hbX7_line_698 G F τ a0 v1 s0 s1 = some r9) : Js p l e ({ frames := 89, cells := DC - c0, slots := 64 * (DC - c0), locals := 2036 } : Room) s m args below meth c G 4 (xMQ below G (xV r9) args s c0) τ.1 (G.2.1 + τ.2.1) cells (64 * cells) 698 [(0, .ref (G.2.1 + a0)), (1, .int v1)] [.int s0, .ref (G.2.1 + s1)] := by
  unfold hbX7_line_698 at h
  replace h := p_ob_inv h
  obtain ⟨V698, he, h⟩ := h
  replace h := p_ex_inv h
  rcases h with ⟨z9, hg, hz1, rfl⟩ | ⟨u698, hg, hz1, hz2, h⟩
  · exact jx_callV (As := [.int s0]) (rest := []) C (hmX7_told hg) he rfl hdX7_told rfl cwX7_110 rfl ⟨Nat.le_of_ble_eq_true rfl, Nat.le_of_ble_eq_true rfl⟩ ⟨rfl, rfl⟩ hc (Nat.le_refl _) (Nat.le_of_ble_eq_true rfl) hnt dX7_line_698 701 rfl hz1 (fun _ e9 => e9) (fun _ e9 => by cases e9)
  refine jx_callV (As := [.int s0]) (rest := []) C (hmX7_told hg) he rfl hdX7_told rfl cwX7_110 rfl ⟨Nat.le_of_ble_eq_true rfl, Nat.le_of_ble_eq_true rfl⟩ ⟨rfl, rfl⟩ hc (Nat.le_refl _) (Nat.le_of_ble_eq_true rfl) hnt dX7_line_698 701 rfl hz1 (fun _ e9 => by cases e9) (fun z9 e9 cells2 hc2 => ?_)
  cases e9
  refine jx_lt (t0 := u698.2) h ?_
  clear h
  intro t698 e2 h
  replace hc : c0 + cells2 = t698.2.2 ∧ t698.2.2 ≤ DC := jx_f7 e2 hc2 hz2
  clear e2 hc2 hz1 hz2 hg
  refine je_aload_n C dX7_line_701 702 rfl 0 rfl ?_
  replace h := p_ob_inv h
  obtain ⟨V702, he, h⟩ := h
  replace h := p_cl_inv h
  obtain ⟨u702, hg, h⟩ := h
  refine je_callV (As := []) (rest := []) (o := none) C (hmX7_take hg) he rfl hdX7_take rfl cwX7_107 rfl ⟨Nat.le_of_ble_eq_true rfl, Nat.le_of_ble_eq_true rfl⟩ ⟨jx_f1 (k := 0) hc hc.2, jx_f2 (k := 0) (n := 0) hc hc.2 (Nat.le_of_ble_eq_true rfl)⟩ (Nat.le_of_ble_eq_true rfl) dX7_line_702 705 rfl ?_
  refine je_widen (cells2) (64 * (cells2)) (Nat.le_refl _) (jx_f30 (Nat.le_of_ble_eq_true rfl)) ?_
  refine jx_lt (t0 := x_of u702 (t698.2.2 + 0)) h ?_
  clear h
  intro t702 e2 h
  replace hc : c0 + (cells2) = t702.2.2 ∧ t702.2.2 ≤ DC := jx_f80 (k := 0) e2 hc hc.2
  clear e2 hg
  refine je_aload_n C dX7_line_705 706 rfl 0 rfl ?_
  replace h := p_ob_inv h
  obtain ⟨V706, he, h⟩ := h
  replace h := p_ex_inv h
  rcases h with ⟨z9, hg, hz1, rfl⟩ | ⟨u706, hg, hz1, hz2, h⟩
  · exact jx_callV (As := []) (rest := []) C ((hm_gX7 G F _ _ _).1 hg) he rfl hdX7_or rfl cwX7_205 rfl ⟨Nat.le_of_ble_eq_true rfl, Nat.le_of_ble_eq_true rfl⟩ ⟨rfl, rfl⟩ hc (Nat.le_refl _) (Nat.le_of_ble_eq_true rfl) hnt dX7_line_706 709 rfl hz1 (fun _ e9 => e9) (fun _ e9 => by cases e9)
  refine jx_callV (As := []) (rest := []) C ((hm_gX7 G F _ _ _).1 hg) he rfl hdX7_or rfl cwX7_205 rfl ⟨Nat.le_of_ble_eq_true rfl, Nat.le_of_ble_eq_true rfl⟩ ⟨rfl, rfl⟩ hc (Nat.le_refl _) (Nat.le_of_ble_eq_true rfl) hnt dX7_line_706 709 rfl hz1 (fun _ e9 => by cases e9) (fun z9 e9 cells2 hc2 => ?_)
  cases e9
  refine je_ltq (x := u706.1) (st := []) h ?_
  clear h
  intro x706 h
  refine jx_lt (t0 := u706.2) h ?_
  clear h
  intro t706 e2 h
  replace hc : c0 + cells2 = t706.2.2 ∧ t706.2.2 ≤ DC := jx_f7 e2 hc2 hz2
  clear e2 hc2 hz1 hz2 hg
  refine je_astoreR_n C dX7_line_709 710 rfl (Nat.le_of_ble_eq_true rfl) [(2, va_rf x706), (0, .ref (G.2.1 + a0)), (1, .int v1)] rfl ?_
  refine je_iload_n C dX7_line_710 711 rfl 2 rfl ?_
  refine je_if_eq C 725 dX7_line_711 714 rfl rfl h ?_ ?_
  · clear h
    intro h
    refine je_aload_n C dX7_line_725 726 rfl 1 rfl ?_
    replace h := p_ob_inv h
    obtain ⟨V726, he, h⟩ := h
    replace h := p_vr_inv h
    obtain ⟨x726, hv, h⟩ := h
    refine je_get (k := 1) C he rfl in_X7 (by decide) q552 rfl dX7_line_726 729 rfl hv ?_
    refine je_aloadR_n C dX7_line_729 730 rfl 0 rfl ?_
    obtain ⟨j730, hj9, h8⟩ := p_at_inv h
    clear h
    subst hj9
    have h := h8
    clear h8
    replace h := p_ob_inv h
    obtain ⟨V730, he, h⟩ := h
    refine je_putN (k := 7) (v := va_rf x706) C he rfl in_X2 tyX2 tyX2_ok nmX2 (by decide) q269 rfl rfl je_refnar je_reffit dX7_line_730 733 rfl ?_
    refine jx_lt h ?_
    clear h
    intro t730 e2 h
    replace hc : c0 + cells2 = t730.2.2 ∧ t730.2.2 ≤ DC := jx_f0 e2 hc
    clear e2
    refine je_goto C 802 dX7_line_733 rfl ?_
    cases h
    exact jx_ret hc.1 (Nat.le_refl _) (je_vret C dX7_line_802)
  clear h
  intro h
  refine je_aload_n C dX7_line_714 715 rfl 1 rfl ?_
  replace h := p_ob_inv h
  obtain ⟨V715, he, h⟩ := h
  replace h := p_vr_inv h
  obtain ⟨x715, hv, h⟩ := h
  refine je_get (k := 1) C he rfl in_X7 (by decide) q552 rfl dX7_line_715 718 rfl hv ?_
  refine je_aloadR_n C dX7_line_718 719 rfl 0 rfl ?_
  obtain ⟨j719, hj9, h8⟩ := p_at_inv h
  clear h
  subst hj9
  have h := h8
  clear h8
  replace h := p_ob_inv h
  obtain ⟨V719, he, h⟩ := h
  refine je_putN (k := 6) (v := va_rf x706) C he rfl in_X2 tyX2 tyX2_ok nmX2 (by decide) q266 rfl rfl je_refnar je_reffit dX7_line_719 722 rfl ?_
  refine jx_lt h ?_
  clear h
  intro t719 e2 h
  replace hc : c0 + cells2 = t719.2.2 ∧ t719.2.2 ≤ DC := jx_f0 e2 hc
  clear e2
  refine je_goto C 802 dX7_line_722 rfl ?_
  cases h
  exact jx_ret hc.1 (Nat.le_refl _) (je_vret C dX7_line_802)
set_option maxHeartbeats 4000000 in
theorem hwX7_line_659 {p : Program} {l : Launch} {e : Env} {s : State} {m : MethodId} {args : Array Value} {below : List Frame} {meth : Method} {c : Code} {G : je_G} {F : Nat} {c0 : Nat} {r9 : (Nat × hS) ⊕ (Unit × hS)} (C : Cx p s m args meth c G "MinistryDesks$Reader" cX7_line 4 none) (hnt : ∀ x ∈ c.exceptionTable.toList, False) (τ : hS) (a0 : Nat) (s0 : Int32) (cells : Nat) (hc : c0 + cells = τ.2.2 ∧ τ.2.2 ≤ DC) (h : hbX7_line_659 G F τ a0 s0 = some r9) : Js p l e ({ frames := 89, cells := DC - c0, slots := 64 * (DC - c0), locals := 2036 } : Room) s m args below meth c G 4 (xMQ below G (xV r9) args s c0) τ.1 (G.2.1 + τ.2.1) cells (64 * cells) 659 [(0, .ref (G.2.1 + a0))] [.int s0] := by
  unfold hbX7_line_659 at h
  refine je_istore_n C dX7_line_659 660 rfl (Nat.le_of_ble_eq_true rfl) [(1, .int s0), (0, .ref (G.2.1 + a0))] rfl ?_
  refine je_aload_n C dX7_line_660 661 rfl 1 rfl ?_
  refine je_iload_n C dX7_line_661 662 rfl 0 rfl ?_
  refine je_if_eq C 683 dX7_line_662 665 rfl rfl h ?_ ?_
  · clear h
    intro h
    refine je_aload_n C dX7_line_683 684 rfl 1 rfl ?_
    replace h := p_ob_inv h
    obtain ⟨V684, he, h⟩ := h
    replace h := p_vr_inv h
    obtain ⟨x684, hv, h⟩ := h
    refine je_get (k := 1) C he rfl in_X7 (by decide) q552 rfl dX7_line_684 687 rfl hv ?_
    obtain ⟨j687, hj9, h8⟩ := p_at_inv h
    clear h
    subst hj9
    have h := h8
    clear h8
    replace h := p_ob_inv h
    obtain ⟨V687, he, h⟩ := h
    replace h := p_vr_inv h
    obtain ⟨x687, hv, h⟩ := h
    refine je_getN (k := 7) C he rfl in_X2 (by decide) q269 rfl dX7_line_687 690 rfl hv ?_
    refine je_ifnull (x := x687) C 697 dX7_line_690 693 rfl rfl h (fun _ h => ?_) (fun h => ?_)
    · refine je_iconst C (0) dX7_line_697 698 rfl ic_0 ?_
      refine je_sub [1, 0] [(0, .ref (G.2.1 + a0)), (1, .int s0)] rfl ?_
      exact hwX7_line_698 C hnt τ a0 s0 (0 : Int32) a0 cells hc h
    refine je_iconst C (1) dX7_line_693 694 rfl ic_1 ?_
    refine je_goto C 698 dX7_line_694 rfl ?_
    refine je_sub [1, 0] [(0, .ref (G.2.1 + a0)), (1, .int s0)] rfl ?_
    exact hwX7_line_698 C hnt τ a0 s0 (1 : Int32) a0 cells hc h
  clear h
  intro h
  refine je_aload_n C dX7_line_665 666 rfl 1 rfl ?_
  replace h := p_ob_inv h
  obtain ⟨V666, he, h⟩ := h
  replace h := p_vr_inv h
  obtain ⟨x666, hv, h⟩ := h
  refine je_get (k := 1) C he rfl in_X7 (by decide) q552 rfl dX7_line_666 669 rfl hv ?_
  obtain ⟨j669, hj9, h8⟩ := p_at_inv h
  clear h
  subst hj9
  have h := h8
  clear h8
  replace h := p_ob_inv h
  obtain ⟨V669, he, h⟩ := h
  replace h := p_vr_inv h
  obtain ⟨x669, hv, h⟩ := h
  refine je_getN (k := 6) C he rfl in_X2 (by decide) q266 rfl dX7_line_669 672 rfl hv ?_
  refine je_ifnull (x := x669) C 679 dX7_line_672 675 rfl rfl h (fun _ h => ?_) (fun h => ?_)
  · refine je_iconst C (0) dX7_line_679 680 rfl ic_0 ?_
    refine je_goto C 698 dX7_line_680 rfl ?_
    refine je_sub [1, 0] [(0, .ref (G.2.1 + a0)), (1, .int s0)] rfl ?_
    exact hwX7_line_698 C hnt τ a0 s0 (0 : Int32) a0 cells hc h
  refine je_iconst C (1) dX7_line_675 676 rfl ic_1 ?_
  refine je_goto C 698 dX7_line_676 rfl ?_
  refine je_sub [1, 0] [(0, .ref (G.2.1 + a0)), (1, .int s0)] rfl ?_
  exact hwX7_line_698 C hnt τ a0 s0 (1 : Int32) a0 cells hc h
set_option maxHeartbeats 4000000 in
theorem hwX7_line_645 {p : Program} {l : Launch} {e : Env} {s : State} {m : MethodId} {args : Array Value} {below : List Frame} {meth : Method} {c : Code} {G : je_G} {F : Nat} {c0 : Nat} {r9 : (Nat × hS) ⊕ (Unit × hS)} (C : Cx p s m args meth c G "MinistryDesks$Reader" cX7_line 4 none) (hnt : ∀ x ∈ c.exceptionTable.toList, False) (τ : hS) (a0 : Nat) (cells : Nat) (hc : c0 + cells = τ.2.2 ∧ τ.2.2 ≤ DC) (h : hbX7_line_645 G F τ a0 = some r9) : Js p l e ({ frames := 89, cells := DC - c0, slots := 64 * (DC - c0), locals := 2036 } : Room) s m args below meth c G 4 (xMQ below G (xV r9) args s c0) τ.1 (G.2.1 + τ.2.1) cells (64 * cells) 645 [(0, .ref (G.2.1 + a0))] [] := by
  unfold hbX7_line_645 at h
  refine je_aload_n C dX7_line_645 646 rfl 0 rfl ?_
  replace h := p_ob_inv h
  obtain ⟨V646, he, h⟩ := h
  replace h := p_vi_inv h
  obtain ⟨x646, hv, h⟩ := h
  refine je_get (k := 4) C he rfl in_X7 (by decide) q555 rfl dX7_line_646 649 rfl hv ?_
  refine je_bipush C (9) dX7_line_649 651 rfl bp_9 ?_
  refine je_icmp_ne C 658 dX7_line_651 654 rfl rfl h ?_ ?_
  · clear h
    intro h
    refine je_iconst C (0) dX7_line_658 659 rfl ic_0 ?_
    exact hwX7_line_659 C hnt τ a0 (0 : Int32) cells hc h
  clear h
  intro h
  refine je_iconst C (1) dX7_line_654 655 rfl ic_1 ?_
  refine je_goto C 659 dX7_line_655 rfl ?_
  exact hwX7_line_659 C hnt τ a0 (1 : Int32) cells hc h
set_option maxHeartbeats 4000000 in
theorem hwX7_line_756 {p : Program} {l : Launch} {e : Env} {s : State} {m : MethodId} {args : Array Value} {below : List Frame} {meth : Method} {c : Code} {G : je_G} {F : Nat} {c0 : Nat} {r9 : (Nat × hS) ⊕ (Unit × hS)} (C : Cx p s m args meth c G "MinistryDesks$Reader" cX7_line 4 none) (hnt : ∀ x ∈ c.exceptionTable.toList, False) (τ : hS) (a0 : Nat) (s0 : Int32) (s1 : Nat) (cells : Nat) (hc : c0 + cells = τ.2.2 ∧ τ.2.2 ≤ DC) (h : hbX7_line_756 G F τ a0 s0 s1 = some r9) : Js p l e ({ frames := 89, cells := DC - c0, slots := 64 * (DC - c0), locals := 2036 } : Room) s m args below meth c G 4 (xMQ below G (xV r9) args s c0) τ.1 (G.2.1 + τ.2.1) cells (64 * cells) 756 [(0, .ref (G.2.1 + a0))] [.int s0, .ref (G.2.1 + s1)] := by
  unfold hbX7_line_756 at h
  replace h := p_ob_inv h
  obtain ⟨V756, he, h⟩ := h
  replace h := p_ex_inv h
  rcases h with ⟨z9, hg, hz1, rfl⟩ | ⟨u756, hg, hz1, hz2, h⟩
  · exact jx_callV (As := [.int s0]) (rest := []) C (hmX7_much hg) he rfl hdX7_much rfl cwX7_103 rfl ⟨Nat.le_of_ble_eq_true rfl, Nat.le_of_ble_eq_true rfl⟩ ⟨rfl, rfl⟩ hc (Nat.le_refl _) (Nat.le_of_ble_eq_true rfl) hnt dX7_line_756 759 rfl hz1 (fun _ e9 => e9) (fun _ e9 => by cases e9)
  refine jx_callV (As := [.int s0]) (rest := []) C (hmX7_much hg) he rfl hdX7_much rfl cwX7_103 rfl ⟨Nat.le_of_ble_eq_true rfl, Nat.le_of_ble_eq_true rfl⟩ ⟨rfl, rfl⟩ hc (Nat.le_refl _) (Nat.le_of_ble_eq_true rfl) hnt dX7_line_756 759 rfl hz1 (fun _ e9 => by cases e9) (fun z9 e9 cells2 hc2 => ?_)
  cases e9
  refine jx_lt (t0 := u756.2) h ?_
  clear h
  intro t756 e2 h
  replace hc : c0 + cells2 = t756.2.2 ∧ t756.2.2 ≤ DC := jx_f7 e2 hc2 hz2
  clear e2 hc2 hz1 hz2 hg
  refine je_aload_n C dX7_line_759 760 rfl 0 rfl ?_
  replace h := p_ob_inv h
  obtain ⟨V760, he, h⟩ := h
  replace h := p_cl_inv h
  obtain ⟨u760, hg, h⟩ := h
  refine je_callV (As := []) (rest := []) (o := none) C (hmX7_take hg) he rfl hdX7_take rfl cwX7_107 rfl ⟨Nat.le_of_ble_eq_true rfl, Nat.le_of_ble_eq_true rfl⟩ ⟨jx_f1 (k := 0) hc hc.2, jx_f2 (k := 0) (n := 0) hc hc.2 (Nat.le_of_ble_eq_true rfl)⟩ (Nat.le_of_ble_eq_true rfl) dX7_line_760 763 rfl ?_
  refine je_widen (cells2) (64 * (cells2)) (Nat.le_refl _) (jx_f30 (Nat.le_of_ble_eq_true rfl)) ?_
  refine jx_lt (t0 := x_of u760 (t756.2.2 + 0)) h ?_
  clear h
  intro t760 e2 h
  replace hc : c0 + (cells2) = t760.2.2 ∧ t760.2.2 ≤ DC := jx_f80 (k := 0) e2 hc hc.2
  clear e2 hg
  refine je_aload_n C dX7_line_763 764 rfl 0 rfl ?_
  refine je_aload_n C dX7_line_764 765 rfl 0 rfl ?_
  replace h := p_ob_inv h
  obtain ⟨V765, he, h⟩ := h
  replace h := p_vr_inv h
  obtain ⟨x765, hv, h⟩ := h
  refine je_get (k := 1) C he rfl in_X7 (by decide) q552 rfl dX7_line_765 768 rfl hv ?_
  refine je_aload_n C dX7_line_768 769 rfl 0 rfl ?_
  replace h := p_ob_inv h
  obtain ⟨V769, he, h⟩ := h
  replace h := p_ex_inv h
  rcases h with ⟨z9, hg, hz1, rfl⟩ | ⟨u769, hg, hz1, hz2, h⟩
  · exact jx_callV (As := []) (rest := [va_rf x765, .ref (G.2.1 + a0)]) C (hmX7_name hg) he rfl hdX7_name rfl cwX7_130 rfl ⟨Nat.le_of_ble_eq_true rfl, Nat.le_of_ble_eq_true rfl⟩ ⟨rfl, rfl⟩ hc (Nat.le_refl _) (by simp only [List.map_cons, List.map_nil, je_cat, List.sum_cons, List.sum_nil]; exact Nat.le_of_ble_eq_true rfl) hnt dX7_line_769 772 rfl hz1 (fun _ e9 => e9) (fun _ e9 => by cases e9)
  refine jx_callV (As := []) (rest := [va_rf x765, .ref (G.2.1 + a0)]) C (hmX7_name hg) he rfl hdX7_name rfl cwX7_130 rfl ⟨Nat.le_of_ble_eq_true rfl, Nat.le_of_ble_eq_true rfl⟩ ⟨rfl, rfl⟩ hc (Nat.le_refl _) (by simp only [List.map_cons, List.map_nil, je_cat, List.sum_cons, List.sum_nil]; exact Nat.le_of_ble_eq_true rfl) hnt dX7_line_769 772 rfl hz1 (fun _ e9 => by cases e9) (fun z9 e9 cells2 hc2 => ?_)
  cases e9
  refine je_lti (x := u769.1) (st := [va_rf x765, .ref (G.2.1 + a0)]) h ?_
  clear h
  intro x769 h
  refine jx_lt (t0 := u769.2) h ?_
  clear h
  intro t769 e2 h
  replace hc : c0 + cells2 = t769.2.2 ∧ t769.2.2 ≤ DC := jx_f7 e2 hc2 hz2
  clear e2 hc2 hz1 hz2 hg
  obtain ⟨j772, hj9, h8⟩ := p_at_inv h
  clear h
  subst hj9
  have h := h8
  clear h8
  replace h := p_ob_inv h
  obtain ⟨V772, he, h⟩ := h
  replace h := p_cl_inv h
  obtain ⟨x772, hg, h⟩ := h
  refine je_callV (As := [.int x769]) (rest := [.ref (G.2.1 + a0)]) (o := (some (.int x772))) C (hmX2_may hg) he rfl hdX2_may rfl cwX7_212 rfl ⟨Nat.le_of_ble_eq_true rfl, Nat.le_of_ble_eq_true rfl⟩ ⟨jx_f1 (k := 0) hc hc.2, jx_f2 (k := 0) (n := 0) hc hc.2 (Nat.le_of_ble_eq_true rfl)⟩ (Nat.le_of_ble_eq_true rfl) dX7_line_772 775 rfl ?_
  refine je_widen (cells2) (64 * (cells2)) (Nat.le_refl _) (jx_f30 (Nat.le_of_ble_eq_true rfl)) ?_
  replace h := p_ob_inv h
  obtain ⟨V775, he, h⟩ := h
  replace h := p_ex_inv h
  rcases h with ⟨z9, hg, hz1, rfl⟩ | ⟨u775, hg, hz1, hz2, h⟩
  · exact jx_callV (As := [.int x772]) (rest := []) C (hmX7_newName hg) he rfl hdX7_newName rfl cwX7_136 rfl ⟨Nat.le_of_ble_eq_true rfl, Nat.le_of_ble_eq_true rfl⟩ ⟨rfl, rfl⟩ hc (Nat.le_refl _) (Nat.le_of_ble_eq_true rfl) hnt dX7_line_775 778 rfl hz1 (fun _ e9 => e9) (fun _ e9 => by cases e9)
  refine jx_callV (As := [.int x772]) (rest := []) C (hmX7_newName hg) he rfl hdX7_newName rfl cwX7_136 rfl ⟨Nat.le_of_ble_eq_true rfl, Nat.le_of_ble_eq_true rfl⟩ ⟨rfl, rfl⟩ hc (Nat.le_refl _) (Nat.le_of_ble_eq_true rfl) hnt dX7_line_775 778 rfl hz1 (fun _ e9 => by cases e9) (fun z9 e9 cells2 hc2 => ?_)
  cases e9
  refine je_lti (x := u775.1) (st := []) h ?_
  clear h
  intro x775 h
  refine jx_lt (t0 := u775.2) h ?_
  clear h
  intro t775 e2 h
  replace hc : c0 + cells2 = t775.2.2 ∧ t775.2.2 ≤ DC := jx_f7 e2 hc2 hz2
  clear e2 hc2 hz1 hz2 hg
  refine je_istore_n C dX7_line_778 779 rfl (Nat.le_of_ble_eq_true rfl) [(1, .int x775), (0, .ref (G.2.1 + a0))] rfl ?_
  refine je_aload_n C dX7_line_779 780 rfl 1 rfl ?_
  replace h := p_ob_inv h
  obtain ⟨V780, he, h⟩ := h
  replace h := p_vr_inv h
  obtain ⟨x780, hv, h⟩ := h
  refine je_get (k := 1) C he rfl in_X7 (by decide) q552 rfl dX7_line_780 783 rfl hv ?_
  obtain ⟨j783, hj9, h8⟩ := p_at_inv h
  clear h
  subst hj9
  have h := h8
  clear h8
  replace h := p_ob_inv h
  obtain ⟨V783, he, h⟩ := h
  replace h := p_vr_inv h
  obtain ⟨x783, hv, h⟩ := h
  refine je_getN (k := 5) C he rfl in_X2 (by decide) q263 rfl dX7_line_783 786 rfl hv ?_
  replace h := p_pr_inv h
  obtain ⟨hb, h⟩ := h
  refine je_new C (ci := 11) rfl in_X21 tyX21 tyX21_ok q1147 q1148 q197 rfl (jx_f1 (k := 1) hc hb) (jx_f2 (k := 1) (n := 2) hc hb (Nat.le_of_ble_eq_true rfl)) dX7_line_786 789 rfl ?_
  refine je_widen (cells2 + 1) (64 * (cells2 + 1)) (Nat.le_refl _) (jx_f3 (Nat.le_of_ble_eq_true rfl)) ?_
  refine je_ltr h ?_
  clear h
  intro b786 h
  refine jx_lt h ?_
  clear h
  intro t786 e2 h
  replace hc : c0 + (cells2 + 1) = t786.2.2 ∧ t786.2.2 ≤ DC := jx_f4 (k := 1) e2 hc hb
  clear e2 hb
  refine je_dup C dX7_line_789 790 rfl rfl ?_
  refine je_iload_n C dX7_line_790 791 rfl 0 rfl ?_
  refine je_aload_n C dX7_line_791 792 rfl 1 rfl ?_
  replace h := p_ob_inv h
  obtain ⟨V792, he, h⟩ := h
  replace h := p_ex_inv h
  rcases h with ⟨z9, hg, hz1, rfl⟩ | ⟨u792, hg, hz1, hz2, h⟩
  · exact jx_callV (As := []) (rest := [.int x775, .ref (G.2.1 + b786), .ref (G.2.1 + b786), va_rf x783]) C ((hm_gX7 G F _ _ _).1 hg) he rfl hdX7_or rfl cwX7_205 rfl ⟨Nat.le_of_ble_eq_true rfl, Nat.le_of_ble_eq_true rfl⟩ ⟨rfl, rfl⟩ hc (Nat.le_refl _) (by simp only [List.map_cons, List.map_nil, je_cat, List.sum_cons, List.sum_nil]; exact Nat.le_of_ble_eq_true rfl) hnt dX7_line_792 795 rfl hz1 (fun _ e9 => e9) (fun _ e9 => by cases e9)
  refine jx_callV (As := []) (rest := [.int x775, .ref (G.2.1 + b786), .ref (G.2.1 + b786), va_rf x783]) C ((hm_gX7 G F _ _ _).1 hg) he rfl hdX7_or rfl cwX7_205 rfl ⟨Nat.le_of_ble_eq_true rfl, Nat.le_of_ble_eq_true rfl⟩ ⟨rfl, rfl⟩ hc (Nat.le_refl _) (by simp only [List.map_cons, List.map_nil, je_cat, List.sum_cons, List.sum_nil]; exact Nat.le_of_ble_eq_true rfl) hnt dX7_line_792 795 rfl hz1 (fun _ e9 => by cases e9) (fun z9 e9 cells2 hc2 => ?_)
  cases e9
  refine je_ltq (x := u792.1) (st := [.int x775, .ref (G.2.1 + b786), .ref (G.2.1 + b786), va_rf x783]) h ?_
  clear h
  intro x792 h
  refine jx_lt (t0 := u792.2) h ?_
  clear h
  intro t792 e2 h
  replace hc : c0 + cells2 = t792.2.2 ∧ t792.2.2 ≤ DC := jx_f7 e2 hc2 hz2
  clear e2 hc2 hz1 hz2 hg
  replace h := p_cl_inv h
  obtain ⟨u795, hg, h⟩ := h
  refine je_callIN (As := [.int x775, va_rf x792]) (rest := [.ref (G.2.1 + b786), va_rf x783]) C (hmX21_init hg) hdX21_init rfl ccX7_217 rfl ⟨Nat.le_of_ble_eq_true rfl, Nat.le_of_ble_eq_true rfl⟩ ⟨jx_f1 (k := 0) hc hc.2, jx_f2 (k := 0) (n := 0) hc hc.2 (Nat.le_of_ble_eq_true rfl)⟩ (by simp only [List.map_cons, List.map_nil, je_cat, List.sum_cons, List.sum_nil]; exact Nat.le_of_ble_eq_true rfl) dX7_line_795 798 rfl ?_
  refine je_widen (cells2) (64 * (cells2)) (Nat.le_refl _) (jx_f30 (Nat.le_of_ble_eq_true rfl)) ?_
  refine jx_lt (t0 := x_of u795 (t792.2.2 + 0)) h ?_
  clear h
  intro t795 e2 h
  replace hc : c0 + (cells2) = t795.2.2 ∧ t795.2.2 ≤ DC := jx_f80 (k := 0) e2 hc hc.2
  clear e2 hg
  obtain ⟨j798, hj9, h8⟩ := p_at_inv h
  clear h
  subst hj9
  have h := h8
  clear h8
  replace h := p_ob_inv h
  obtain ⟨V798, he, h⟩ := h
  replace h := p_pr_inv h
  obtain ⟨hb, h⟩ := h
  replace h := p_cl_inv h
  obtain ⟨u798, hg, h⟩ := h
  refine je_callV (As := [.ref (G.2.1 + b786)]) (rest := []) (o := (some (.int u798.1))) C (hmJ2_add hg) he rfl hdJ2_add rfl cwX7_145 rfl ⟨Nat.le_of_ble_eq_true rfl, Nat.le_of_ble_eq_true rfl⟩ ⟨jx_f1 (k := 1) hc hb, jx_f2 (k := 1) (n := 40) hc hb (Nat.le_of_ble_eq_true rfl)⟩ (Nat.le_of_ble_eq_true rfl) dX7_line_798 801 rfl ?_
  refine je_widen (cells2 + 1) (64 * (cells2 + 1)) (Nat.le_refl _) (jx_f3 (Nat.le_of_ble_eq_true rfl)) ?_
  refine je_lti (x := u798.1) (st := []) h ?_
  clear h
  intro x798 h
  refine jx_lt (t0 := x_of u798.2 (t795.2.2 + 1)) h ?_
  clear h
  intro t798 e2 h
  replace hc : c0 + (cells2 + 1) = t798.2.2 ∧ t798.2.2 ≤ DC := jx_f8 (k := 1) e2 hc hb
  clear e2 hg hb
  refine je_pop C dX7_line_801 802 rfl rfl ?_
  cases h
  exact jx_ret hc.1 (Nat.le_refl _) (je_vret C dX7_line_802)
set_option maxHeartbeats 4000000 in
theorem hmX7_line {l : Launch} {G : je_G} {F : Nat} {τ : hS} {a0 : Nat} {r9 : (Nat × hS) ⊕ (Unit × hS)} (h : hX7_line G F τ a0 = some r9) : MetX l G yX7_line cX7_line 4 none 89 2036 [.ref (G.2.1 + a0)] τ (xV r9) := by
  by_cases hDC : τ.2.2 ≤ DC
  · refine jx_met "MinistryDesks$Reader" rfl (by decide +kernel) (Nat.le_of_ble_eq_true rfl) [(0, .ref (G.2.1 + a0))] rfl (fun p e s m args below meth c C hnt => ?_)
    have hc : τ.2.2 + 0 = τ.2.2 ∧ τ.2.2 ≤ DC := ⟨rfl, hDC⟩
    unfold hX7_line at h
    obtain ⟨-, h⟩ := p_pr_inv h
    refine je_widen 0 (64 * 0) (Nat.le_refl _) (Nat.le_refl _) ?_
    refine je_aload_n C dX7_line_0 1 rfl 0 rfl ?_
    replace h := p_ob_inv h
    obtain ⟨V1, he, h⟩ := h
    replace h := p_vi_inv h
    obtain ⟨x1, hv, h⟩ := h
    refine je_get (k := 4) C he rfl in_X7 (by decide) q555 rfl dX7_line_1 4 rfl hv ?_
    refine je_ite h (fun hx h => ?_) (fun hn0 h => ?_)
    · refine je_tsw C (0) 52 dX7_line_4 hx (by decide) (by decide) rfl rfl ?_
      refine je_aload_n C dX7_line_52 53 rfl 0 rfl ?_
      refine je_aload_n C dX7_line_53 54 rfl 0 rfl ?_
      replace h := p_ob_inv h
      obtain ⟨V54, he, h⟩ := h
      replace h := p_vr_inv h
      obtain ⟨x54, hv, h⟩ := h
      refine je_get (k := 1) C he rfl in_X7 (by decide) q552 rfl dX7_line_54 57 rfl hv ?_
      obtain ⟨j57, hj9, h8⟩ := p_at_inv h
      clear h
      subst hj9
      have h := h8
      clear h8
      replace h := p_ob_inv h
      obtain ⟨V57, he, h⟩ := h
      replace h := p_vr_inv h
      obtain ⟨x57, hv, h⟩ := h
      refine je_getN (k := 0) C he rfl in_X2 (by decide) q247 rfl dX7_line_57 60 rfl hv ?_
      obtain ⟨j60, hj9, h8⟩ := p_at_inv h
      clear h
      subst hj9
      have h := h8
      clear h8
      replace h := p_ob_inv h
      obtain ⟨V60, he, h⟩ := h
      replace h := p_cl_inv h
      obtain ⟨x60, hg, h⟩ := h
      refine je_callV (As := []) (rest := [.ref (G.2.1 + a0)]) (o := (some (.int x60))) C (hmJ2_size hg) he rfl hdJ2_size rfl cwX7_126 rfl ⟨Nat.le_of_ble_eq_true rfl, Nat.le_of_ble_eq_true rfl⟩ ⟨jx_f1 (k := 0) hc hc.2, jx_f2 (k := 0) (n := 0) hc hc.2 (Nat.le_of_ble_eq_true rfl)⟩ (Nat.le_of_ble_eq_true rfl) dX7_line_60 63 rfl ?_
      refine je_widen (0) (64 * (0)) (Nat.le_refl _) (jx_f30 (Nat.le_of_ble_eq_true rfl)) ?_
      refine je_iconst C (4) dX7_line_63 64 rfl ic_4 ?_
      refine je_icmp_ne C 71 dX7_line_64 67 rfl rfl h ?_ ?_
      · clear h
        intro h
        refine je_iconst C (0) dX7_line_71 72 rfl ic_0 ?_
        exact hwX7_line_72 C hnt τ a0 (0 : Int32) a0 0 hc h
      clear h
      intro h
      refine je_iconst C (1) dX7_line_67 68 rfl ic_1 ?_
      refine je_goto C 72 dX7_line_68 rfl ?_
      exact hwX7_line_72 C hnt τ a0 (1 : Int32) a0 0 hc h
    refine je_ite h (fun hx h => ?_) (fun hn1 h => ?_)
    · refine je_tsw C (1) 124 dX7_line_4 hx (by decide) (by decide) rfl rfl ?_
      refine je_aload_n C dX7_line_124 125 rfl 0 rfl ?_
      replace h := p_ob_inv h
      obtain ⟨V125, he, h⟩ := h
      replace h := p_cl_inv h
      obtain ⟨u125, hg, h⟩ := h
      refine je_callV (As := []) (rest := []) (o := none) C (hmX7_take hg) he rfl hdX7_take rfl cwX7_107 rfl ⟨Nat.le_of_ble_eq_true rfl, Nat.le_of_ble_eq_true rfl⟩ ⟨jx_f1 (k := 0) hc hc.2, jx_f2 (k := 0) (n := 0) hc hc.2 (Nat.le_of_ble_eq_true rfl)⟩ (Nat.le_of_ble_eq_true rfl) dX7_line_125 128 rfl ?_
      refine je_widen (0) (64 * (0)) (Nat.le_refl _) (jx_f30 (Nat.le_of_ble_eq_true rfl)) ?_
      refine jx_lt (t0 := x_of u125 (τ.2.2 + 0)) h ?_
      clear h
      intro t125 e2 h
      replace hc : τ.2.2 + (0) = t125.2.2 ∧ t125.2.2 ≤ DC := jx_f80 (k := 0) e2 hc hc.2
      clear e2 hg
      refine je_aload_n C dX7_line_128 129 rfl 0 rfl ?_
      replace h := p_ob_inv h
      obtain ⟨V129, he, h⟩ := h
      replace h := p_vr_inv h
      obtain ⟨x129, hv, h⟩ := h
      refine je_get (k := 1) C he rfl in_X7 (by decide) q552 rfl dX7_line_129 132 rfl hv ?_
      refine je_aload_n C dX7_line_132 133 rfl 0 rfl ?_
      replace h := p_ob_inv h
      obtain ⟨V133, he, h⟩ := h
      replace h := p_ex_inv h
      rcases h with ⟨z9, hg, hz1, rfl⟩ | ⟨u133, hg, hz1, hz2, h⟩
      · exact jx_callV (As := []) (rest := [va_rf x129]) C (hmX7_name hg) he rfl hdX7_name rfl cwX7_130 rfl ⟨Nat.le_of_ble_eq_true rfl, Nat.le_of_ble_eq_true rfl⟩ ⟨rfl, rfl⟩ hc (Nat.le_refl _) (by simp only [List.map_cons, List.map_nil, je_cat, List.sum_cons, List.sum_nil]; exact Nat.le_of_ble_eq_true rfl) hnt dX7_line_133 136 rfl hz1 (fun _ e9 => e9) (fun _ e9 => by cases e9)
      refine jx_callV (As := []) (rest := [va_rf x129]) C (hmX7_name hg) he rfl hdX7_name rfl cwX7_130 rfl ⟨Nat.le_of_ble_eq_true rfl, Nat.le_of_ble_eq_true rfl⟩ ⟨rfl, rfl⟩ hc (Nat.le_refl _) (by simp only [List.map_cons, List.map_nil, je_cat, List.sum_cons, List.sum_nil]; exact Nat.le_of_ble_eq_true rfl) hnt dX7_line_133 136 rfl hz1 (fun _ e9 => by cases e9) (fun z9 e9 cells2 hc2 => ?_)
      cases e9
      refine je_lti (x := u133.1) (st := [va_rf x129]) h ?_
      clear h
      intro x133 h
      refine jx_lt (t0 := u133.2) h ?_
      clear h
      intro t133 e2 h
      replace hc : τ.2.2 + cells2 = t133.2.2 ∧ t133.2.2 ≤ DC := jx_f7 e2 hc2 hz2
      clear e2 hc2 hz1 hz2 hg
      obtain ⟨j136, hj9, h8⟩ := p_at_inv h
      clear h
      subst hj9
      have h := h8
      clear h8
      replace h := p_ob_inv h
      obtain ⟨V136, he, h⟩ := h
      replace h := p_cl_inv h
      obtain ⟨x136, hg, h⟩ := h
      refine je_callV (As := [.int x133]) (rest := []) (o := (some (.int x136))) C (hmX2_desk hg) he rfl hdX2_desk rfl cwX7_133 rfl ⟨Nat.le_of_ble_eq_true rfl, Nat.le_of_ble_eq_true rfl⟩ ⟨jx_f1 (k := 0) hc hc.2, jx_f2 (k := 0) (n := 0) hc hc.2 (Nat.le_of_ble_eq_true rfl)⟩ (Nat.le_of_ble_eq_true rfl) dX7_line_136 139 rfl ?_
      refine je_widen (cells2) (64 * (cells2)) (Nat.le_refl _) (jx_f30 (Nat.le_of_ble_eq_true rfl)) ?_
      refine je_istore_n C dX7_line_139 140 rfl (Nat.le_of_ble_eq_true rfl) [(1, .int x136), (0, .ref (G.2.1 + a0))] rfl ?_
      refine je_aload_n C dX7_line_140 141 rfl 1 rfl ?_
      refine je_iload_n C dX7_line_141 142 rfl 0 rfl ?_
      refine je_if_lt C 169 dX7_line_142 145 rfl rfl h ?_ ?_
      · clear h
        intro h
        refine je_sub [1, 0] [(0, .ref (G.2.1 + a0)), (1, .int x136)] rfl ?_
        exact hwX7_line_169 C hnt t133 a0 x136 a0 cells2 hc h
      clear h
      intro h
      refine je_aload_n C dX7_line_145 146 rfl 1 rfl ?_
      replace h := p_ob_inv h
      obtain ⟨V146, he, h⟩ := h
      replace h := p_vr_inv h
      obtain ⟨x146, hv, h⟩ := h
      refine je_get (k := 1) C he rfl in_X7 (by decide) q552 rfl dX7_line_146 149 rfl hv ?_
      obtain ⟨j149, hj9, h8⟩ := p_at_inv h
      clear h
      subst hj9
      have h := h8
      clear h8
      replace h := p_ob_inv h
      obtain ⟨V149, he, h⟩ := h
      replace h := p_vr_inv h
      obtain ⟨x149, hv, h⟩ := h
      refine je_getN (k := 0) C he rfl in_X2 (by decide) q247 rfl dX7_line_149 152 rfl hv ?_
      refine je_iload_n C dX7_line_152 153 rfl 0 rfl ?_
      obtain ⟨j153, hj9, h8⟩ := p_at_inv h
      clear h
      subst hj9
      have h := h8
      clear h8
      replace h := p_ob_inv h
      obtain ⟨V153, he, h⟩ := h
      replace h := p_cl_inv h
      obtain ⟨x153, hg, h⟩ := h
      refine je_callV (As := [.int x136]) (rest := [.ref (G.2.1 + a0)]) (o := (some (va_rf x153))) C (hmJ2_get hg) he rfl hdJ2_get rfl cwX7_149 rfl ⟨Nat.le_of_ble_eq_true rfl, Nat.le_of_ble_eq_true rfl⟩ ⟨jx_f1 (k := 0) hc hc.2, jx_f2 (k := 0) (n := 0) hc hc.2 (Nat.le_of_ble_eq_true rfl)⟩ (Nat.le_of_ble_eq_true rfl) dX7_line_153 156 rfl ?_
      refine je_widen (cells2) (64 * (cells2)) (Nat.le_refl _) (jx_f30 (Nat.le_of_ble_eq_true rfl)) ?_
      obtain ⟨j156, hj9, h8⟩ := p_at_inv h
      clear h
      subst hj9
      have h := h8
      clear h8
      replace h := p_ob_inv h
      obtain ⟨V156, he, h⟩ := h
      refine je_cast C he rfl q840 dX7_line_156 159 rfl ?_
      replace h := p_ob_inv h
      obtain ⟨V159, he, h⟩ := h
      replace h := p_vi_inv h
      obtain ⟨x159, hv, h⟩ := h
      refine je_getN (k := 2) C he rfl in_X9 (by decide) q858 rfl dX7_line_159 162 rfl hv ?_
      refine je_if_lt C 169 dX7_line_162 165 rfl rfl h ?_ ?_
      · clear h
        intro h
        refine je_sub [1, 0] [(0, .ref (G.2.1 + a0)), (1, .int x136)] rfl ?_
        exact hwX7_line_169 C hnt t133 a0 x136 a0 cells2 hc h
      clear h
      intro h
      refine je_iconst C (1) dX7_line_165 166 rfl ic_1 ?_
      refine je_goto C 170 dX7_line_166 rfl ?_
      refine je_sub [1, 0] [(0, .ref (G.2.1 + a0)), (1, .int x136)] rfl ?_
      exact hwX7_line_170 C hnt t133 a0 x136 (1 : Int32) a0 cells2 hc h
    refine je_ite h (fun hx h => ?_) (fun hn2 h => ?_)
    · refine je_tsw C (2) 234 dX7_line_4 hx (by decide) (by decide) rfl rfl ?_
      refine je_aload_n C dX7_line_234 235 rfl 0 rfl ?_
      refine je_aload_n C dX7_line_235 236 rfl 0 rfl ?_
      replace h := p_ob_inv h
      obtain ⟨V236, he, h⟩ := h
      replace h := p_vr_inv h
      obtain ⟨x236, hv, h⟩ := h
      refine je_get (k := 1) C he rfl in_X7 (by decide) q552 rfl dX7_line_236 239 rfl hv ?_
      obtain ⟨j239, hj9, h8⟩ := p_at_inv h
      clear h
      subst hj9
      have h := h8
      clear h8
      replace h := p_ob_inv h
      obtain ⟨V239, he, h⟩ := h
      replace h := p_vr_inv h
      obtain ⟨x239, hv, h⟩ := h
      refine je_getN (k := 1) C he rfl in_X2 (by decide) q250 rfl dX7_line_239 242 rfl hv ?_
      obtain ⟨j242, hj9, h8⟩ := p_at_inv h
      clear h
      subst hj9
      have h := h8
      clear h8
      replace h := p_ob_inv h
      obtain ⟨V242, he, h⟩ := h
      replace h := p_cl_inv h
      obtain ⟨x242, hg, h⟩ := h
      refine je_callV (As := []) (rest := [.ref (G.2.1 + a0)]) (o := (some (.int x242))) C (hmJ2_size hg) he rfl hdJ2_size rfl cwX7_126 rfl ⟨Nat.le_of_ble_eq_true rfl, Nat.le_of_ble_eq_true rfl⟩ ⟨jx_f1 (k := 0) hc hc.2, jx_f2 (k := 0) (n := 0) hc hc.2 (Nat.le_of_ble_eq_true rfl)⟩ (Nat.le_of_ble_eq_true rfl) dX7_line_242 245 rfl ?_
      refine je_widen (0) (64 * (0)) (Nat.le_refl _) (jx_f30 (Nat.le_of_ble_eq_true rfl)) ?_
      refine je_bipush C (7) dX7_line_245 247 rfl bp_7 ?_
      refine je_icmp_ne C 254 dX7_line_247 250 rfl rfl h ?_ ?_
      · clear h
        intro h
        refine je_iconst C (0) dX7_line_254 255 rfl ic_0 ?_
        exact hwX7_line_255 C hnt τ a0 (0 : Int32) a0 0 hc h
      clear h
      intro h
      refine je_iconst C (1) dX7_line_250 251 rfl ic_1 ?_
      refine je_goto C 255 dX7_line_251 rfl ?_
      exact hwX7_line_255 C hnt τ a0 (1 : Int32) a0 0 hc h
    refine je_ite h (fun hx h => ?_) (fun hn3 h => ?_)
    · refine je_tsw C (3) 307 dX7_line_4 hx (by decide) (by decide) rfl rfl ?_
      refine je_aload_n C dX7_line_307 308 rfl 0 rfl ?_
      refine je_aload_n C dX7_line_308 309 rfl 0 rfl ?_
      replace h := p_ob_inv h
      obtain ⟨V309, he, h⟩ := h
      replace h := p_vr_inv h
      obtain ⟨x309, hv, h⟩ := h
      refine je_get (k := 1) C he rfl in_X7 (by decide) q552 rfl dX7_line_309 312 rfl hv ?_
      obtain ⟨j312, hj9, h8⟩ := p_at_inv h
      clear h
      subst hj9
      have h := h8
      clear h8
      replace h := p_ob_inv h
      obtain ⟨V312, he, h⟩ := h
      replace h := p_vr_inv h
      obtain ⟨x312, hv, h⟩ := h
      refine je_getN (k := 2) C he rfl in_X2 (by decide) q254 rfl dX7_line_312 315 rfl hv ?_
      obtain ⟨j315, hj9, h8⟩ := p_at_inv h
      clear h
      subst hj9
      have h := h8
      clear h8
      replace h := p_ob_inv h
      obtain ⟨V315, he, h⟩ := h
      replace h := p_cl_inv h
      obtain ⟨x315, hg, h⟩ := h
      refine je_callV (As := []) (rest := [.ref (G.2.1 + a0)]) (o := (some (.int x315))) C (hmJ2_size hg) he rfl hdJ2_size rfl cwX7_126 rfl ⟨Nat.le_of_ble_eq_true rfl, Nat.le_of_ble_eq_true rfl⟩ ⟨jx_f1 (k := 0) hc hc.2, jx_f2 (k := 0) (n := 0) hc hc.2 (Nat.le_of_ble_eq_true rfl)⟩ (Nat.le_of_ble_eq_true rfl) dX7_line_315 318 rfl ?_
      refine je_widen (0) (64 * (0)) (Nat.le_refl _) (jx_f30 (Nat.le_of_ble_eq_true rfl)) ?_
      refine je_bipush C (16) dX7_line_318 320 rfl bp_16 ?_
      refine je_icmp_ne C 327 dX7_line_320 323 rfl rfl h ?_ ?_
      · clear h
        intro h
        refine je_iconst C (0) dX7_line_327 328 rfl ic_0 ?_
        exact hwX7_line_328 C hnt τ a0 (0 : Int32) a0 0 hc h
      clear h
      intro h
      refine je_iconst C (1) dX7_line_323 324 rfl ic_1 ?_
      refine je_goto C 328 dX7_line_324 rfl ?_
      exact hwX7_line_328 C hnt τ a0 (1 : Int32) a0 0 hc h
    refine je_ite h (fun hx h => ?_) (fun hn4 h => ?_)
    · refine je_tsw C (4) 406 dX7_line_4 hx (by decide) (by decide) rfl rfl ?_
      refine je_aload_n C dX7_line_406 407 rfl 0 rfl ?_
      refine je_aload_n C dX7_line_407 408 rfl 0 rfl ?_
      replace h := p_ob_inv h
      obtain ⟨V408, he, h⟩ := h
      replace h := p_vr_inv h
      obtain ⟨x408, hv, h⟩ := h
      refine je_get (k := 1) C he rfl in_X7 (by decide) q552 rfl dX7_line_408 411 rfl hv ?_
      obtain ⟨j411, hj9, h8⟩ := p_at_inv h
      clear h
      subst hj9
      have h := h8
      clear h8
      replace h := p_ob_inv h
      obtain ⟨V411, he, h⟩ := h
      replace h := p_vr_inv h
      obtain ⟨x411, hv, h⟩ := h
      refine je_getN (k := 3) C he rfl in_X2 (by decide) q258 rfl dX7_line_411 414 rfl hv ?_
      obtain ⟨j414, hj9, h8⟩ := p_at_inv h
      clear h
      subst hj9
      have h := h8
      clear h8
      replace h := p_ob_inv h
      obtain ⟨V414, he, h⟩ := h
      replace h := p_cl_inv h
      obtain ⟨x414, hg, h⟩ := h
      refine je_callV (As := []) (rest := [.ref (G.2.1 + a0)]) (o := (some (.int x414))) C (hmJ2_size hg) he rfl hdJ2_size rfl cwX7_126 rfl ⟨Nat.le_of_ble_eq_true rfl, Nat.le_of_ble_eq_true rfl⟩ ⟨jx_f1 (k := 0) hc hc.2, jx_f2 (k := 0) (n := 0) hc hc.2 (Nat.le_of_ble_eq_true rfl)⟩ (Nat.le_of_ble_eq_true rfl) dX7_line_414 417 rfl ?_
      refine je_widen (0) (64 * (0)) (Nat.le_refl _) (jx_f30 (Nat.le_of_ble_eq_true rfl)) ?_
      refine je_bipush C (16) dX7_line_417 419 rfl bp_16 ?_
      refine je_icmp_ne C 426 dX7_line_419 422 rfl rfl h ?_ ?_
      · clear h
        intro h
        refine je_iconst C (0) dX7_line_426 427 rfl ic_0 ?_
        exact hwX7_line_427 C hnt τ a0 (0 : Int32) a0 0 hc h
      clear h
      intro h
      refine je_iconst C (1) dX7_line_422 423 rfl ic_1 ?_
      refine je_goto C 427 dX7_line_423 rfl ?_
      exact hwX7_line_427 C hnt τ a0 (1 : Int32) a0 0 hc h
    refine je_ite h (fun hx h => ?_) (fun hn5 h => ?_)
    · refine je_tsw C (5) 505 dX7_line_4 hx (by decide) (by decide) rfl rfl ?_
      refine je_aload_n C dX7_line_505 506 rfl 0 rfl ?_
      refine je_aload_n C dX7_line_506 507 rfl 0 rfl ?_
      replace h := p_ob_inv h
      obtain ⟨V507, he, h⟩ := h
      replace h := p_vr_inv h
      obtain ⟨x507, hv, h⟩ := h
      refine je_get (k := 1) C he rfl in_X7 (by decide) q552 rfl dX7_line_507 510 rfl hv ?_
      obtain ⟨j510, hj9, h8⟩ := p_at_inv h
      clear h
      subst hj9
      have h := h8
      clear h8
      replace h := p_ob_inv h
      obtain ⟨V510, he, h⟩ := h
      replace h := p_vr_inv h
      obtain ⟨x510, hv, h⟩ := h
      refine je_getN (k := 4) C he rfl in_X2 (by decide) q260 rfl dX7_line_510 513 rfl hv ?_
      obtain ⟨j513, hj9, h8⟩ := p_at_inv h
      clear h
      subst hj9
      have h := h8
      clear h8
      replace h := p_ob_inv h
      obtain ⟨V513, he, h⟩ := h
      replace h := p_cl_inv h
      obtain ⟨x513, hg, h⟩ := h
      refine je_callV (As := []) (rest := [.ref (G.2.1 + a0)]) (o := (some (.int x513))) C (hmJ2_size hg) he rfl hdJ2_size rfl cwX7_126 rfl ⟨Nat.le_of_ble_eq_true rfl, Nat.le_of_ble_eq_true rfl⟩ ⟨jx_f1 (k := 0) hc hc.2, jx_f2 (k := 0) (n := 0) hc hc.2 (Nat.le_of_ble_eq_true rfl)⟩ (Nat.le_of_ble_eq_true rfl) dX7_line_513 516 rfl ?_
      refine je_widen (0) (64 * (0)) (Nat.le_refl _) (jx_f30 (Nat.le_of_ble_eq_true rfl)) ?_
      refine je_iconst C (4) dX7_line_516 517 rfl ic_4 ?_
      refine je_icmp_ne C 524 dX7_line_517 520 rfl rfl h ?_ ?_
      · clear h
        intro h
        refine je_iconst C (0) dX7_line_524 525 rfl ic_0 ?_
        exact hwX7_line_525 C hnt τ a0 (0 : Int32) a0 0 hc h
      clear h
      intro h
      refine je_iconst C (1) dX7_line_520 521 rfl ic_1 ?_
      refine je_goto C 525 dX7_line_521 rfl ?_
      exact hwX7_line_525 C hnt τ a0 (1 : Int32) a0 0 hc h
    refine je_ite h (fun hx h => ?_) (fun hn6 h => ?_)
    · refine je_tsw C (6) 577 dX7_line_4 hx (by decide) (by decide) rfl rfl ?_
      refine je_aload_n C dX7_line_577 578 rfl 0 rfl ?_
      refine je_aload_n C dX7_line_578 579 rfl 0 rfl ?_
      replace h := p_ob_inv h
      obtain ⟨V579, he, h⟩ := h
      replace h := p_vr_inv h
      obtain ⟨x579, hv, h⟩ := h
      refine je_get (k := 1) C he rfl in_X7 (by decide) q552 rfl dX7_line_579 582 rfl hv ?_
      obtain ⟨j582, hj9, h8⟩ := p_at_inv h
      clear h
      subst hj9
      have h := h8
      clear h8
      replace h := p_ob_inv h
      obtain ⟨V582, he, h⟩ := h
      replace h := p_vi_inv h
      obtain ⟨x582, hv, h⟩ := h
      refine je_getN (k := 11) C he rfl in_X2 (by decide) q277 rfl dX7_line_582 585 rfl hv ?_
      replace h := p_ob_inv h
      obtain ⟨V585, he, h⟩ := h
      replace h := p_ex_inv h
      rcases h with ⟨z9, hg, hz1, rfl⟩ | ⟨u585, hg, hz1, hz2, h⟩
      · exact jx_callV (As := [.int x582]) (rest := []) C (hmX7_told hg) he rfl hdX7_told rfl cwX7_110 rfl ⟨Nat.le_of_ble_eq_true rfl, Nat.le_of_ble_eq_true rfl⟩ ⟨rfl, rfl⟩ hc (Nat.le_refl _) (Nat.le_of_ble_eq_true rfl) hnt dX7_line_585 588 rfl hz1 (fun _ e9 => e9) (fun _ e9 => by cases e9)
      refine jx_callV (As := [.int x582]) (rest := []) C (hmX7_told hg) he rfl hdX7_told rfl cwX7_110 rfl ⟨Nat.le_of_ble_eq_true rfl, Nat.le_of_ble_eq_true rfl⟩ ⟨rfl, rfl⟩ hc (Nat.le_refl _) (Nat.le_of_ble_eq_true rfl) hnt dX7_line_585 588 rfl hz1 (fun _ e9 => by cases e9) (fun z9 e9 cells2 hc2 => ?_)
      cases e9
      refine jx_lt (t0 := u585.2) h ?_
      clear h
      intro t585 e2 h
      replace hc : τ.2.2 + cells2 = t585.2.2 ∧ t585.2.2 ≤ DC := jx_f7 e2 hc2 hz2
      clear e2 hc2 hz1 hz2 hg
      refine je_aload_n C dX7_line_588 589 rfl 0 rfl ?_
      replace h := p_ob_inv h
      obtain ⟨V589, he, h⟩ := h
      replace h := p_vr_inv h
      obtain ⟨x589, hv, h⟩ := h
      refine je_get (k := 1) C he rfl in_X7 (by decide) q552 rfl dX7_line_589 592 rfl hv ?_
      refine je_iconst C (1) dX7_line_592 593 rfl ic_1 ?_
      obtain ⟨j593, hj9, h8⟩ := p_at_inv h
      clear h
      subst hj9
      have h := h8
      clear h8
      replace h := p_ob_inv h
      obtain ⟨V593, he, h⟩ := h
      refine je_putN (k := 11) (v := .int (1 : Int32)) C he rfl in_X2 tyX2 tyX2_ok nmX2 (by decide) q277 rfl rfl (je_nar (Or.inr rfl)) (je_booln (Or.inr rfl)) dX7_line_593 596 rfl ?_
      refine jx_lt h ?_
      clear h
      intro t593 e2 h
      replace hc : τ.2.2 + cells2 = t593.2.2 ∧ t593.2.2 ≤ DC := jx_f0 e2 hc
      clear e2
      refine je_aload_n C dX7_line_596 597 rfl 0 rfl ?_
      replace h := p_ob_inv h
      obtain ⟨V597, he, h⟩ := h
      replace h := p_cl_inv h
      obtain ⟨u597, hg, h⟩ := h
      refine je_callV (As := []) (rest := []) (o := none) C (hmX7_take hg) he rfl hdX7_take rfl cwX7_107 rfl ⟨Nat.le_of_ble_eq_true rfl, Nat.le_of_ble_eq_true rfl⟩ ⟨jx_f1 (k := 0) hc hc.2, jx_f2 (k := 0) (n := 0) hc hc.2 (Nat.le_of_ble_eq_true rfl)⟩ (Nat.le_of_ble_eq_true rfl) dX7_line_597 600 rfl ?_
      refine je_widen (cells2) (64 * (cells2)) (Nat.le_refl _) (jx_f30 (Nat.le_of_ble_eq_true rfl)) ?_
      refine jx_lt (t0 := x_of u597 (t593.2.2 + 0)) h ?_
      clear h
      intro t597 e2 h
      replace hc : τ.2.2 + (cells2) = t597.2.2 ∧ t597.2.2 ≤ DC := jx_f80 (k := 0) e2 hc hc.2
      clear e2 hg
      refine je_aload_n C dX7_line_600 601 rfl 0 rfl ?_
      replace h := p_ob_inv h
      obtain ⟨V601, he, h⟩ := h
      replace h := p_vr_inv h
      obtain ⟨x601, hv, h⟩ := h
      refine je_get (k := 1) C he rfl in_X7 (by decide) q552 rfl dX7_line_601 604 rfl hv ?_
      refine je_aload_n C dX7_line_604 605 rfl 0 rfl ?_
      refine je_iconst C (0) dX7_line_605 606 rfl ic_0 ?_
      refine je_sipush C (999) dX7_line_606 609 rfl sp_999 ?_
      replace h := p_ob_inv h
      obtain ⟨V609, he, h⟩ := h
      replace h := p_ex_inv h
      rcases h with ⟨z9, hg, hz1, rfl⟩ | ⟨u609, hg, hz1, hz2, h⟩
      · exact jx_callV (As := [.int (0 : Int32), .int (999 : Int32)]) (rest := [va_rf x601]) C (hmX7_number hg) he rfl hdX7_number rfl cwX7_141 rfl ⟨Nat.le_of_ble_eq_true rfl, Nat.le_of_ble_eq_true rfl⟩ ⟨rfl, rfl⟩ hc (Nat.le_refl _) (by simp only [List.map_cons, List.map_nil, je_cat, List.sum_cons, List.sum_nil]; exact Nat.le_of_ble_eq_true rfl) hnt dX7_line_609 612 rfl hz1 (fun _ e9 => e9) (fun _ e9 => by cases e9)
      refine jx_callV (As := [.int (0 : Int32), .int (999 : Int32)]) (rest := [va_rf x601]) C (hmX7_number hg) he rfl hdX7_number rfl cwX7_141 rfl ⟨Nat.le_of_ble_eq_true rfl, Nat.le_of_ble_eq_true rfl⟩ ⟨rfl, rfl⟩ hc (Nat.le_refl _) (by simp only [List.map_cons, List.map_nil, je_cat, List.sum_cons, List.sum_nil]; exact Nat.le_of_ble_eq_true rfl) hnt dX7_line_609 612 rfl hz1 (fun _ e9 => by cases e9) (fun z9 e9 cells2 hc2 => ?_)
      cases e9
      refine je_lti (x := u609.1) (st := [va_rf x601]) h ?_
      clear h
      intro x609 h
      refine jx_lt (t0 := u609.2) h ?_
      clear h
      intro t609 e2 h
      replace hc : τ.2.2 + cells2 = t609.2.2 ∧ t609.2.2 ≤ DC := jx_f7 e2 hc2 hz2
      clear e2 hc2 hz1 hz2 hg
      obtain ⟨j612, hj9, h8⟩ := p_at_inv h
      clear h
      subst hj9
      have h := h8
      clear h8
      replace h := p_ob_inv h
      obtain ⟨V612, he, h⟩ := h
      refine je_putN (k := 8) (v := .int x609) C he rfl in_X2 tyX2 tyX2_ok nmX2 (by decide) q271 rfl rfl rfl rfl dX7_line_612 615 rfl ?_
      refine jx_lt h ?_
      clear h
      intro t612 e2 h
      replace hc : τ.2.2 + cells2 = t612.2.2 ∧ t612.2.2 ≤ DC := jx_f0 e2 hc
      clear e2
      refine je_goto C 802 dX7_line_615 rfl ?_
      cases h
      exact jx_ret hc.1 (Nat.le_refl _) (je_vret C dX7_line_802)
    refine je_ite h (fun hx h => ?_) (fun hn7 h => ?_)
    · refine je_tsw C (7) 618 dX7_line_4 hx (by decide) (by decide) rfl rfl ?_
      refine je_aload_n C dX7_line_618 619 rfl 0 rfl ?_
      replace h := p_ob_inv h
      obtain ⟨V619, he, h⟩ := h
      replace h := p_cl_inv h
      obtain ⟨u619, hg, h⟩ := h
      refine je_callV (As := []) (rest := []) (o := none) C (hmX7_take hg) he rfl hdX7_take rfl cwX7_107 rfl ⟨Nat.le_of_ble_eq_true rfl, Nat.le_of_ble_eq_true rfl⟩ ⟨jx_f1 (k := 0) hc hc.2, jx_f2 (k := 0) (n := 0) hc hc.2 (Nat.le_of_ble_eq_true rfl)⟩ (Nat.le_of_ble_eq_true rfl) dX7_line_619 622 rfl ?_
      refine je_widen (0) (64 * (0)) (Nat.le_refl _) (jx_f30 (Nat.le_of_ble_eq_true rfl)) ?_
      refine jx_lt (t0 := x_of u619 (τ.2.2 + 0)) h ?_
      clear h
      intro t619 e2 h
      replace hc : τ.2.2 + (0) = t619.2.2 ∧ t619.2.2 ≤ DC := jx_f80 (k := 0) e2 hc hc.2
      clear e2 hg
      refine je_aload_n C dX7_line_622 623 rfl 0 rfl ?_
      refine je_bipush C (9) dX7_line_623 625 rfl bp_9 ?_
      replace h := p_ob_inv h
      obtain ⟨V625, he, h⟩ := h
      replace h := p_cl_inv h
      obtain ⟨x625, hg, h⟩ := h
      refine je_callV (As := [.int (9 : Int32)]) (rest := []) (o := (some (.int x625))) C (hmX7_isKey hg) he rfl hdX7_isKey rfl cwX7_195 rfl ⟨Nat.le_of_ble_eq_true rfl, Nat.le_of_ble_eq_true rfl⟩ ⟨jx_f1 (k := 0) hc hc.2, jx_f2 (k := 0) (n := 0) hc hc.2 (Nat.le_of_ble_eq_true rfl)⟩ (Nat.le_of_ble_eq_true rfl) dX7_line_625 628 rfl ?_
      refine je_widen (0) (64 * (0)) (Nat.le_refl _) (jx_f30 (Nat.le_of_ble_eq_true rfl)) ?_
      refine je_if_ne C 645 dX7_line_628 631 rfl rfl h ?_ ?_
      · clear h
        intro h
        exact hwX7_line_645 C hnt t619 a0 0 hc h
      clear h
      intro h
      refine je_aload_n C dX7_line_631 632 rfl 0 rfl ?_
      refine je_bipush C (10) dX7_line_632 634 rfl bp_10 ?_
      replace h := p_ob_inv h
      obtain ⟨V634, he, h⟩ := h
      replace h := p_cl_inv h
      obtain ⟨x634, hg, h⟩ := h
      refine je_callV (As := [.int (10 : Int32)]) (rest := []) (o := (some (.int x634))) C (hmX7_isKey hg) he rfl hdX7_isKey rfl cwX7_195 rfl ⟨Nat.le_of_ble_eq_true rfl, Nat.le_of_ble_eq_true rfl⟩ ⟨jx_f1 (k := 0) hc hc.2, jx_f2 (k := 0) (n := 0) hc hc.2 (Nat.le_of_ble_eq_true rfl)⟩ (Nat.le_of_ble_eq_true rfl) dX7_line_634 637 rfl ?_
      refine je_widen (0) (64 * (0)) (Nat.le_refl _) (jx_f30 (Nat.le_of_ble_eq_true rfl)) ?_
      refine je_if_ne C 645 dX7_line_637 640 rfl rfl h ?_ ?_
      · clear h
        intro h
        exact hwX7_line_645 C hnt t619 a0 0 hc h
      clear h
      intro h
      refine je_aload_n C dX7_line_640 641 rfl 0 rfl ?_
      replace h := p_ob_inv h
      obtain ⟨V641, he, h⟩ := h
      replace h := p_pr_inv h
      obtain ⟨hb, h⟩ := h
      replace h := p_cl_inv h
      obtain ⟨u641, hg, h⟩ := h
      refine je_callV (As := []) (rest := []) (o := (some (va_rf u641.1))) C (hmX7_wrong hg) he rfl hdX7_wrong rfl cwX7_99 rfl ⟨Nat.le_of_ble_eq_true rfl, Nat.le_of_ble_eq_true rfl⟩ ⟨jx_f1 (k := 1) hc hb, jx_f2 (k := 1) (n := 8) hc hb (Nat.le_of_ble_eq_true rfl)⟩ (Nat.le_of_ble_eq_true rfl) dX7_line_641 644 rfl ?_
      refine je_widen (0 + 1) (64 * (0 + 1)) (Nat.le_refl _) (jx_f3 (Nat.le_of_ble_eq_true rfl)) ?_
      refine je_ltq (x := u641.1) (st := []) h ?_
      clear h
      intro x641 h
      refine jx_lt (t0 := x_of u641.2 (t619.2.2 + 1)) h ?_
      clear h
      intro t641 e2 h
      replace hc : τ.2.2 + (0 + 1) = t641.2.2 ∧ t641.2.2 ≤ DC := jx_f8 (k := 1) e2 hc hb
      clear e2 hg hb
      obtain ⟨j644, hj9, h8⟩ := p_at_inv h
      clear h
      subst hj9
      have h := h8
      clear h8
      replace h := p_ob_inv h
      obtain ⟨V644, he, h⟩ := h
      cases h
      exact jx_athrow C hnt he rfl hc.1 (Nat.le_refl _) dX7_line_644
    refine je_tswd C 736 dX7_line_4 (je_out (0) 8 [(0 : Int32), (1 : Int32), (2 : Int32), (3 : Int32), (4 : Int32), (5 : Int32), (6 : Int32), (7 : Int32)] (by decide) (List.forall_mem_cons.mpr ⟨hn0, (List.forall_mem_cons.mpr ⟨hn1, (List.forall_mem_cons.mpr ⟨hn2, (List.forall_mem_cons.mpr ⟨hn3, (List.forall_mem_cons.mpr ⟨hn4, (List.forall_mem_cons.mpr ⟨hn5, (List.forall_mem_cons.mpr ⟨hn6, (List.forall_mem_cons.mpr ⟨hn7, (fun _ q => absurd q List.not_mem_nil)⟩)⟩)⟩)⟩)⟩)⟩)⟩)⟩)) rfl ?_
    refine je_aload_n C dX7_line_736 737 rfl 0 rfl ?_
    refine je_aload_n C dX7_line_737 738 rfl 0 rfl ?_
    replace h := p_ob_inv h
    obtain ⟨V738, he, h⟩ := h
    replace h := p_vr_inv h
    obtain ⟨x738, hv, h⟩ := h
    refine je_get (k := 1) C he rfl in_X7 (by decide) q552 rfl dX7_line_738 741 rfl hv ?_
    obtain ⟨j741, hj9, h8⟩ := p_at_inv h
    clear h
    subst hj9
    have h := h8
    clear h8
    replace h := p_ob_inv h
    obtain ⟨V741, he, h⟩ := h
    replace h := p_vr_inv h
    obtain ⟨x741, hv, h⟩ := h
    refine je_getN (k := 5) C he rfl in_X2 (by decide) q263 rfl dX7_line_741 744 rfl hv ?_
    obtain ⟨j744, hj9, h8⟩ := p_at_inv h
    clear h
    subst hj9
    have h := h8
    clear h8
    replace h := p_ob_inv h
    obtain ⟨V744, he, h⟩ := h
    replace h := p_cl_inv h
    obtain ⟨x744, hg, h⟩ := h
    refine je_callV (As := []) (rest := [.ref (G.2.1 + a0)]) (o := (some (.int x744))) C (hmJ2_size hg) he rfl hdJ2_size rfl cwX7_126 rfl ⟨Nat.le_of_ble_eq_true rfl, Nat.le_of_ble_eq_true rfl⟩ ⟨jx_f1 (k := 0) hc hc.2, jx_f2 (k := 0) (n := 0) hc hc.2 (Nat.le_of_ble_eq_true rfl)⟩ (Nat.le_of_ble_eq_true rfl) dX7_line_744 747 rfl ?_
    refine je_widen (0) (64 * (0)) (Nat.le_refl _) (jx_f30 (Nat.le_of_ble_eq_true rfl)) ?_
    refine je_iconst C (4) dX7_line_747 748 rfl ic_4 ?_
    refine je_icmp_ne C 755 dX7_line_748 751 rfl rfl h ?_ ?_
    · clear h
      intro h
      refine je_iconst C (0) dX7_line_755 756 rfl ic_0 ?_
      exact hwX7_line_756 C hnt τ a0 (0 : Int32) a0 0 hc h
    clear h
    intro h
    refine je_iconst C (1) dX7_line_751 752 rfl ic_1 ?_
    refine je_goto C 756 dX7_line_752 rfl ?_
    exact hwX7_line_756 C hnt τ a0 (1 : Int32) a0 0 hc h
  · unfold hX7_line at h
    exact absurd (p_pr_inv h).1 hDC
