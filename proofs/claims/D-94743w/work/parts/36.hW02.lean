/-! heap mode: walks: printed by gen -/
set_option maxRecDepth 100000
theorem hdX7_line : je_hd yX7_line 0 := ⟨by decide +kernel, by decide +kernel, by decide +kernel⟩
theorem cwX7_113 : GoodIn lw_all (wsV "MinistryDesks$Reader" 113 "MinistryDesks$Reader" yX7_line (ws_ yX7_line cX7_line 4 none)) := lw_V q798 q800 qs11 q170 q801
set_option maxHeartbeats 4000000 in
theorem hwX7_text_28 {p : Program} {l : Launch} {e : Env} {s : State} {m : MethodId} {args : Array Value} {below : List Frame} {meth : Method} {c : Code} {G : je_G} {F : Nat} {c0 : Nat} {r9 : (Nat × hS) ⊕ (Option Nat × hS)} (C : Cx p s m args meth c G "MinistryDesks$Reader" cX7_text 1 (some (.object "MinistryDesks$House"))) (hnt : ∀ x ∈ c.exceptionTable.toList, False) (τ : hS) (a0 : Nat) (cells : Nat) (hc : c0 + cells = τ.2.2 ∧ τ.2.2 ≤ DC) (h : hbX7_text_28 G F τ a0 = some r9) : Js p l e ({ frames := 90, cells := DC - c0, slots := 64 * (DC - c0), locals := 2059 } : Room) s m args below meth c G 1 (xMQ below G (xO r9) args s c0) τ.1 (G.2.1 + τ.2.1) cells (64 * cells) 28 [(0, .ref (G.2.1 + a0))] [] := by
  unfold hbX7_text_28 at h
  refine je_aload_n C dX7_text_28 29 rfl 0 rfl ?_
  replace h := p_ob_inv h
  obtain ⟨V29, he, h⟩ := h
  replace h := p_pr_inv h
  obtain ⟨hb, h⟩ := h
  replace h := p_cl_inv h
  obtain ⟨u29, hg, h⟩ := h
  refine je_callV (As := []) (rest := []) (o := (some (va_rf u29.1))) C (hmX7_wrong hg) he rfl hdX7_wrong rfl cwX7_99 rfl ⟨Nat.le_of_ble_eq_true rfl, Nat.le_of_ble_eq_true rfl⟩ ⟨jx_f1 (k := 1) hc hb, jx_f2 (k := 1) (n := 8) hc hb (Nat.le_of_ble_eq_true rfl)⟩ (Nat.le_of_ble_eq_true rfl) dX7_text_29 32 rfl ?_
  refine je_widen (cells + 1) (64 * (cells + 1)) (Nat.le_refl _) (jx_f3 (Nat.le_of_ble_eq_true rfl)) ?_
  refine je_ltq (x := u29.1) (st := []) h ?_
  clear h
  intro x29 h
  refine jx_lt (t0 := x_of u29.2 (τ.2.2 + 1)) h ?_
  clear h
  intro t29 e2 h
  replace hc : c0 + (cells + 1) = t29.2.2 ∧ t29.2.2 ≤ DC := jx_f8 (k := 1) e2 hc hb
  clear e2 hg hb
  obtain ⟨j32, hj9, h8⟩ := p_at_inv h
  clear h
  subst hj9
  have h := h8
  clear h8
  replace h := p_ob_inv h
  obtain ⟨V32, he, h⟩ := h
  cases h
  exact jx_athrow C hnt he rfl hc.1 (Nat.le_refl _) dX7_text_32
set_option maxHeartbeats 4000000 in
theorem hwX7_text_4 {p : Program} {l : Launch} {e : Env} {s : State} {m : MethodId} {args : Array Value} {below : List Frame} {meth : Method} {c : Code} {G : je_G} {F : Nat} {c0 : Nat} {r9 : (Nat × hS) ⊕ (Option Nat × hS)} (C : Cx p s m args meth c G "MinistryDesks$Reader" cX7_text 1 (some (.object "MinistryDesks$House"))) (hnt : ∀ x ∈ c.exceptionTable.toList, False) : ∀ (n : Nat) (τ : hS) (a0 : Nat) (cells : Nat) (hc : c0 + cells = τ.2.2 ∧ τ.2.2 ≤ DC), hbX7_text_4 G F n τ a0 = some r9 → Js p l e ({ frames := 90, cells := DC - c0, slots := 64 * (DC - c0), locals := 2059 } : Room) s m args below meth c G 1 (xMQ below G (xO r9) args s c0) τ.1 (G.2.1 + τ.2.1) cells (64 * cells) 4 [(0, .ref (G.2.1 + a0))] [] := by
  intro n
  induction n with
  | zero =>
    intro τ a0 cells hc h
    cases h
  | succ n ih =>
    intro τ a0 cells hc h
    rw [hbX7_text_4] at h
    refine je_aload_n C dX7_text_4 5 rfl 0 rfl ?_
    replace h := p_ob_inv h
    obtain ⟨V5, he, h⟩ := h
    replace h := p_vi_inv h
    obtain ⟨x5, hv, h⟩ := h
    refine je_get (k := 3) C he rfl in_X7 (by decide) q554 rfl dX7_text_5 8 rfl hv ?_
    refine je_if_eq C 71 dX7_text_8 11 rfl rfl h ?_ ?_
    · clear h
      intro h
      refine je_aload_n C dX7_text_71 72 rfl 0 rfl ?_
      replace h := p_ob_inv h
      obtain ⟨V72, he, h⟩ := h
      replace h := p_vr_inv h
      obtain ⟨x72, hv, h⟩ := h
      refine je_get (k := 1) C he rfl in_X7 (by decide) q552 rfl dX7_text_72 75 rfl hv ?_
      cases h
      exact jx_ret hc.1 (Nat.le_refl _) (je_aret C dX7_text_75)
    clear h
    intro h
    refine je_aload_n C dX7_text_11 12 rfl 0 rfl ?_
    replace h := p_ob_inv h
    obtain ⟨V12, he, h⟩ := h
    replace h := p_vi_inv h
    obtain ⟨x12, hv, h⟩ := h
    refine je_get (k := 3) C he rfl in_X7 (by decide) q554 rfl dX7_text_12 15 rfl hv ?_
    refine je_iconst C (1) dX7_text_15 16 rfl ic_1 ?_
    refine je_icmp_ne C 28 dX7_text_16 19 rfl rfl h ?_ ?_
    · clear h
      intro h
      exact hwX7_text_28 C hnt τ a0 cells hc h
    clear h
    intro h
    refine je_aload_n C dX7_text_19 20 rfl 0 rfl ?_
    replace h := p_ob_inv h
    obtain ⟨V20, he, h⟩ := h
    replace h := p_vi_inv h
    obtain ⟨x20, hv, h⟩ := h
    refine je_get (k := 4) C he rfl in_X7 (by decide) q555 rfl dX7_text_20 23 rfl hv ?_
    refine je_bipush C (8) dX7_text_23 25 rfl bp_8 ?_
    refine je_icmp_le C 33 dX7_text_25 28 rfl rfl h ?_ ?_
    · clear h
      intro h
      refine je_aload_n C dX7_text_33 34 rfl 0 rfl ?_
      replace h := p_ob_inv h
      obtain ⟨V34, he, h⟩ := h
      replace h := p_ex_inv h
      rcases h with ⟨z9, hg, hz1, rfl⟩ | ⟨u34, hg, hz1, hz2, h⟩
      · exact jx_callV (As := []) (rest := []) C (hmX7_line hg) he rfl hdX7_line rfl cwX7_113 rfl ⟨Nat.le_of_ble_eq_true rfl, Nat.le_of_ble_eq_true rfl⟩ ⟨rfl, rfl⟩ hc (Nat.le_refl _) (Nat.le_of_ble_eq_true rfl) hnt dX7_text_34 37 rfl hz1 (fun _ e9 => e9) (fun _ e9 => by cases e9)
      refine jx_callV (As := []) (rest := []) C (hmX7_line hg) he rfl hdX7_line rfl cwX7_113 rfl ⟨Nat.le_of_ble_eq_true rfl, Nat.le_of_ble_eq_true rfl⟩ ⟨rfl, rfl⟩ hc (Nat.le_refl _) (Nat.le_of_ble_eq_true rfl) hnt dX7_text_34 37 rfl hz1 (fun _ e9 => by cases e9) (fun z9 e9 cells2 hc2 => ?_)
      cases e9
      refine jx_lt (t0 := u34.2) h ?_
      clear h
      intro t34 e2 h
      replace hc : c0 + cells2 = t34.2.2 ∧ t34.2.2 ≤ DC := jx_f7 e2 hc2 hz2
      clear e2 hc2 hz1 hz2 hg
      refine je_aload_n C dX7_text_37 38 rfl 0 rfl ?_
      refine je_bipush C (59) dX7_text_38 40 rfl bp_59 ?_
      replace h := p_ob_inv h
      obtain ⟨V40, he, h⟩ := h
      replace h := p_cl_inv h
      obtain ⟨x40, hg, h⟩ := h
      refine je_callV (As := [.int (59 : Int32)]) (rest := []) (o := (some (.int x40))) C (hmX7_isSign hg) he rfl hdX7_isSign rfl cwX7_116 rfl ⟨Nat.le_of_ble_eq_true rfl, Nat.le_of_ble_eq_true rfl⟩ ⟨jx_f1 (k := 0) hc hc.2, jx_f2 (k := 0) (n := 0) hc hc.2 (Nat.le_of_ble_eq_true rfl)⟩ (Nat.le_of_ble_eq_true rfl) dX7_text_40 43 rfl ?_
      refine je_widen (cells2) (64 * (cells2)) (Nat.le_refl _) (jx_f30 (Nat.le_of_ble_eq_true rfl)) ?_
      refine je_if_ne C 51 dX7_text_43 46 rfl rfl h ?_ ?_
      · clear h
        intro h
        refine je_aload_n C dX7_text_51 52 rfl 0 rfl ?_
        replace h := p_ob_inv h
        obtain ⟨V52, he, h⟩ := h
        replace h := p_cl_inv h
        obtain ⟨u52, hg, h⟩ := h
        refine je_callV (As := []) (rest := []) (o := none) C (hmX7_take hg) he rfl hdX7_take rfl cwX7_107 rfl ⟨Nat.le_of_ble_eq_true rfl, Nat.le_of_ble_eq_true rfl⟩ ⟨jx_f1 (k := 0) hc hc.2, jx_f2 (k := 0) (n := 0) hc hc.2 (Nat.le_of_ble_eq_true rfl)⟩ (Nat.le_of_ble_eq_true rfl) dX7_text_52 55 rfl ?_
        refine je_widen (cells2) (64 * (cells2)) (Nat.le_refl _) (jx_f30 (Nat.le_of_ble_eq_true rfl)) ?_
        refine jx_lt (t0 := x_of u52 (t34.2.2 + 0)) h ?_
        clear h
        intro t52 e2 h
        replace hc : c0 + (cells2) = t52.2.2 ∧ t52.2.2 ≤ DC := jx_f80 (k := 0) e2 hc hc.2
        clear e2 hg
        refine je_aload_n C dX7_text_55 56 rfl 0 rfl ?_
        replace h := p_ob_inv h
        obtain ⟨V56, he, h⟩ := h
        replace h := p_vr_inv h
        obtain ⟨x56, hv, h⟩ := h
        refine je_get (k := 1) C he rfl in_X7 (by decide) q552 rfl dX7_text_56 59 rfl hv ?_
        refine je_dup C dX7_text_59 60 rfl (by cases x56 <;> rfl) ?_
        obtain ⟨j60, hj9, h8⟩ := p_at_inv h
        clear h
        subst hj9
        have h := h8
        clear h8
        replace h := p_ob_inv h
        obtain ⟨V60, he, h⟩ := h
        replace h := p_vi_inv h
        obtain ⟨x60, hv, h⟩ := h
        refine je_getN (k := 10) C he rfl in_X2 (by decide) q276 rfl dX7_text_60 63 rfl hv ?_
        refine je_iconst C (1) dX7_text_63 64 rfl ic_1 ?_
        refine je_iadd C dX7_text_64 65 rfl ?_
        replace h := p_ob_inv h
        obtain ⟨V65, he, h⟩ := h
        refine je_putN (k := 10) (v := .int (x60 + (1 : Int32))) C he rfl in_X2 tyX2 tyX2_ok nmX2 (by decide) q276 rfl rfl rfl rfl dX7_text_65 68 rfl ?_
        refine jx_lt h ?_
        clear h
        intro t65 e2 h
        replace hc : c0 + cells2 = t65.2.2 ∧ t65.2.2 ≤ DC := jx_f0 e2 hc
        clear e2
        refine je_goto C 4 dX7_text_68 rfl ?_
        exact ih t65 a0 cells2 hc h
      clear h
      intro h
      refine je_aload_n C dX7_text_46 47 rfl 0 rfl ?_
      replace h := p_ob_inv h
      obtain ⟨V47, he, h⟩ := h
      replace h := p_pr_inv h
      obtain ⟨hb, h⟩ := h
      replace h := p_cl_inv h
      obtain ⟨u47, hg, h⟩ := h
      refine je_callV (As := []) (rest := []) (o := (some (va_rf u47.1))) C (hmX7_wrong hg) he rfl hdX7_wrong rfl cwX7_99 rfl ⟨Nat.le_of_ble_eq_true rfl, Nat.le_of_ble_eq_true rfl⟩ ⟨jx_f1 (k := 1) hc hb, jx_f2 (k := 1) (n := 8) hc hb (Nat.le_of_ble_eq_true rfl)⟩ (Nat.le_of_ble_eq_true rfl) dX7_text_47 50 rfl ?_
      refine je_widen (cells2 + 1) (64 * (cells2 + 1)) (Nat.le_refl _) (jx_f3 (Nat.le_of_ble_eq_true rfl)) ?_
      refine je_ltq (x := u47.1) (st := []) h ?_
      clear h
      intro x47 h
      refine jx_lt (t0 := x_of u47.2 (t34.2.2 + 1)) h ?_
      clear h
      intro t47 e2 h
      replace hc : c0 + (cells2 + 1) = t47.2.2 ∧ t47.2.2 ≤ DC := jx_f8 (k := 1) e2 hc hb
      clear e2 hg hb
      obtain ⟨j50, hj9, h8⟩ := p_at_inv h
      clear h
      subst hj9
      have h := h8
      clear h8
      replace h := p_ob_inv h
      obtain ⟨V50, he, h⟩ := h
      cases h
      exact jx_athrow C hnt he rfl hc.1 (Nat.le_refl _) dX7_text_50
    clear h
    intro h
    exact hwX7_text_28 C hnt τ a0 cells hc h
set_option maxHeartbeats 4000000 in
theorem hmX7_text {l : Launch} {G : je_G} {F : Nat} {τ : hS} {a0 : Nat} {r9 : (Nat × hS) ⊕ (Option Nat × hS)} (h : hX7_text G F τ a0 = some r9) : MetX l G yX7_text cX7_text 1 (some (.object "MinistryDesks$House")) 90 2059 [.ref (G.2.1 + a0)] τ (xO r9) := by
  by_cases hDC : τ.2.2 ≤ DC
  · refine jx_met "MinistryDesks$Reader" rfl (by decide +kernel) (Nat.le_of_ble_eq_true rfl) [(0, .ref (G.2.1 + a0))] rfl (fun p e s m args below meth c C hnt => ?_)
    have hc : τ.2.2 + 0 = τ.2.2 ∧ τ.2.2 ≤ DC := ⟨rfl, hDC⟩
    unfold hX7_text at h
    obtain ⟨-, h⟩ := p_pr_inv h
    refine je_widen 0 (64 * 0) (Nat.le_refl _) (Nat.le_refl _) ?_
    refine je_aload_n C dX7_text_0 1 rfl 0 rfl ?_
    replace h := p_ob_inv h
    obtain ⟨V1, he, h⟩ := h
    replace h := p_cl_inv h
    obtain ⟨u1, hg, h⟩ := h
    refine je_callV (As := []) (rest := []) (o := none) C (hmX7_take hg) he rfl hdX7_take rfl cwX7_107 rfl ⟨Nat.le_of_ble_eq_true rfl, Nat.le_of_ble_eq_true rfl⟩ ⟨jx_f1 (k := 0) hc hc.2, jx_f2 (k := 0) (n := 0) hc hc.2 (Nat.le_of_ble_eq_true rfl)⟩ (Nat.le_of_ble_eq_true rfl) dX7_text_1 4 rfl ?_
    refine je_widen (0) (64 * (0)) (Nat.le_refl _) (jx_f30 (Nat.le_of_ble_eq_true rfl)) ?_
    refine jx_lt (t0 := x_of u1 (τ.2.2 + 0)) h ?_
    clear h
    intro t1 e2 h
    replace hc : τ.2.2 + (0) = t1.2.2 ∧ t1.2.2 ≤ DC := jx_f80 (k := 0) e2 hc hc.2
    clear e2 hg
    exact hwX7_text_4 C hnt F t1 a0 0 hc h
  · unfold hX7_text at h
    exact absurd (p_pr_inv h).1 hDC
theorem hoJ0_1 : Cond.methodLink "java/util/AbstractCollection" 1 Lib.objectInit ∈ lw_all ∧ Cond.instanceMethod Lib.objectInit ∈ lw_all ∧ Cond.code Lib.objectInit ⟨#[0xb1]⟩ 1 none ∈ lw_all := ⟨q228, q209, q210⟩
set_option maxHeartbeats 4000000 in
theorem hmJ0_init_J2 {l : Launch} {G : je_G} {τ : hT} {a0 : Nat} {r9 : Unit} (h : hJ0_init_J2 G τ a0 = some r9) : MetS l G yJ0_init cJ0_init 1 none 1 20 0 0 [.ref (G.2.1 + a0)] τ.1 (G.2.1 + τ.2) none τ.1 (G.2.1 + τ.2) := by
  refine je_metI "java/util/AbstractCollection" rfl (by decide +kernel) rfl (Nat.le_of_ble_eq_true rfl) [(0, .ref (G.2.1 + a0))] rfl (fun p e s m args below meth c C hI => ?_)
  unfold hJ0_init_J2 at h
  refine je_aload_n C dJ0_init_0 1 rfl 0 rfl ?_
  refine je_obji C hoJ0_1 ⟨Nat.le_of_ble_eq_true rfl, Nat.le_of_ble_eq_true rfl⟩ (Nat.le_of_ble_eq_true rfl) dJ0_init_1 4 rfl ?_
  cases h
  exact je_vret C dJ0_init_4
theorem hdJ0_init : je_hd yJ0_init 0 := ⟨by decide +kernel, by decide +kernel, by decide +kernel⟩
theorem ccJ1_1 : Cond.methodLink "java/util/AbstractList" 1 yJ0_init ∈ lw_all ∧ Cond.instanceMethod yJ0_init ∈ lw_all ∧ Cond.initialized yJ0_init.cls ∈ lw_all ∧ Cond.code yJ0_init cJ0_init 1 none ∈ lw_all := ⟨q225, q226, q163, q227⟩
set_option maxHeartbeats 4000000 in
theorem hmJ1_init_J2 {l : Launch} {G : je_G} {τ : hT} {a0 : Nat} {r9 : hT} (h : hJ1_init_J2 G τ a0 = some r9) : MetS l G yJ1_init cJ1_init 1 none 2 40 0 0 [.ref (G.2.1 + a0)] τ.1 (G.2.1 + τ.2) none r9.1 (G.2.1 + r9.2) := by
  refine je_metI "java/util/AbstractList" rfl (by decide +kernel) rfl (Nat.le_of_ble_eq_true rfl) [(0, .ref (G.2.1 + a0))] rfl (fun p e s m args below meth c C hI => ?_)
  unfold hJ1_init_J2 at h
  refine je_aload_n C dJ1_init_0 1 rfl 0 rfl ?_
  replace h := p_cl_inv h
  obtain ⟨u1, hg, h⟩ := h
  refine je_callI (As := []) (rest := []) C (hmJ0_init_J2 hg) hdJ0_init rfl ccJ1_1 rfl ⟨Nat.le_of_ble_eq_true rfl, Nat.le_of_ble_eq_true rfl⟩ ⟨Nat.le_of_ble_eq_true rfl, Nat.le_of_ble_eq_true rfl⟩ (Nat.le_of_ble_eq_true rfl) dJ1_init_1 4 rfl ?_
  refine je_aload_n C dJ1_init_4 5 rfl 0 rfl ?_
  refine je_iconst C (0) dJ1_init_5 6 rfl ic_0 ?_
  replace h := p_ob_inv h
  obtain ⟨V6, he, h⟩ := h
  refine je_put (k := 0) (v := .int (0 : Int32)) C he rfl in_J2 tyJ2 tyJ2_ok nmJ2 (by decide) q233 rfl rfl rfl rfl dJ1_init_6 9 rfl ?_
  refine jh_lt h ?_
  clear h
  intro t6 h
  cases h
  exact je_vret C dJ1_init_9
theorem hdJ1_init : je_hd yJ1_init 0 := ⟨by decide +kernel, by decide +kernel, by decide +kernel⟩
theorem ccJ2_1 : Cond.methodLink "java/util/ArrayList" 1 yJ1_init ∈ lw_all ∧ Cond.instanceMethod yJ1_init ∈ lw_all ∧ Cond.initialized yJ1_init.cls ∈ lw_all ∧ Cond.code yJ1_init cJ1_init 1 none ∈ lw_all := ⟨q222, q223, q164, q224⟩
set_option maxHeartbeats 4000000 in
theorem hmJ2_init {l : Launch} {G : je_G} {τ : hT} {a0 : Nat} {r9 : hT} (h : hJ2_init G τ a0 = some r9) : MetS l G yJ2_init cJ2_init 1 none 3 60 0 0 [.ref (G.2.1 + a0)] τ.1 (G.2.1 + τ.2) none r9.1 (G.2.1 + r9.2) := by
  refine je_metI "java/util/ArrayList" rfl (by decide +kernel) rfl (Nat.le_of_ble_eq_true rfl) [(0, .ref (G.2.1 + a0))] rfl (fun p e s m args below meth c C hI => ?_)
  unfold hJ2_init at h
  refine je_aload_n C dJ2_init_0 1 rfl 0 rfl ?_
  replace h := p_cl_inv h
  obtain ⟨u1, hg, h⟩ := h
  refine je_callI (As := []) (rest := []) C (hmJ1_init_J2 hg) hdJ1_init rfl ccJ2_1 rfl ⟨Nat.le_of_ble_eq_true rfl, Nat.le_of_ble_eq_true rfl⟩ ⟨Nat.le_of_ble_eq_true rfl, Nat.le_of_ble_eq_true rfl⟩ (Nat.le_of_ble_eq_true rfl) dJ2_init_1 4 rfl ?_
  refine jh_lt (t0 := u1) h ?_
  clear h
  intro t1 h
  refine je_aload_n C dJ2_init_4 5 rfl 0 rfl ?_
  refine je_gets C (je_zDC C.2.2.2.2.2.2.2.2) q229 rfl dJ2_init_5 8 rfl ?_
  replace h := p_ob_inv h
  obtain ⟨V8, he, h⟩ := h
  refine je_put (k := 1) (v := va_rf (some (G.2.2.2.1 6))) C he rfl in_J2 tyJ2 tyJ2_ok nmJ2 (by decide) q231 rfl rfl je_refnarA je_reffitA dJ2_init_8 11 rfl ?_
  refine jh_lt h ?_
  clear h
  intro t8 h
  cases h
  exact je_vret C dJ2_init_11
theorem hdJ2_init : je_hd yJ2_init 0 := ⟨by decide +kernel, by decide +kernel, by decide +kernel⟩
theorem ccX2_11 : Cond.methodLink "MinistryDesks$House" 11 yJ2_init ∈ lw_all ∧ Cond.instanceMethod yJ2_init ∈ lw_all ∧ Cond.initialized yJ2_init.cls ∈ lw_all ∧ Cond.code yJ2_init cJ2_init 1 none ∈ lw_all := ⟨q219, q220, q165, q221⟩
theorem hoX2_3 : Cond.methodLink "MinistryDesks$House" 3 Lib.objectInit ∈ lw_all ∧ Cond.instanceMethod Lib.objectInit ∈ lw_all ∧ Cond.code Lib.objectInit ⟨#[0xb1]⟩ 1 none ∈ lw_all := ⟨q216, q209, q210⟩
set_option maxHeartbeats 4000000 in
theorem hmX2_init {l : Launch} {G : je_G} {τ : hT} {a0 : Nat} {r9 : hT} (h : hX2_init G τ a0 = some r9) : MetS l G yX2_init cX2_init 1 none 4 80 6 18 [.ref (G.2.1 + a0)] τ.1 (G.2.1 + τ.2) none r9.1 (G.2.1 + r9.2) := by
  refine je_metI "MinistryDesks$House" rfl (by decide +kernel) rfl (Nat.le_of_ble_eq_true rfl) [(0, .ref (G.2.1 + a0))] rfl (fun p e s m args below meth c C hI => ?_)
  unfold hX2_init at h
  refine je_aload_n C dX2_init_0 1 rfl 0 rfl ?_
  refine je_obji C hoX2_3 ⟨Nat.le_of_ble_eq_true rfl, Nat.le_of_ble_eq_true rfl⟩ (Nat.le_of_ble_eq_true rfl) dX2_init_1 4 rfl ?_
  refine je_aload_n C dX2_init_4 5 rfl 0 rfl ?_
  refine je_new C (ci := 20) rfl in_J2 tyJ2 tyJ2_ok q217 q218 q165 rfl (Nat.le_of_ble_eq_true rfl) (Nat.le_of_ble_eq_true rfl) dX2_init_5 8 rfl ?_
  refine je_ltr h ?_
  clear h
  intro b5 h
  refine jh_lt h ?_
  clear h
  intro t5 h
  refine je_dup C dX2_init_8 9 rfl rfl ?_
  replace h := p_cl_inv h
  obtain ⟨u9, hg, h⟩ := h
  refine je_callI (As := []) (rest := [.ref (G.2.1 + b5), .ref (G.2.1 + a0)]) C (hmJ2_init hg) hdJ2_init rfl ccX2_11 rfl ⟨Nat.le_of_ble_eq_true rfl, Nat.le_of_ble_eq_true rfl⟩ ⟨Nat.le_of_ble_eq_true rfl, Nat.le_of_ble_eq_true rfl⟩ (Nat.le_of_ble_eq_true rfl) dX2_init_9 12 rfl ?_
  refine jh_lt (t0 := u9) h ?_
  clear h
  intro t9 h
  replace h := p_ob_inv h
  obtain ⟨V12, he, h⟩ := h
  refine je_putF (k := 0) (v := .ref (G.2.1 + b5)) C hI he rfl in_X2 tyX2 tyX2_ok nmX2 (by decide) q244 rfl rfl rfl rfl rfl dX2_init_12 15 rfl ?_
  refine jh_lt h ?_
  clear h
  intro t12 h
  refine je_aload_n C dX2_init_15 16 rfl 0 rfl ?_
  refine je_new C (ci := 20) rfl in_J2 tyJ2 tyJ2_ok q217 q218 q165 rfl (Nat.le_of_ble_eq_true rfl) (Nat.le_of_ble_eq_true rfl) dX2_init_16 19 rfl ?_
  refine je_ltr h ?_
  clear h
  intro b16 h
  refine jh_lt h ?_
  clear h
  intro t16 h
  refine je_dup C dX2_init_19 20 rfl rfl ?_
  replace h := p_cl_inv h
  obtain ⟨u20, hg, h⟩ := h
  refine je_callI (As := []) (rest := [.ref (G.2.1 + b16), .ref (G.2.1 + a0)]) C (hmJ2_init hg) hdJ2_init rfl ccX2_11 rfl ⟨Nat.le_of_ble_eq_true rfl, Nat.le_of_ble_eq_true rfl⟩ ⟨Nat.le_of_ble_eq_true rfl, Nat.le_of_ble_eq_true rfl⟩ (Nat.le_of_ble_eq_true rfl) dX2_init_20 23 rfl ?_
  refine jh_lt (t0 := u20) h ?_
  clear h
  intro t20 h
  replace h := p_ob_inv h
  obtain ⟨V23, he, h⟩ := h
  refine je_putF (k := 1) (v := .ref (G.2.1 + b16)) C hI he rfl in_X2 tyX2 tyX2_ok nmX2 (by decide) q248 rfl rfl rfl rfl rfl dX2_init_23 26 rfl ?_
  refine jh_lt h ?_
  clear h
  intro t23 h
  refine je_aload_n C dX2_init_26 27 rfl 0 rfl ?_
  refine je_new C (ci := 20) rfl in_J2 tyJ2 tyJ2_ok q217 q218 q165 rfl (Nat.le_of_ble_eq_true rfl) (Nat.le_of_ble_eq_true rfl) dX2_init_27 30 rfl ?_
  refine je_ltr h ?_
  clear h
  intro b27 h
  refine jh_lt h ?_
  clear h
  intro t27 h
  refine je_dup C dX2_init_30 31 rfl rfl ?_
  replace h := p_cl_inv h
  obtain ⟨u31, hg, h⟩ := h
  refine je_callI (As := []) (rest := [.ref (G.2.1 + b27), .ref (G.2.1 + a0)]) C (hmJ2_init hg) hdJ2_init rfl ccX2_11 rfl ⟨Nat.le_of_ble_eq_true rfl, Nat.le_of_ble_eq_true rfl⟩ ⟨Nat.le_of_ble_eq_true rfl, Nat.le_of_ble_eq_true rfl⟩ (Nat.le_of_ble_eq_true rfl) dX2_init_31 34 rfl ?_
  refine jh_lt (t0 := u31) h ?_
  clear h
  intro t31 h
  replace h := p_ob_inv h
  obtain ⟨V34, he, h⟩ := h
  refine je_putF (k := 2) (v := .ref (G.2.1 + b27)) C hI he rfl in_X2 tyX2 tyX2_ok nmX2 (by decide) q251 rfl rfl rfl rfl rfl dX2_init_34 37 rfl ?_
  refine jh_lt h ?_
  clear h
  intro t34 h
  refine je_aload_n C dX2_init_37 38 rfl 0 rfl ?_
  refine je_new C (ci := 20) rfl in_J2 tyJ2 tyJ2_ok q217 q218 q165 rfl (Nat.le_of_ble_eq_true rfl) (Nat.le_of_ble_eq_true rfl) dX2_init_38 41 rfl ?_
  refine je_ltr h ?_
  clear h
  intro b38 h
  refine jh_lt h ?_
  clear h
  intro t38 h
  refine je_dup C dX2_init_41 42 rfl rfl ?_
  replace h := p_cl_inv h
  obtain ⟨u42, hg, h⟩ := h
  refine je_callI (As := []) (rest := [.ref (G.2.1 + b38), .ref (G.2.1 + a0)]) C (hmJ2_init hg) hdJ2_init rfl ccX2_11 rfl ⟨Nat.le_of_ble_eq_true rfl, Nat.le_of_ble_eq_true rfl⟩ ⟨Nat.le_of_ble_eq_true rfl, Nat.le_of_ble_eq_true rfl⟩ (Nat.le_of_ble_eq_true rfl) dX2_init_42 45 rfl ?_
  refine jh_lt (t0 := u42) h ?_
  clear h
  intro t42 h
  replace h := p_ob_inv h
  obtain ⟨V45, he, h⟩ := h
  refine je_putF (k := 3) (v := .ref (G.2.1 + b38)) C hI he rfl in_X2 tyX2 tyX2_ok nmX2 (by decide) q255 rfl rfl rfl rfl rfl dX2_init_45 48 rfl ?_
  refine jh_lt h ?_
  clear h
  intro t45 h
  refine je_aload_n C dX2_init_48 49 rfl 0 rfl ?_
  refine je_new C (ci := 20) rfl in_J2 tyJ2 tyJ2_ok q217 q218 q165 rfl (Nat.le_of_ble_eq_true rfl) (Nat.le_of_ble_eq_true rfl) dX2_init_49 52 rfl ?_
  refine je_ltr h ?_
  clear h
  intro b49 h
  refine jh_lt h ?_
  clear h
  intro t49 h
  refine je_dup C dX2_init_52 53 rfl rfl ?_
  replace h := p_cl_inv h
  obtain ⟨u53, hg, h⟩ := h
  refine je_callI (As := []) (rest := [.ref (G.2.1 + b49), .ref (G.2.1 + a0)]) C (hmJ2_init hg) hdJ2_init rfl ccX2_11 rfl ⟨Nat.le_of_ble_eq_true rfl, Nat.le_of_ble_eq_true rfl⟩ ⟨Nat.le_of_ble_eq_true rfl, Nat.le_of_ble_eq_true rfl⟩ (Nat.le_of_ble_eq_true rfl) dX2_init_53 56 rfl ?_
  refine jh_lt (t0 := u53) h ?_
  clear h
  intro t53 h
  replace h := p_ob_inv h
  obtain ⟨V56, he, h⟩ := h
  refine je_putF (k := 4) (v := .ref (G.2.1 + b49)) C hI he rfl in_X2 tyX2 tyX2_ok nmX2 (by decide) q259 rfl rfl rfl rfl rfl dX2_init_56 59 rfl ?_
  refine jh_lt h ?_
  clear h
  intro t56 h
  refine je_aload_n C dX2_init_59 60 rfl 0 rfl ?_
  refine je_new C (ci := 20) rfl in_J2 tyJ2 tyJ2_ok q217 q218 q165 rfl (Nat.le_of_ble_eq_true rfl) (Nat.le_of_ble_eq_true rfl) dX2_init_60 63 rfl ?_
  refine je_ltr h ?_
  clear h
  intro b60 h
  refine jh_lt h ?_
  clear h
  intro t60 h
  refine je_dup C dX2_init_63 64 rfl rfl ?_
  replace h := p_cl_inv h
  obtain ⟨u64, hg, h⟩ := h
  refine je_callI (As := []) (rest := [.ref (G.2.1 + b60), .ref (G.2.1 + a0)]) C (hmJ2_init hg) hdJ2_init rfl ccX2_11 rfl ⟨Nat.le_of_ble_eq_true rfl, Nat.le_of_ble_eq_true rfl⟩ ⟨Nat.le_of_ble_eq_true rfl, Nat.le_of_ble_eq_true rfl⟩ (Nat.le_of_ble_eq_true rfl) dX2_init_64 67 rfl ?_
  refine jh_lt (t0 := u64) h ?_
  clear h
  intro t64 h
  replace h := p_ob_inv h
  obtain ⟨V67, he, h⟩ := h
  refine je_putF (k := 5) (v := .ref (G.2.1 + b60)) C hI he rfl in_X2 tyX2 tyX2_ok nmX2 (by decide) q262 rfl rfl rfl rfl rfl dX2_init_67 70 rfl ?_
  refine jh_lt h ?_
  clear h
  intro t67 h
  refine je_aload_n C dX2_init_70 71 rfl 0 rfl ?_
  refine je_bipush C (99) dX2_init_71 73 rfl bp_99 ?_
  replace h := p_ob_inv h
  obtain ⟨V73, he, h⟩ := h
  refine je_put (k := 8) (v := .int (99 : Int32)) C he rfl in_X2 tyX2 tyX2_ok nmX2 (by decide) q270 rfl rfl rfl rfl dX2_init_73 76 rfl ?_
  refine jh_lt h ?_
  clear h
  intro t73 h
  cases h
  exact je_vret C dX2_init_76
theorem hdX2_init : je_hd yX2_init 0 := ⟨by decide +kernel, by decide +kernel, by decide +kernel⟩
theorem ccX7_17 : Cond.methodLinkNest "MinistryDesks$Reader" 17 yX2_init "MinistryDesks" ∈ lw_tbl ∧ Cond.instanceMethod yX2_init ∈ lw_all ∧ Cond.initialized yX2_init.cls ∈ lw_all ∧ Cond.code yX2_init cX2_init 1 none ∈ lw_all := ⟨q550, q214, q162, q215⟩
theorem hoX7_9 : Cond.methodLink "MinistryDesks$Reader" 9 Lib.objectInit ∈ lw_all ∧ Cond.instanceMethod Lib.objectInit ∈ lw_all ∧ Cond.code Lib.objectInit ⟨#[0xb1]⟩ 1 none ∈ lw_all := ⟨q548, q209, q210⟩
set_option maxHeartbeats 4000000 in
theorem hmX7_init {l : Launch} {G : je_G} {τ : hT} {a0 : Nat} {q1 : Option Nat} {v2 : Int32} {r9 : hT} (h : hX7_init G τ a0 q1 v2 = some r9) : MetS l G yX7_init cX7_init 3 none 5 100 7 30 [.ref (G.2.1 + a0), va_rf q1, .int v2] τ.1 (G.2.1 + τ.2) none r9.1 (G.2.1 + r9.2) := by
  refine je_metI "MinistryDesks$Reader" rfl (by decide +kernel) rfl (by cases q1 <;> exact Nat.le_of_ble_eq_true rfl) [(0, .ref (G.2.1 + a0)), (1, va_rf q1), (2, .int v2)] (by cases q1 <;> rfl) (fun p e s m args below meth c C hI => ?_)
  unfold hX7_init at h
  refine je_aload_n C dX7_init_0 1 rfl 0 rfl ?_
  refine je_aloadR_n C dX7_init_1 2 rfl 1 rfl ?_
  replace h := p_ob_inv h
  obtain ⟨V2, he, h⟩ := h
  refine je_putF (k := 7) (v := va_rf q1) C hI he rfl in_X7 tyX7 tyX7_ok nmX7 (by decide) q558 rfl rfl rfl je_refnar je_reffit dX7_init_2 5 rfl ?_
  refine jh_lt h ?_
  clear h
  intro t2 h
  refine je_aload_n C dX7_init_5 6 rfl 0 rfl ?_
  refine je_obji C hoX7_9 ⟨Nat.le_of_ble_eq_true rfl, Nat.le_of_ble_eq_true rfl⟩ (Nat.le_of_ble_eq_true rfl) dX7_init_6 9 rfl ?_
  refine je_aload_n C dX7_init_9 10 rfl 0 rfl ?_
  refine je_new C (ci := 5) rfl in_X2 tyX2 tyX2_ok q549 q212 q162 rfl (Nat.le_of_ble_eq_true rfl) (Nat.le_of_ble_eq_true rfl) dX7_init_10 13 rfl ?_
  refine je_ltr h ?_
  clear h
  intro b10 h
  refine jh_lt h ?_
  clear h
  intro t10 h
  refine je_dup C dX7_init_13 14 rfl rfl ?_
  replace h := p_cl_inv h
  obtain ⟨u14, hg, h⟩ := h
  refine je_callIN (As := []) (rest := [.ref (G.2.1 + b10), .ref (G.2.1 + a0)]) C (hmX2_init hg) hdX2_init rfl ccX7_17 rfl ⟨Nat.le_of_ble_eq_true rfl, Nat.le_of_ble_eq_true rfl⟩ ⟨Nat.le_of_ble_eq_true rfl, Nat.le_of_ble_eq_true rfl⟩ (Nat.le_of_ble_eq_true rfl) dX7_init_14 17 rfl ?_
  refine jh_lt (t0 := u14) h ?_
  clear h
  intro t14 h
  replace h := p_ob_inv h
  obtain ⟨V17, he, h⟩ := h
  refine je_putF (k := 1) (v := .ref (G.2.1 + b10)) C hI he rfl in_X7 tyX7 tyX7_ok nmX7 (by decide) q552 rfl rfl rfl rfl rfl dX7_init_17 20 rfl ?_
  refine jh_lt h ?_
  clear h
  intro t17 h
  refine je_aload_n C dX7_init_20 21 rfl 0 rfl ?_
  refine je_iload_n C dX7_init_21 22 rfl 2 rfl ?_
  replace h := p_ob_inv h
  obtain ⟨V22, he, h⟩ := h
  refine je_putF (k := 0) (v := .int v2) C hI he rfl in_X7 tyX7 tyX7_ok nmX7 (by decide) q551 rfl rfl rfl rfl rfl dX7_init_22 25 rfl ?_
  refine jh_lt h ?_
  clear h
  intro t22 h
  cases h
  exact je_vret C dX7_init_25
theorem hoX3_3 : Cond.methodLink "MinistryDesks$Scene" 3 Lib.objectInit ∈ lw_all ∧ Cond.instanceMethod Lib.objectInit ∈ lw_all ∧ Cond.code Lib.objectInit ⟨#[0xb1]⟩ 1 none ∈ lw_all := ⟨q308, q209, q210⟩
set_option maxHeartbeats 4000000 in
theorem hmX3_init {l : Launch} {G : je_G} {τ : hT} {a0 : Nat} {r9 : hT} (h : hX3_init G τ a0 = some r9) : MetS l G yX3_init cX3_init 1 none 1 20 1 6 [.ref (G.2.1 + a0)] τ.1 (G.2.1 + τ.2) none r9.1 (G.2.1 + r9.2) := by
  refine je_metI "MinistryDesks$Scene" rfl (by decide +kernel) rfl (Nat.le_of_ble_eq_true rfl) [(0, .ref (G.2.1 + a0))] rfl (fun p e s m args below meth c C hI => ?_)
  unfold hX3_init at h
  refine je_aload_n C dX3_init_0 1 rfl 0 rfl ?_
  refine je_obji C hoX3_3 ⟨Nat.le_of_ble_eq_true rfl, Nat.le_of_ble_eq_true rfl⟩ (Nat.le_of_ble_eq_true rfl) dX3_init_1 4 rfl ?_
  refine je_aload_n C dX3_init_4 5 rfl 0 rfl ?_
  refine je_bipush C (6) dX3_init_5 7 rfl bp_6 ?_
  refine je_newaJ C (nA := 6) (by decide +kernel) (by decide) (by decide) q319 rfl (Nat.le_of_ble_eq_true rfl) (Nat.le_of_ble_eq_true rfl) dX3_init_7 9 rfl ?_
  refine je_ltr h ?_
  clear h
  intro b7 h
  refine jh_lt h ?_
  clear h
  intro t7 h
  replace h := p_ob_inv h
  obtain ⟨V9, he, h⟩ := h
  refine je_putF (k := 0) (v := .ref (G.2.1 + b7)) C hI he rfl in_X3 tyX3 tyX3_ok nmX3 (by decide) q309 rfl rfl rfl rfl rfl dX3_init_9 12 rfl ?_
  refine jh_lt h ?_
  clear h
  intro t9 h
  cases h
  exact je_vret C dX3_init_12
theorem hoX4_3 : Cond.methodLink "MinistryDesks$Change" 3 Lib.objectInit ∈ lw_all ∧ Cond.instanceMethod Lib.objectInit ∈ lw_all ∧ Cond.code Lib.objectInit ⟨#[0xb1]⟩ 1 none ∈ lw_all := ⟨q325, q209, q210⟩
set_option maxHeartbeats 4000000 in
theorem hmX4_init {l : Launch} {G : je_G} {τ : hT} {a0 : Nat} {r9 : hT} (h : hX4_init G τ a0 = some r9) : MetS l G yX4_init cX4_init 1 none 1 20 0 0 [.ref (G.2.1 + a0)] τ.1 (G.2.1 + τ.2) none r9.1 (G.2.1 + r9.2) := by
  refine je_metI "MinistryDesks$Change" rfl (by decide +kernel) rfl (Nat.le_of_ble_eq_true rfl) [(0, .ref (G.2.1 + a0))] rfl (fun p e s m args below meth c C hI => ?_)
  unfold hX4_init at h
  refine je_aload_n C dX4_init_0 1 rfl 0 rfl ?_
  refine je_obji C hoX4_3 ⟨Nat.le_of_ble_eq_true rfl, Nat.le_of_ble_eq_true rfl⟩ (Nat.le_of_ble_eq_true rfl) dX4_init_1 4 rfl ?_
  refine je_aload_n C dX4_init_4 5 rfl 0 rfl ?_
  refine je_iconst C (-1) dX4_init_5 6 rfl ic_m1 ?_
  replace h := p_ob_inv h
  obtain ⟨V6, he, h⟩ := h
  refine je_put (k := 5) (v := .int (-1 : Int32)) C he rfl in_X4 tyX4 tyX4_ok nmX4 (by decide) q341 rfl rfl rfl rfl dX4_init_6 9 rfl ?_
  refine jh_lt h ?_
  clear h
  intro t6 h
  refine je_aload_n C dX4_init_9 10 rfl 0 rfl ?_
  refine je_iconst C (-1) dX4_init_10 11 rfl ic_m1 ?_
  replace h := p_ob_inv h
  obtain ⟨V11, he, h⟩ := h
  refine je_put (k := 6) (v := .int (-1 : Int32)) C he rfl in_X4 tyX4 tyX4_ok nmX4 (by decide) q344 rfl rfl rfl rfl dX4_init_11 14 rfl ?_
  refine jh_lt h ?_
  clear h
  intro t11 h
  cases h
  exact je_vret C dX4_init_14
theorem hoX5_9 : Cond.methodLink "MinistryDesks$Run" 9 Lib.objectInit ∈ lw_all ∧ Cond.instanceMethod Lib.objectInit ∈ lw_all ∧ Cond.code Lib.objectInit ⟨#[0xb1]⟩ 1 none ∈ lw_all := ⟨q367, q209, q210⟩
set_option maxHeartbeats 4000000 in
theorem hmX5_init {l : Launch} {G : je_G} {τ : hT} {a0 : Nat} {q1 : Option Nat} {r9 : hT} (h : hX5_init G τ a0 q1 = some r9) : MetS l G yX5_init cX5_init 2 none 1 20 13 1080 [.ref (G.2.1 + a0), va_rf q1] τ.1 (G.2.1 + τ.2) none r9.1 (G.2.1 + r9.2) := by
  refine je_metI "MinistryDesks$Run" rfl (by decide +kernel) rfl (by cases q1 <;> exact Nat.le_of_ble_eq_true rfl) [(0, .ref (G.2.1 + a0)), (1, va_rf q1)] (by cases q1 <;> rfl) (fun p e s m args below meth c C hI => ?_)
  unfold hX5_init at h
  refine je_aload_n C dX5_init_0 1 rfl 0 rfl ?_
  refine je_aloadR_n C dX5_init_1 2 rfl 1 rfl ?_
  replace h := p_ob_inv h
  obtain ⟨V2, he, h⟩ := h
  refine je_putF (k := 17) (v := va_rf q1) C hI he rfl in_X5 tyX5 tyX5_ok nmX5 (by decide) q395 rfl rfl rfl je_refnar je_reffit dX5_init_2 5 rfl ?_
  refine jh_lt h ?_
  clear h
  intro t2 h
  refine je_aload_n C dX5_init_5 6 rfl 0 rfl ?_
  refine je_obji C hoX5_9 ⟨Nat.le_of_ble_eq_true rfl, Nat.le_of_ble_eq_true rfl⟩ (Nat.le_of_ble_eq_true rfl) dX5_init_6 9 rfl ?_
  refine je_aload_n C dX5_init_9 10 rfl 0 rfl ?_
  refine je_iconst C (4) dX5_init_10 11 rfl ic_4 ?_
  refine je_newaI C (nA := 4) (by decide +kernel) (by decide) (by decide) q433 rfl (Nat.le_of_ble_eq_true rfl) (Nat.le_of_ble_eq_true rfl) dX5_init_11 13 rfl ?_
  refine je_ltr h ?_
  clear h
  intro b11 h
  refine jh_lt h ?_
  clear h
  intro t11 h
  replace h := p_ob_inv h
  obtain ⟨V13, he, h⟩ := h
  refine je_putF (k := 2) (v := .ref (G.2.1 + b11)) C hI he rfl in_X5 tyX5 tyX5_ok nmX5 (by decide) q371 rfl rfl rfl rfl rfl dX5_init_13 16 rfl ?_
  refine jh_lt h ?_
  clear h
  intro t13 h
  refine je_aload_n C dX5_init_16 17 rfl 0 rfl ?_
  refine je_iconst C (4) dX5_init_17 18 rfl ic_4 ?_
  refine je_newaI C (nA := 4) (by decide +kernel) (by decide) (by decide) q433 rfl (Nat.le_of_ble_eq_true rfl) (Nat.le_of_ble_eq_true rfl) dX5_init_18 20 rfl ?_
  refine je_ltr h ?_
  clear h
  intro b18 h
  refine jh_lt h ?_
  clear h
  intro t18 h
  replace h := p_ob_inv h
  obtain ⟨V20, he, h⟩ := h
  refine je_putF (k := 3) (v := .ref (G.2.1 + b18)) C hI he rfl in_X5 tyX5 tyX5_ok nmX5 (by decide) q373 rfl rfl rfl rfl rfl dX5_init_20 23 rfl ?_
  refine jh_lt h ?_
  clear h
  intro t20 h
  refine je_aload_n C dX5_init_23 24 rfl 0 rfl ?_
  refine je_iconst C (4) dX5_init_24 25 rfl ic_4 ?_
  refine je_newaI C (nA := 4) (by decide +kernel) (by decide) (by decide) q433 rfl (Nat.le_of_ble_eq_true rfl) (Nat.le_of_ble_eq_true rfl) dX5_init_25 27 rfl ?_
  refine je_ltr h ?_
  clear h
  intro b25 h
  refine jh_lt h ?_
  clear h
  intro t25 h
  replace h := p_ob_inv h
  obtain ⟨V27, he, h⟩ := h
  refine je_putF (k := 4) (v := .ref (G.2.1 + b25)) C hI he rfl in_X5 tyX5 tyX5_ok nmX5 (by decide) q375 rfl rfl rfl rfl rfl dX5_init_27 30 rfl ?_
  refine jh_lt h ?_
  clear h
  intro t27 h
  refine je_aload_n C dX5_init_30 31 rfl 0 rfl ?_
  refine je_iconst C (4) dX5_init_31 32 rfl ic_4 ?_
  refine je_newaZ C (nA := 4) (by decide +kernel) (by decide) (by decide) q434 rfl (Nat.le_of_ble_eq_true rfl) (Nat.le_of_ble_eq_true rfl) dX5_init_32 34 rfl ?_
  refine je_ltr h ?_
  clear h
  intro b32 h
  refine jh_lt h ?_
  clear h
  intro t32 h
  replace h := p_ob_inv h
  obtain ⟨V34, he, h⟩ := h
  refine je_putF (k := 5) (v := .ref (G.2.1 + b32)) C hI he rfl in_X5 tyX5 tyX5_ok nmX5 (by decide) q377 rfl rfl rfl rfl rfl dX5_init_34 37 rfl ?_
  refine jh_lt h ?_
  clear h
  intro t34 h
  refine je_aload_n C dX5_init_37 38 rfl 0 rfl ?_
  refine je_bipush C (28) dX5_init_38 40 rfl bp_28 ?_
  refine je_newaI C (nA := 28) (by decide +kernel) (by decide) (by decide) q433 rfl (Nat.le_of_ble_eq_true rfl) (Nat.le_of_ble_eq_true rfl) dX5_init_40 42 rfl ?_
  refine je_ltr h ?_
  clear h
  intro b40 h
  refine jh_lt h ?_
  clear h
  intro t40 h
  replace h := p_ob_inv h
  obtain ⟨V42, he, h⟩ := h
  refine je_putF (k := 6) (v := .ref (G.2.1 + b40)) C hI he rfl in_X5 tyX5 tyX5_ok nmX5 (by decide) q378 rfl rfl rfl rfl rfl dX5_init_42 45 rfl ?_
  refine jh_lt h ?_
  clear h
  intro t42 h
  refine je_aload_n C dX5_init_45 46 rfl 0 rfl ?_
  refine je_bipush C (28) dX5_init_46 48 rfl bp_28 ?_
  refine je_newaI C (nA := 28) (by decide +kernel) (by decide) (by decide) q433 rfl (Nat.le_of_ble_eq_true rfl) (Nat.le_of_ble_eq_true rfl) dX5_init_48 50 rfl ?_
  refine je_ltr h ?_
  clear h
  intro b48 h
  refine jh_lt h ?_
  clear h
  intro t48 h
  replace h := p_ob_inv h
  obtain ⟨V50, he, h⟩ := h
  refine je_putF (k := 7) (v := .ref (G.2.1 + b48)) C hI he rfl in_X5 tyX5 tyX5_ok nmX5 (by decide) q380 rfl rfl rfl rfl rfl dX5_init_50 53 rfl ?_
  refine jh_lt h ?_
  clear h
  intro t50 h
  refine je_aload_n C dX5_init_53 54 rfl 0 rfl ?_
  refine je_bipush C (28) dX5_init_54 56 rfl bp_28 ?_
  refine je_newaI C (nA := 28) (by decide +kernel) (by decide) (by decide) q433 rfl (Nat.le_of_ble_eq_true rfl) (Nat.le_of_ble_eq_true rfl) dX5_init_56 58 rfl ?_
  refine je_ltr h ?_
  clear h
  intro b56 h
  refine jh_lt h ?_
  clear h
  intro t56 h
  replace h := p_ob_inv h
  obtain ⟨V58, he, h⟩ := h
  refine je_putF (k := 8) (v := .ref (G.2.1 + b56)) C hI he rfl in_X5 tyX5 tyX5_ok nmX5 (by decide) q382 rfl rfl rfl rfl rfl dX5_init_58 61 rfl ?_
  refine jh_lt h ?_
  clear h
  intro t58 h
  refine je_aload_n C dX5_init_61 62 rfl 0 rfl ?_
  refine je_iconst C (4) dX5_init_62 63 rfl ic_4 ?_
  refine je_newaI C (nA := 4) (by decide +kernel) (by decide) (by decide) q433 rfl (Nat.le_of_ble_eq_true rfl) (Nat.le_of_ble_eq_true rfl) dX5_init_63 65 rfl ?_
  refine je_ltr h ?_
  clear h
  intro b63 h
  refine jh_lt h ?_
  clear h
  intro t63 h
  replace h := p_ob_inv h
  obtain ⟨V65, he, h⟩ := h
  refine je_putF (k := 9) (v := .ref (G.2.1 + b63)) C hI he rfl in_X5 tyX5 tyX5_ok nmX5 (by decide) q384 rfl rfl rfl rfl rfl dX5_init_65 68 rfl ?_
  refine jh_lt h ?_
  clear h
  intro t65 h
  refine je_aload_n C dX5_init_68 69 rfl 0 rfl ?_
  refine je_iconst C (4) dX5_init_69 70 rfl ic_4 ?_
  refine je_newaI C (nA := 4) (by decide +kernel) (by decide) (by decide) q433 rfl (Nat.le_of_ble_eq_true rfl) (Nat.le_of_ble_eq_true rfl) dX5_init_70 72 rfl ?_
  refine je_ltr h ?_
  clear h
  intro b70 h
  refine jh_lt h ?_
  clear h
  intro t70 h
  replace h := p_ob_inv h
  obtain ⟨V72, he, h⟩ := h
  refine je_putF (k := 10) (v := .ref (G.2.1 + b70)) C hI he rfl in_X5 tyX5 tyX5_ok nmX5 (by decide) q385 rfl rfl rfl rfl rfl dX5_init_72 75 rfl ?_
  refine jh_lt h ?_
  clear h
  intro t72 h
  refine je_aload_n C dX5_init_75 76 rfl 0 rfl ?_
  refine je_bipush C (28) dX5_init_76 78 rfl bp_28 ?_
  refine je_newaI C (nA := 28) (by decide +kernel) (by decide) (by decide) q433 rfl (Nat.le_of_ble_eq_true rfl) (Nat.le_of_ble_eq_true rfl) dX5_init_78 80 rfl ?_
  refine je_ltr h ?_
  clear h
  intro b78 h
  refine jh_lt h ?_
  clear h
  intro t78 h
  replace h := p_ob_inv h
  obtain ⟨V80, he, h⟩ := h
  refine je_putF (k := 11) (v := .ref (G.2.1 + b78)) C hI he rfl in_X5 tyX5 tyX5_ok nmX5 (by decide) q386 rfl rfl rfl rfl rfl dX5_init_80 83 rfl ?_
  refine jh_lt h ?_
  clear h
  intro t80 h
  refine je_aload_n C dX5_init_83 84 rfl 0 rfl ?_
  refine je_bipush C (28) dX5_init_84 86 rfl bp_28 ?_
  refine je_newaI C (nA := 28) (by decide +kernel) (by decide) (by decide) q433 rfl (Nat.le_of_ble_eq_true rfl) (Nat.le_of_ble_eq_true rfl) dX5_init_86 88 rfl ?_
  refine je_ltr h ?_
  clear h
  intro b86 h
  refine jh_lt h ?_
  clear h
  intro t86 h
  replace h := p_ob_inv h
  obtain ⟨V88, he, h⟩ := h
  refine je_putF (k := 12) (v := .ref (G.2.1 + b86)) C hI he rfl in_X5 tyX5 tyX5_ok nmX5 (by decide) q387 rfl rfl rfl rfl rfl dX5_init_88 91 rfl ?_
  refine jh_lt h ?_
  clear h
  intro t88 h
  refine je_aload_n C dX5_init_91 92 rfl 0 rfl ?_
  refine je_bipush C (16) dX5_init_92 94 rfl bp_16 ?_
  refine je_newaI C (nA := 16) (by decide +kernel) (by decide) (by decide) q433 rfl (Nat.le_of_ble_eq_true rfl) (Nat.le_of_ble_eq_true rfl) dX5_init_94 96 rfl ?_
  refine je_ltr h ?_
  clear h
  intro b94 h
  refine jh_lt h ?_
  clear h
  intro t94 h
  replace h := p_ob_inv h
  obtain ⟨V96, he, h⟩ := h
  refine je_putF (k := 14) (v := .ref (G.2.1 + b94)) C hI he rfl in_X5 tyX5 tyX5_ok nmX5 (by decide) q389 rfl rfl rfl rfl rfl dX5_init_96 99 rfl ?_
  refine jh_lt h ?_
  clear h
  intro t96 h
  refine je_aload_n C dX5_init_99 100 rfl 0 rfl ?_
  refine je_sipush C (900) dX5_init_100 103 rfl sp_900 ?_
  refine je_newaI C (nA := 900) (by decide +kernel) (by decide) (by decide) q433 rfl (Nat.le_of_ble_eq_true rfl) (Nat.le_of_ble_eq_true rfl) dX5_init_103 105 rfl ?_
  refine je_ltr h ?_
  clear h
  intro b103 h
  refine jh_lt h ?_
  clear h
  intro t103 h
  replace h := p_ob_inv h
  obtain ⟨V105, he, h⟩ := h
  refine je_putF (k := 15) (v := .ref (G.2.1 + b103)) C hI he rfl in_X5 tyX5 tyX5_ok nmX5 (by decide) q391 rfl rfl rfl rfl rfl dX5_init_105 108 rfl ?_
  refine jh_lt h ?_
  clear h
  intro t105 h
  cases h
  exact je_vret C dX5_init_108
theorem bp_84 : (Int8.ofInt (84)).toInt32 = (84 : Int32) := by decide +kernel
theorem sp_1920 : (Int16.ofInt (1920)).toInt32 = (1920 : Int32) := by decide +kernel
theorem sp_4352 : (Int16.ofInt (4352)).toInt32 = (4352 : Int32) := by decide +kernel
theorem sp_19208 : (Int16.ofInt (19208)).toInt32 = (19208 : Int32) := by decide +kernel
theorem hoX6_3 : Cond.methodLink "MinistryDesksModel" 3 Lib.objectInit ∈ lw_all ∧ Cond.instanceMethod Lib.objectInit ∈ lw_all ∧ Cond.code Lib.objectInit ⟨#[0xb1]⟩ 1 none ∈ lw_all := ⟨q1679, q209, q210⟩
set_option maxHeartbeats 4000000 in
theorem hmX6_init {l : Launch} {G : je_G} {τ : hT} {a0 : Nat} {r9 : hT} (h : hX6_init G τ a0 = some r9) : MetS l G yX6_init cX6_init 1 none 1 20 49 33324 [.ref (G.2.1 + a0)] τ.1 (G.2.1 + τ.2) none r9.1 (G.2.1 + r9.2) := by
  refine je_metI "MinistryDesksModel" rfl (by decide +kernel) rfl (Nat.le_of_ble_eq_true rfl) [(0, .ref (G.2.1 + a0))] rfl (fun p e s m args below meth c C hI => ?_)
  unfold hX6_init at h
  refine je_aload_n C dX6_init_0 1 rfl 0 rfl ?_
  refine je_obji C hoX6_3 ⟨Nat.le_of_ble_eq_true rfl, Nat.le_of_ble_eq_true rfl⟩ (Nat.le_of_ble_eq_true rfl) dX6_init_1 4 rfl ?_
  refine je_aload_n C dX6_init_4 5 rfl 0 rfl ?_
  refine je_sipush C (900) dX6_init_5 8 rfl sp_900 ?_
  refine je_newaI C (nA := 900) (by decide +kernel) (by decide) (by decide) q433 rfl (Nat.le_of_ble_eq_true rfl) (Nat.le_of_ble_eq_true rfl) dX6_init_8 10 rfl ?_
  refine je_ltr h ?_
  clear h
  intro b8 h
  refine jh_lt h ?_
  clear h
  intro t8 h
  replace h := p_ob_inv h
  obtain ⟨V10, he, h⟩ := h
  refine je_putF (k := 1) (v := .ref (G.2.1 + b8)) C hI he rfl in_X6 tyX6 tyX6_ok nmX6 (by decide) q1681 rfl rfl rfl rfl rfl dX6_init_10 13 rfl ?_
  refine jh_lt h ?_
  clear h
  intro t10 h
  refine je_aload_n C dX6_init_13 14 rfl 0 rfl ?_
  refine je_bipush C (16) dX6_init_14 16 rfl bp_16 ?_
  refine je_newaI C (nA := 16) (by decide +kernel) (by decide) (by decide) q433 rfl (Nat.le_of_ble_eq_true rfl) (Nat.le_of_ble_eq_true rfl) dX6_init_16 18 rfl ?_
  refine je_ltr h ?_
  clear h
  intro b16 h
  refine jh_lt h ?_
  clear h
  intro t16 h
  refine je_dup C dX6_init_18 19 rfl rfl ?_
  refine je_iconst C (0) dX6_init_19 20 rfl ic_0 ?_
  refine je_iconst C (0) dX6_init_20 21 rfl ic_0 ?_
  replace h := p_aI_inv h
  obtain ⟨n21, f21, he, h⟩ := h
  replace h := p_ck_inv h
  obtain ⟨hin, h⟩ := h
  refine je_iast C he hin dX6_init_21 22 rfl ?_
  refine jh_lt h ?_
  clear h
  intro t21 h
  refine je_dup C dX6_init_22 23 rfl rfl ?_
  refine je_iconst C (1) dX6_init_23 24 rfl ic_1 ?_
  refine je_iconst C (0) dX6_init_24 25 rfl ic_0 ?_
  replace h := p_aI_inv h
  obtain ⟨n25, f25, he, h⟩ := h
  replace h := p_ck_inv h
  obtain ⟨hin, h⟩ := h
  refine je_iast C he hin dX6_init_25 26 rfl ?_
  refine jh_lt h ?_
  clear h
  intro t25 h
  refine je_dup C dX6_init_26 27 rfl rfl ?_
  refine je_iconst C (2) dX6_init_27 28 rfl ic_2 ?_
  refine je_iconst C (0) dX6_init_28 29 rfl ic_0 ?_
  replace h := p_aI_inv h
  obtain ⟨n29, f29, he, h⟩ := h
  replace h := p_ck_inv h
  obtain ⟨hin, h⟩ := h
  refine je_iast C he hin dX6_init_29 30 rfl ?_
  refine jh_lt h ?_
  clear h
  intro t29 h
  refine je_dup C dX6_init_30 31 rfl rfl ?_
  refine je_iconst C (3) dX6_init_31 32 rfl ic_3 ?_
  refine je_iconst C (0) dX6_init_32 33 rfl ic_0 ?_
  replace h := p_aI_inv h
  obtain ⟨n33, f33, he, h⟩ := h
  replace h := p_ck_inv h
  obtain ⟨hin, h⟩ := h
  refine je_iast C he hin dX6_init_33 34 rfl ?_
  refine jh_lt h ?_
  clear h
  intro t33 h
  refine je_dup C dX6_init_34 35 rfl rfl ?_
  refine je_iconst C (4) dX6_init_35 36 rfl ic_4 ?_
  refine je_iconst C (0) dX6_init_36 37 rfl ic_0 ?_
  replace h := p_aI_inv h
  obtain ⟨n37, f37, he, h⟩ := h
  replace h := p_ck_inv h
  obtain ⟨hin, h⟩ := h
  refine je_iast C he hin dX6_init_37 38 rfl ?_
  refine jh_lt h ?_
  clear h
  intro t37 h
  refine je_dup C dX6_init_38 39 rfl rfl ?_
  refine je_iconst C (5) dX6_init_39 40 rfl ic_5 ?_
  refine je_iconst C (0) dX6_init_40 41 rfl ic_0 ?_
  replace h := p_aI_inv h
  obtain ⟨n41, f41, he, h⟩ := h
  replace h := p_ck_inv h
  obtain ⟨hin, h⟩ := h
  refine je_iast C he hin dX6_init_41 42 rfl ?_
  refine jh_lt h ?_
  clear h
  intro t41 h
  refine je_dup C dX6_init_42 43 rfl rfl ?_
  refine je_bipush C (6) dX6_init_43 45 rfl bp_6 ?_
  refine je_bipush C (99) dX6_init_45 47 rfl bp_99 ?_
  replace h := p_aI_inv h
  obtain ⟨n47, f47, he, h⟩ := h
  replace h := p_ck_inv h
  obtain ⟨hin, h⟩ := h
  refine je_iast C he hin dX6_init_47 48 rfl ?_
  refine jh_lt h ?_
  clear h
  intro t47 h
  refine je_dup C dX6_init_48 49 rfl rfl ?_
  refine je_bipush C (7) dX6_init_49 51 rfl bp_7 ?_
  refine je_iconst C (0) dX6_init_51 52 rfl ic_0 ?_
  replace h := p_aI_inv h
  obtain ⟨n52, f52, he, h⟩ := h
  replace h := p_ck_inv h
  obtain ⟨hin, h⟩ := h
  refine je_iast C he hin dX6_init_52 53 rfl ?_
  refine jh_lt h ?_
  clear h
  intro t52 h
  refine je_dup C dX6_init_53 54 rfl rfl ?_
  refine je_bipush C (8) dX6_init_54 56 rfl bp_8 ?_
  refine je_iconst C (0) dX6_init_56 57 rfl ic_0 ?_
  replace h := p_aI_inv h
  obtain ⟨n57, f57, he, h⟩ := h
  replace h := p_ck_inv h
  obtain ⟨hin, h⟩ := h
  refine je_iast C he hin dX6_init_57 58 rfl ?_
  refine jh_lt h ?_
  clear h
  intro t57 h
  refine je_dup C dX6_init_58 59 rfl rfl ?_
  refine je_bipush C (9) dX6_init_59 61 rfl bp_9 ?_
  refine je_iconst C (0) dX6_init_61 62 rfl ic_0 ?_
  replace h := p_aI_inv h
  obtain ⟨n62, f62, he, h⟩ := h
  replace h := p_ck_inv h
  obtain ⟨hin, h⟩ := h
  refine je_iast C he hin dX6_init_62 63 rfl ?_
  refine jh_lt h ?_
  clear h
  intro t62 h
  refine je_dup C dX6_init_63 64 rfl rfl ?_
  refine je_bipush C (10) dX6_init_64 66 rfl bp_10 ?_
  refine je_iconst C (0) dX6_init_66 67 rfl ic_0 ?_
  replace h := p_aI_inv h
  obtain ⟨n67, f67, he, h⟩ := h
  replace h := p_ck_inv h
  obtain ⟨hin, h⟩ := h
  refine je_iast C he hin dX6_init_67 68 rfl ?_
  refine jh_lt h ?_
  clear h
  intro t67 h
  refine je_dup C dX6_init_68 69 rfl rfl ?_
  refine je_bipush C (11) dX6_init_69 71 rfl bp_11 ?_
  refine je_iconst C (0) dX6_init_71 72 rfl ic_0 ?_
  replace h := p_aI_inv h
  obtain ⟨n72, f72, he, h⟩ := h
  replace h := p_ck_inv h
  obtain ⟨hin, h⟩ := h
  refine je_iast C he hin dX6_init_72 73 rfl ?_
  refine jh_lt h ?_
  clear h
  intro t72 h
  refine je_dup C dX6_init_73 74 rfl rfl ?_
  refine je_bipush C (12) dX6_init_74 76 rfl bp_12 ?_
  refine je_iconst C (0) dX6_init_76 77 rfl ic_0 ?_
  replace h := p_aI_inv h
  obtain ⟨n77, f77, he, h⟩ := h
  replace h := p_ck_inv h
  obtain ⟨hin, h⟩ := h
  refine je_iast C he hin dX6_init_77 78 rfl ?_
  refine jh_lt h ?_
  clear h
  intro t77 h
  refine je_dup C dX6_init_78 79 rfl rfl ?_
  refine je_bipush C (13) dX6_init_79 81 rfl bp_13 ?_
  refine je_iconst C (0) dX6_init_81 82 rfl ic_0 ?_
  replace h := p_aI_inv h
  obtain ⟨n82, f82, he, h⟩ := h
  replace h := p_ck_inv h
  obtain ⟨hin, h⟩ := h
  refine je_iast C he hin dX6_init_82 83 rfl ?_
  refine jh_lt h ?_
  clear h
  intro t82 h
  refine je_dup C dX6_init_83 84 rfl rfl ?_
  refine je_bipush C (14) dX6_init_84 86 rfl bp_14 ?_
  refine je_bipush C (99) dX6_init_86 88 rfl bp_99 ?_
  replace h := p_aI_inv h
  obtain ⟨n88, f88, he, h⟩ := h
  replace h := p_ck_inv h
  obtain ⟨hin, h⟩ := h
  refine je_iast C he hin dX6_init_88 89 rfl ?_
  refine jh_lt h ?_
  clear h
  intro t88 h
  refine je_dup C dX6_init_89 90 rfl rfl ?_
  refine je_bipush C (15) dX6_init_90 92 rfl bp_15 ?_
  refine je_iconst C (0) dX6_init_92 93 rfl ic_0 ?_
  replace h := p_aI_inv h
  obtain ⟨n93, f93, he, h⟩ := h
  replace h := p_ck_inv h
  obtain ⟨hin, h⟩ := h
  refine je_iast C he hin dX6_init_93 94 rfl ?_
  refine jh_lt h ?_
  clear h
  intro t93 h
  replace h := p_ob_inv h
  obtain ⟨V94, he, h⟩ := h
  refine je_putF (k := 3) (v := .ref (G.2.1 + b16)) C hI he rfl in_X6 tyX6 tyX6_ok nmX6 (by decide) q1683 rfl rfl rfl rfl rfl dX6_init_94 97 rfl ?_
  refine jh_lt h ?_
  clear h
  intro t94 h
  refine je_aload_n C dX6_init_97 98 rfl 0 rfl ?_
  refine je_bipush C (8) dX6_init_98 100 rfl bp_8 ?_
  refine je_newaI C (nA := 8) (by decide +kernel) (by decide) (by decide) q433 rfl (Nat.le_of_ble_eq_true rfl) (Nat.le_of_ble_eq_true rfl) dX6_init_100 102 rfl ?_
  refine je_ltr h ?_
  clear h
  intro b100 h
  refine jh_lt h ?_
  clear h
  intro t100 h
  replace h := p_ob_inv h
  obtain ⟨V102, he, h⟩ := h
  refine je_putF (k := 4) (v := .ref (G.2.1 + b100)) C hI he rfl in_X6 tyX6 tyX6_ok nmX6 (by decide) q1684 rfl rfl rfl rfl rfl dX6_init_102 105 rfl ?_
  refine jh_lt h ?_
  clear h
  intro t102 h
  refine je_aload_n C dX6_init_105 106 rfl 0 rfl ?_
  refine je_bipush C (8) dX6_init_106 108 rfl bp_8 ?_
  refine je_newaI C (nA := 8) (by decide +kernel) (by decide) (by decide) q433 rfl (Nat.le_of_ble_eq_true rfl) (Nat.le_of_ble_eq_true rfl) dX6_init_108 110 rfl ?_
  refine je_ltr h ?_
  clear h
  intro b108 h
  refine jh_lt h ?_
  clear h
  intro t108 h
  replace h := p_ob_inv h
  obtain ⟨V110, he, h⟩ := h
  refine je_putF (k := 5) (v := .ref (G.2.1 + b108)) C hI he rfl in_X6 tyX6 tyX6_ok nmX6 (by decide) q1685 rfl rfl rfl rfl rfl dX6_init_110 113 rfl ?_
  refine jh_lt h ?_
  clear h
  intro t110 h
  refine je_aload_n C dX6_init_113 114 rfl 0 rfl ?_
  refine je_bipush C (8) dX6_init_114 116 rfl bp_8 ?_
  refine je_newaI C (nA := 8) (by decide +kernel) (by decide) (by decide) q433 rfl (Nat.le_of_ble_eq_true rfl) (Nat.le_of_ble_eq_true rfl) dX6_init_116 118 rfl ?_
  refine je_ltr h ?_
  clear h
  intro b116 h
  refine jh_lt h ?_
  clear h
  intro t116 h
  refine je_dup C dX6_init_118 119 rfl rfl ?_
  refine je_iconst C (0) dX6_init_119 120 rfl ic_0 ?_
  refine je_iconst C (-1) dX6_init_120 121 rfl ic_m1 ?_
  replace h := p_aI_inv h
  obtain ⟨n121, f121, he, h⟩ := h
  replace h := p_ck_inv h
  obtain ⟨hin, h⟩ := h
  refine je_iast C he hin dX6_init_121 122 rfl ?_
  refine jh_lt h ?_
  clear h
  intro t121 h
  refine je_dup C dX6_init_122 123 rfl rfl ?_
  refine je_iconst C (1) dX6_init_123 124 rfl ic_1 ?_
  refine je_iconst C (-1) dX6_init_124 125 rfl ic_m1 ?_
  replace h := p_aI_inv h
  obtain ⟨n125, f125, he, h⟩ := h
  replace h := p_ck_inv h
  obtain ⟨hin, h⟩ := h
  refine je_iast C he hin dX6_init_125 126 rfl ?_
  refine jh_lt h ?_
  clear h
  intro t125 h
  refine je_dup C dX6_init_126 127 rfl rfl ?_
  refine je_iconst C (2) dX6_init_127 128 rfl ic_2 ?_
  refine je_iconst C (-1) dX6_init_128 129 rfl ic_m1 ?_
  replace h := p_aI_inv h
  obtain ⟨n129, f129, he, h⟩ := h
  replace h := p_ck_inv h
  obtain ⟨hin, h⟩ := h
  refine je_iast C he hin dX6_init_129 130 rfl ?_
  refine jh_lt h ?_
  clear h
  intro t129 h
  refine je_dup C dX6_init_130 131 rfl rfl ?_
  refine je_iconst C (3) dX6_init_131 132 rfl ic_3 ?_
  refine je_iconst C (-1) dX6_init_132 133 rfl ic_m1 ?_
  replace h := p_aI_inv h
  obtain ⟨n133, f133, he, h⟩ := h
  replace h := p_ck_inv h
  obtain ⟨hin, h⟩ := h
  refine je_iast C he hin dX6_init_133 134 rfl ?_
  refine jh_lt h ?_
  clear h
  intro t133 h
  refine je_dup C dX6_init_134 135 rfl rfl ?_
  refine je_iconst C (4) dX6_init_135 136 rfl ic_4 ?_
  refine je_iconst C (-1) dX6_init_136 137 rfl ic_m1 ?_
  replace h := p_aI_inv h
  obtain ⟨n137, f137, he, h⟩ := h
  replace h := p_ck_inv h
  obtain ⟨hin, h⟩ := h
  refine je_iast C he hin dX6_init_137 138 rfl ?_
  refine jh_lt h ?_
  clear h
  intro t137 h
  refine je_dup C dX6_init_138 139 rfl rfl ?_
  refine je_iconst C (5) dX6_init_139 140 rfl ic_5 ?_
  refine je_iconst C (-1) dX6_init_140 141 rfl ic_m1 ?_
  replace h := p_aI_inv h
  obtain ⟨n141, f141, he, h⟩ := h
  replace h := p_ck_inv h
  obtain ⟨hin, h⟩ := h
  refine je_iast C he hin dX6_init_141 142 rfl ?_
  refine jh_lt h ?_
  clear h
  intro t141 h
  refine je_dup C dX6_init_142 143 rfl rfl ?_
  refine je_bipush C (6) dX6_init_143 145 rfl bp_6 ?_
  refine je_iconst C (-1) dX6_init_145 146 rfl ic_m1 ?_
  replace h := p_aI_inv h
  obtain ⟨n146, f146, he, h⟩ := h
  replace h := p_ck_inv h
  obtain ⟨hin, h⟩ := h
  refine je_iast C he hin dX6_init_146 147 rfl ?_
  refine jh_lt h ?_
  clear h
  intro t146 h
  refine je_dup C dX6_init_147 148 rfl rfl ?_
  refine je_bipush C (7) dX6_init_148 150 rfl bp_7 ?_
  refine je_iconst C (-1) dX6_init_150 151 rfl ic_m1 ?_
  replace h := p_aI_inv h
  obtain ⟨n151, f151, he, h⟩ := h
  replace h := p_ck_inv h
  obtain ⟨hin, h⟩ := h
  refine je_iast C he hin dX6_init_151 152 rfl ?_
  refine jh_lt h ?_
  clear h
  intro t151 h
  replace h := p_ob_inv h
  obtain ⟨V152, he, h⟩ := h
  refine je_putF (k := 6) (v := .ref (G.2.1 + b116)) C hI he rfl in_X6 tyX6 tyX6_ok nmX6 (by decide) q1686 rfl rfl rfl rfl rfl dX6_init_152 155 rfl ?_
  refine jh_lt h ?_
  clear h
  intro t152 h
  refine je_aload_n C dX6_init_155 156 rfl 0 rfl ?_
  refine je_bipush C (14) dX6_init_156 158 rfl bp_14 ?_
  refine je_newaI C (nA := 14) (by decide +kernel) (by decide) (by decide) q433 rfl (Nat.le_of_ble_eq_true rfl) (Nat.le_of_ble_eq_true rfl) dX6_init_158 160 rfl ?_
  refine je_ltr h ?_
  clear h
  intro b158 h
  refine jh_lt h ?_
  clear h
  intro t158 h
  replace h := p_ob_inv h
  obtain ⟨V160, he, h⟩ := h
  refine je_putF (k := 7) (v := .ref (G.2.1 + b158)) C hI he rfl in_X6 tyX6 tyX6_ok nmX6 (by decide) q1687 rfl rfl rfl rfl rfl dX6_init_160 163 rfl ?_
  refine jh_lt h ?_
  clear h
  intro t160 h
  refine je_aload_n C dX6_init_163 164 rfl 0 rfl ?_
  refine je_bipush C (14) dX6_init_164 166 rfl bp_14 ?_
  refine je_newaI C (nA := 14) (by decide +kernel) (by decide) (by decide) q433 rfl (Nat.le_of_ble_eq_true rfl) (Nat.le_of_ble_eq_true rfl) dX6_init_166 168 rfl ?_
  refine je_ltr h ?_
  clear h
  intro b166 h
  refine jh_lt h ?_
  clear h
  intro t166 h
  replace h := p_ob_inv h
  obtain ⟨V168, he, h⟩ := h
  refine je_putF (k := 8) (v := .ref (G.2.1 + b166)) C hI he rfl in_X6 tyX6 tyX6_ok nmX6 (by decide) q1688 rfl rfl rfl rfl rfl dX6_init_168 171 rfl ?_
  refine jh_lt h ?_
  clear h
  intro t168 h
  refine je_aload_n C dX6_init_171 172 rfl 0 rfl ?_
  refine je_bipush C (32) dX6_init_172 174 rfl bp_32 ?_
  refine je_newaI C (nA := 32) (by decide +kernel) (by decide) (by decide) q433 rfl (Nat.le_of_ble_eq_true rfl) (Nat.le_of_ble_eq_true rfl) dX6_init_174 176 rfl ?_
  refine je_ltr h ?_
  clear h
  intro b174 h
  refine jh_lt h ?_
  clear h
  intro t174 h
  replace h := p_ob_inv h
  obtain ⟨V176, he, h⟩ := h
  refine je_putF (k := 9) (v := .ref (G.2.1 + b174)) C hI he rfl in_X6 tyX6 tyX6_ok nmX6 (by decide) q1689 rfl rfl rfl rfl rfl dX6_init_176 179 rfl ?_
  refine jh_lt h ?_
  clear h
  intro t176 h
  refine je_aload_n C dX6_init_179 180 rfl 0 rfl ?_
  refine je_bipush C (32) dX6_init_180 182 rfl bp_32 ?_
  refine je_newaI C (nA := 32) (by decide +kernel) (by decide) (by decide) q433 rfl (Nat.le_of_ble_eq_true rfl) (Nat.le_of_ble_eq_true rfl) dX6_init_182 184 rfl ?_
  refine je_ltr h ?_
  clear h
  intro b182 h
  refine jh_lt h ?_
  clear h
  intro t182 h
  replace h := p_ob_inv h
  obtain ⟨V184, he, h⟩ := h
  refine je_putF (k := 10) (v := .ref (G.2.1 + b182)) C hI he rfl in_X6 tyX6 tyX6_ok nmX6 (by decide) q1690 rfl rfl rfl rfl rfl dX6_init_184 187 rfl ?_
  refine jh_lt h ?_
  clear h
  intro t184 h
  refine je_aload_n C dX6_init_187 188 rfl 0 rfl ?_
  refine je_bipush C (32) dX6_init_188 190 rfl bp_32 ?_
  refine je_newaI C (nA := 32) (by decide +kernel) (by decide) (by decide) q433 rfl (Nat.le_of_ble_eq_true rfl) (Nat.le_of_ble_eq_true rfl) dX6_init_190 192 rfl ?_
  refine je_ltr h ?_
  clear h
  intro b190 h
  refine jh_lt h ?_
  clear h
  intro t190 h
  replace h := p_ob_inv h
  obtain ⟨V192, he, h⟩ := h
  refine je_putF (k := 11) (v := .ref (G.2.1 + b190)) C hI he rfl in_X6 tyX6 tyX6_ok nmX6 (by decide) q1691 rfl rfl rfl rfl rfl dX6_init_192 195 rfl ?_
  refine jh_lt h ?_
  clear h
  intro t192 h
  refine je_aload_n C dX6_init_195 196 rfl 0 rfl ?_
  refine je_bipush C (32) dX6_init_196 198 rfl bp_32 ?_
  refine je_newaI C (nA := 32) (by decide +kernel) (by decide) (by decide) q433 rfl (Nat.le_of_ble_eq_true rfl) (Nat.le_of_ble_eq_true rfl) dX6_init_198 200 rfl ?_
  refine je_ltr h ?_
  clear h
  intro b198 h
  refine jh_lt h ?_
  clear h
  intro t198 h
  replace h := p_ob_inv h
  obtain ⟨V200, he, h⟩ := h
  refine je_putF (k := 12) (v := .ref (G.2.1 + b198)) C hI he rfl in_X6 tyX6 tyX6_ok nmX6 (by decide) q1692 rfl rfl rfl rfl rfl dX6_init_200 203 rfl ?_
  refine jh_lt h ?_
  clear h
  intro t200 h
  refine je_aload_n C dX6_init_203 204 rfl 0 rfl ?_
  refine je_bipush C (32) dX6_init_204 206 rfl bp_32 ?_
  refine je_newaI C (nA := 32) (by decide +kernel) (by decide) (by decide) q433 rfl (Nat.le_of_ble_eq_true rfl) (Nat.le_of_ble_eq_true rfl) dX6_init_206 208 rfl ?_
  refine je_ltr h ?_
  clear h
  intro b206 h
  refine jh_lt h ?_
  clear h
  intro t206 h
  replace h := p_ob_inv h
  obtain ⟨V208, he, h⟩ := h
  refine je_putF (k := 13) (v := .ref (G.2.1 + b206)) C hI he rfl in_X6 tyX6 tyX6_ok nmX6 (by decide) q1693 rfl rfl rfl rfl rfl dX6_init_208 211 rfl ?_
  refine jh_lt h ?_
  clear h
  intro t208 h
  refine je_aload_n C dX6_init_211 212 rfl 0 rfl ?_
  refine je_bipush C (32) dX6_init_212 214 rfl bp_32 ?_
  refine je_newaI C (nA := 32) (by decide +kernel) (by decide) (by decide) q433 rfl (Nat.le_of_ble_eq_true rfl) (Nat.le_of_ble_eq_true rfl) dX6_init_214 216 rfl ?_
  refine je_ltr h ?_
  clear h
  intro b214 h
  refine jh_lt h ?_
  clear h
  intro t214 h
  replace h := p_ob_inv h
  obtain ⟨V216, he, h⟩ := h
  refine je_putF (k := 14) (v := .ref (G.2.1 + b214)) C hI he rfl in_X6 tyX6 tyX6_ok nmX6 (by decide) q1694 rfl rfl rfl rfl rfl dX6_init_216 219 rfl ?_
  refine jh_lt h ?_
  clear h
  intro t216 h
  refine je_aload_n C dX6_init_219 220 rfl 0 rfl ?_
  refine je_bipush C (32) dX6_init_220 222 rfl bp_32 ?_
  refine je_newaI C (nA := 32) (by decide +kernel) (by decide) (by decide) q433 rfl (Nat.le_of_ble_eq_true rfl) (Nat.le_of_ble_eq_true rfl) dX6_init_222 224 rfl ?_
  refine je_ltr h ?_
  clear h
  intro b222 h
  refine jh_lt h ?_
  clear h
  intro t222 h
  replace h := p_ob_inv h
  obtain ⟨V224, he, h⟩ := h
  refine je_putF (k := 15) (v := .ref (G.2.1 + b222)) C hI he rfl in_X6 tyX6 tyX6_ok nmX6 (by decide) q1695 rfl rfl rfl rfl rfl dX6_init_224 227 rfl ?_
  refine jh_lt h ?_
  clear h
  intro t224 h
  refine je_aload_n C dX6_init_227 228 rfl 0 rfl ?_
  refine je_bipush C (32) dX6_init_228 230 rfl bp_32 ?_
  refine je_newaI C (nA := 32) (by decide +kernel) (by decide) (by decide) q433 rfl (Nat.le_of_ble_eq_true rfl) (Nat.le_of_ble_eq_true rfl) dX6_init_230 232 rfl ?_
  refine je_ltr h ?_
  clear h
  intro b230 h
  refine jh_lt h ?_
  clear h
  intro t230 h
  replace h := p_ob_inv h
  obtain ⟨V232, he, h⟩ := h
  refine je_putF (k := 16) (v := .ref (G.2.1 + b230)) C hI he rfl in_X6 tyX6 tyX6_ok nmX6 (by decide) q1696 rfl rfl rfl rfl rfl dX6_init_232 235 rfl ?_
  refine jh_lt h ?_
  clear h
  intro t232 h
  refine je_aload_n C dX6_init_235 236 rfl 0 rfl ?_
  refine je_bipush C (8) dX6_init_236 238 rfl bp_8 ?_
  refine je_newaI C (nA := 8) (by decide +kernel) (by decide) (by decide) q433 rfl (Nat.le_of_ble_eq_true rfl) (Nat.le_of_ble_eq_true rfl) dX6_init_238 240 rfl ?_
  refine je_ltr h ?_
  clear h
  intro b238 h
  refine jh_lt h ?_
  clear h
  intro t238 h
  replace h := p_ob_inv h
  obtain ⟨V240, he, h⟩ := h
  refine je_putF (k := 17) (v := .ref (G.2.1 + b238)) C hI he rfl in_X6 tyX6 tyX6_ok nmX6 (by decide) q1697 rfl rfl rfl rfl rfl dX6_init_240 243 rfl ?_
  refine jh_lt h ?_
  clear h
  intro t240 h
  refine je_aload_n C dX6_init_243 244 rfl 0 rfl ?_
  refine je_bipush C (8) dX6_init_244 246 rfl bp_8 ?_
  refine je_newaI C (nA := 8) (by decide +kernel) (by decide) (by decide) q433 rfl (Nat.le_of_ble_eq_true rfl) (Nat.le_of_ble_eq_true rfl) dX6_init_246 248 rfl ?_
  refine je_ltr h ?_
  clear h
  intro b246 h
  refine jh_lt h ?_
  clear h
  intro t246 h
  replace h := p_ob_inv h
  obtain ⟨V248, he, h⟩ := h
  refine je_putF (k := 18) (v := .ref (G.2.1 + b246)) C hI he rfl in_X6 tyX6 tyX6_ok nmX6 (by decide) q1698 rfl rfl rfl rfl rfl dX6_init_248 251 rfl ?_
  refine jh_lt h ?_
  clear h
  intro t248 h
  refine je_aload_n C dX6_init_251 252 rfl 0 rfl ?_
  refine je_bipush C (8) dX6_init_252 254 rfl bp_8 ?_
  refine je_newaI C (nA := 8) (by decide +kernel) (by decide) (by decide) q433 rfl (Nat.le_of_ble_eq_true rfl) (Nat.le_of_ble_eq_true rfl) dX6_init_254 256 rfl ?_
  refine je_ltr h ?_
  clear h
  intro b254 h
  refine jh_lt h ?_
  clear h
  intro t254 h
  replace h := p_ob_inv h
  obtain ⟨V256, he, h⟩ := h
  refine je_putF (k := 19) (v := .ref (G.2.1 + b254)) C hI he rfl in_X6 tyX6 tyX6_ok nmX6 (by decide) q1699 rfl rfl rfl rfl rfl dX6_init_256 259 rfl ?_
  refine jh_lt h ?_
  clear h
  intro t256 h
  refine je_aload_n C dX6_init_259 260 rfl 0 rfl ?_
  refine je_bipush C (12) dX6_init_260 262 rfl bp_12 ?_
  refine je_newaI C (nA := 12) (by decide +kernel) (by decide) (by decide) q433 rfl (Nat.le_of_ble_eq_true rfl) (Nat.le_of_ble_eq_true rfl) dX6_init_262 264 rfl ?_
  refine je_ltr h ?_
  clear h
  intro b262 h
  refine jh_lt h ?_
  clear h
  intro t262 h
  replace h := p_ob_inv h
  obtain ⟨V264, he, h⟩ := h
  refine je_putF (k := 20) (v := .ref (G.2.1 + b262)) C hI he rfl in_X6 tyX6 tyX6_ok nmX6 (by decide) q1700 rfl rfl rfl rfl rfl dX6_init_264 267 rfl ?_
  refine jh_lt h ?_
  clear h
  intro t264 h
  refine je_aload_n C dX6_init_267 268 rfl 0 rfl ?_
  refine je_bipush C (12) dX6_init_268 270 rfl bp_12 ?_
  refine je_newaI C (nA := 12) (by decide +kernel) (by decide) (by decide) q433 rfl (Nat.le_of_ble_eq_true rfl) (Nat.le_of_ble_eq_true rfl) dX6_init_270 272 rfl ?_
  refine je_ltr h ?_
  clear h
  intro b270 h
  refine jh_lt h ?_
  clear h
  intro t270 h
  replace h := p_ob_inv h
  obtain ⟨V272, he, h⟩ := h
  refine je_putF (k := 21) (v := .ref (G.2.1 + b270)) C hI he rfl in_X6 tyX6 tyX6_ok nmX6 (by decide) q1701 rfl rfl rfl rfl rfl dX6_init_272 275 rfl ?_
  refine jh_lt h ?_
  clear h
  intro t272 h
  refine je_aload_n C dX6_init_275 276 rfl 0 rfl ?_
  refine je_sipush C (128) dX6_init_276 279 rfl sp_128 ?_
  refine je_newaI C (nA := 128) (by decide +kernel) (by decide) (by decide) q433 rfl (Nat.le_of_ble_eq_true rfl) (Nat.le_of_ble_eq_true rfl) dX6_init_279 281 rfl ?_
  refine je_ltr h ?_
  clear h
  intro b279 h
  refine jh_lt h ?_
  clear h
  intro t279 h
  replace h := p_ob_inv h
  obtain ⟨V281, he, h⟩ := h
  refine je_putF (k := 22) (v := .ref (G.2.1 + b279)) C hI he rfl in_X6 tyX6 tyX6_ok nmX6 (by decide) q1702 rfl rfl rfl rfl rfl dX6_init_281 284 rfl ?_
  refine jh_lt h ?_
  clear h
  intro t281 h
  refine je_aload_n C dX6_init_284 285 rfl 0 rfl ?_
  refine je_sipush C (128) dX6_init_285 288 rfl sp_128 ?_
  refine je_newaI C (nA := 128) (by decide +kernel) (by decide) (by decide) q433 rfl (Nat.le_of_ble_eq_true rfl) (Nat.le_of_ble_eq_true rfl) dX6_init_288 290 rfl ?_
  refine je_ltr h ?_
  clear h
  intro b288 h
  refine jh_lt h ?_
  clear h
  intro t288 h
  replace h := p_ob_inv h
  obtain ⟨V290, he, h⟩ := h
  refine je_putF (k := 23) (v := .ref (G.2.1 + b288)) C hI he rfl in_X6 tyX6 tyX6_ok nmX6 (by decide) q1703 rfl rfl rfl rfl rfl dX6_init_290 293 rfl ?_
  refine jh_lt h ?_
  clear h
  intro t290 h
  refine je_aload_n C dX6_init_293 294 rfl 0 rfl ?_
  refine je_iconst C (-1) dX6_init_294 295 rfl ic_m1 ?_
  replace h := p_ob_inv h
  obtain ⟨V295, he, h⟩ := h
  refine je_put (k := 34) (v := .int (-1 : Int32)) C he rfl in_X6 tyX6 tyX6_ok nmX6 (by decide) q1714 rfl rfl rfl rfl dX6_init_295 298 rfl ?_
  refine jh_lt h ?_
  clear h
  intro t295 h
  refine je_aload_n C dX6_init_298 299 rfl 0 rfl ?_
  refine je_bipush C (6) dX6_init_299 301 rfl bp_6 ?_
  refine je_newaJ C (nA := 6) (by decide +kernel) (by decide) (by decide) q319 rfl (Nat.le_of_ble_eq_true rfl) (Nat.le_of_ble_eq_true rfl) dX6_init_301 303 rfl ?_
  refine je_ltr h ?_
  clear h
  intro b301 h
  refine jh_lt h ?_
  clear h
  intro t301 h
  replace h := p_ob_inv h
  obtain ⟨V303, he, h⟩ := h
  refine je_putF (k := 40) (v := .ref (G.2.1 + b301)) C hI he rfl in_X6 tyX6 tyX6_ok nmX6 (by decide) q1720 rfl rfl rfl rfl rfl dX6_init_303 306 rfl ?_
  refine jh_lt h ?_
  clear h
  intro t303 h
  refine je_aload_n C dX6_init_306 307 rfl 0 rfl ?_
  refine je_bipush C (64) dX6_init_307 309 rfl bp_64 ?_
  refine je_newaJ C (nA := 64) (by decide +kernel) (by decide) (by decide) q319 rfl (Nat.le_of_ble_eq_true rfl) (Nat.le_of_ble_eq_true rfl) dX6_init_309 311 rfl ?_
  refine je_ltr h ?_
  clear h
  intro b309 h
  refine jh_lt h ?_
  clear h
  intro t309 h
  replace h := p_ob_inv h
  obtain ⟨V311, he, h⟩ := h
  refine je_putF (k := 41) (v := .ref (G.2.1 + b309)) C hI he rfl in_X6 tyX6 tyX6_ok nmX6 (by decide) q1721 rfl rfl rfl rfl rfl dX6_init_311 314 rfl ?_
  refine jh_lt h ?_
  clear h
  intro t311 h
  refine je_aload_n C dX6_init_314 315 rfl 0 rfl ?_
  refine je_iconst C (3) dX6_init_315 316 rfl ic_3 ?_
  refine je_newaI C (nA := 3) (by decide +kernel) (by decide) (by decide) q433 rfl (Nat.le_of_ble_eq_true rfl) (Nat.le_of_ble_eq_true rfl) dX6_init_316 318 rfl ?_
  refine je_ltr h ?_
  clear h
  intro b316 h
  refine jh_lt h ?_
  clear h
  intro t316 h
  replace h := p_ob_inv h
  obtain ⟨V318, he, h⟩ := h
  refine je_putF (k := 43) (v := .ref (G.2.1 + b316)) C hI he rfl in_X6 tyX6 tyX6_ok nmX6 (by decide) q1723 rfl rfl rfl rfl rfl dX6_init_318 321 rfl ?_
  refine jh_lt h ?_
  clear h
  intro t318 h
  refine je_aload_n C dX6_init_321 322 rfl 0 rfl ?_
  refine je_bipush C (12) dX6_init_322 324 rfl bp_12 ?_
  refine je_newaI C (nA := 12) (by decide +kernel) (by decide) (by decide) q433 rfl (Nat.le_of_ble_eq_true rfl) (Nat.le_of_ble_eq_true rfl) dX6_init_324 326 rfl ?_
  refine je_ltr h ?_
  clear h
  intro b324 h
  refine jh_lt h ?_
  clear h
  intro t324 h
  replace h := p_ob_inv h
  obtain ⟨V326, he, h⟩ := h
  refine je_putF (k := 44) (v := .ref (G.2.1 + b324)) C hI he rfl in_X6 tyX6 tyX6_ok nmX6 (by decide) q1724 rfl rfl rfl rfl rfl dX6_init_326 329 rfl ?_
  refine jh_lt h ?_
  clear h
  intro t326 h
  refine je_aload_n C dX6_init_329 330 rfl 0 rfl ?_
  refine je_bipush C (84) dX6_init_330 332 rfl bp_84 ?_
  refine je_newaI C (nA := 84) (by decide +kernel) (by decide) (by decide) q433 rfl (Nat.le_of_ble_eq_true rfl) (Nat.le_of_ble_eq_true rfl) dX6_init_332 334 rfl ?_
  refine je_ltr h ?_
  clear h
  intro b332 h
  refine jh_lt h ?_
  clear h
  intro t332 h
  replace h := p_ob_inv h
  obtain ⟨V334, he, h⟩ := h
  refine je_putF (k := 45) (v := .ref (G.2.1 + b332)) C hI he rfl in_X6 tyX6 tyX6_ok nmX6 (by decide) q1725 rfl rfl rfl rfl rfl dX6_init_334 337 rfl ?_
  refine jh_lt h ?_
  clear h
  intro t334 h
  refine je_aload_n C dX6_init_337 338 rfl 0 rfl ?_
  refine je_bipush C (84) dX6_init_338 340 rfl bp_84 ?_
  refine je_newaI C (nA := 84) (by decide +kernel) (by decide) (by decide) q433 rfl (Nat.le_of_ble_eq_true rfl) (Nat.le_of_ble_eq_true rfl) dX6_init_340 342 rfl ?_
  refine je_ltr h ?_
  clear h
  intro b340 h
  refine jh_lt h ?_
  clear h
  intro t340 h
  replace h := p_ob_inv h
  obtain ⟨V342, he, h⟩ := h
  refine je_putF (k := 46) (v := .ref (G.2.1 + b340)) C hI he rfl in_X6 tyX6 tyX6_ok nmX6 (by decide) q1726 rfl rfl rfl rfl rfl dX6_init_342 345 rfl ?_
  refine jh_lt h ?_
  clear h
  intro t342 h
  refine je_aload_n C dX6_init_345 346 rfl 0 rfl ?_
  refine je_bipush C (84) dX6_init_346 348 rfl bp_84 ?_
  refine je_newaI C (nA := 84) (by decide +kernel) (by decide) (by decide) q433 rfl (Nat.le_of_ble_eq_true rfl) (Nat.le_of_ble_eq_true rfl) dX6_init_348 350 rfl ?_
  refine je_ltr h ?_
  clear h
  intro b348 h
  refine jh_lt h ?_
  clear h
  intro t348 h
  replace h := p_ob_inv h
  obtain ⟨V350, he, h⟩ := h
  refine je_putF (k := 47) (v := .ref (G.2.1 + b348)) C hI he rfl in_X6 tyX6 tyX6_ok nmX6 (by decide) q1727 rfl rfl rfl rfl rfl dX6_init_350 353 rfl ?_
  refine jh_lt h ?_
  clear h
  intro t350 h
  refine je_aload_n C dX6_init_353 354 rfl 0 rfl ?_
  refine je_bipush C (12) dX6_init_354 356 rfl bp_12 ?_
  refine je_newaI C (nA := 12) (by decide +kernel) (by decide) (by decide) q433 rfl (Nat.le_of_ble_eq_true rfl) (Nat.le_of_ble_eq_true rfl) dX6_init_356 358 rfl ?_
  refine je_ltr h ?_
  clear h
  intro b356 h
  refine jh_lt h ?_
  clear h
  intro t356 h
  replace h := p_ob_inv h
  obtain ⟨V358, he, h⟩ := h
  refine je_putF (k := 48) (v := .ref (G.2.1 + b356)) C hI he rfl in_X6 tyX6 tyX6_ok nmX6 (by decide) q1728 rfl rfl rfl rfl rfl dX6_init_358 361 rfl ?_
  refine jh_lt h ?_
  clear h
  intro t358 h
  refine je_aload_n C dX6_init_361 362 rfl 0 rfl ?_
  refine je_bipush C (12) dX6_init_362 364 rfl bp_12 ?_
  refine je_newaI C (nA := 12) (by decide +kernel) (by decide) (by decide) q433 rfl (Nat.le_of_ble_eq_true rfl) (Nat.le_of_ble_eq_true rfl) dX6_init_364 366 rfl ?_
  refine je_ltr h ?_
  clear h
  intro b364 h
  refine jh_lt h ?_
  clear h
  intro t364 h
  replace h := p_ob_inv h
  obtain ⟨V366, he, h⟩ := h
  refine je_putF (k := 49) (v := .ref (G.2.1 + b364)) C hI he rfl in_X6 tyX6 tyX6_ok nmX6 (by decide) q1729 rfl rfl rfl rfl rfl dX6_init_366 369 rfl ?_
  refine jh_lt h ?_
  clear h
  intro t366 h
  refine je_aload_n C dX6_init_369 370 rfl 0 rfl ?_
  refine je_bipush C (12) dX6_init_370 372 rfl bp_12 ?_
  refine je_newaZ C (nA := 12) (by decide +kernel) (by decide) (by decide) q434 rfl (Nat.le_of_ble_eq_true rfl) (Nat.le_of_ble_eq_true rfl) dX6_init_372 374 rfl ?_
  refine je_ltr h ?_
  clear h
  intro b372 h
  refine jh_lt h ?_
  clear h
  intro t372 h
  replace h := p_ob_inv h
  obtain ⟨V374, he, h⟩ := h
  refine je_putF (k := 50) (v := .ref (G.2.1 + b372)) C hI he rfl in_X6 tyX6 tyX6_ok nmX6 (by decide) q1730 rfl rfl rfl rfl rfl dX6_init_374 377 rfl ?_
  refine jh_lt h ?_
  clear h
  intro t374 h
  refine je_aload_n C dX6_init_377 378 rfl 0 rfl ?_
  refine je_bipush C (48) dX6_init_378 380 rfl bp_48 ?_
  refine je_newaI C (nA := 48) (by decide +kernel) (by decide) (by decide) q433 rfl (Nat.le_of_ble_eq_true rfl) (Nat.le_of_ble_eq_true rfl) dX6_init_380 382 rfl ?_
  refine je_ltr h ?_
  clear h
  intro b380 h
  refine jh_lt h ?_
  clear h
  intro t380 h
  replace h := p_ob_inv h
  obtain ⟨V382, he, h⟩ := h
  refine je_putF (k := 51) (v := .ref (G.2.1 + b380)) C hI he rfl in_X6 tyX6 tyX6_ok nmX6 (by decide) q1731 rfl rfl rfl rfl rfl dX6_init_382 385 rfl ?_
  refine jh_lt h ?_
  clear h
  intro t382 h
  refine je_aload_n C dX6_init_385 386 rfl 0 rfl ?_
  refine je_iconst C (3) dX6_init_386 387 rfl ic_3 ?_
  refine je_newaI C (nA := 3) (by decide +kernel) (by decide) (by decide) q433 rfl (Nat.le_of_ble_eq_true rfl) (Nat.le_of_ble_eq_true rfl) dX6_init_387 389 rfl ?_
  refine je_ltr h ?_
  clear h
  intro b387 h
  refine jh_lt h ?_
  clear h
  intro t387 h
  replace h := p_ob_inv h
  obtain ⟨V389, he, h⟩ := h
  refine je_putF (k := 52) (v := .ref (G.2.1 + b387)) C hI he rfl in_X6 tyX6 tyX6_ok nmX6 (by decide) q1732 rfl rfl rfl rfl rfl dX6_init_389 392 rfl ?_
  refine jh_lt h ?_
  clear h
  intro t389 h
  refine je_aload_n C dX6_init_392 393 rfl 0 rfl ?_
  refine je_sipush C (1920) dX6_init_393 396 rfl sp_1920 ?_
  refine je_newaI C (nA := 1920) (by decide +kernel) (by decide) (by decide) q433 rfl (Nat.le_of_ble_eq_true rfl) (Nat.le_of_ble_eq_true rfl) dX6_init_396 398 rfl ?_
  refine je_ltr h ?_
  clear h
  intro b396 h
  refine jh_lt h ?_
  clear h
  intro t396 h
  replace h := p_ob_inv h
  obtain ⟨V398, he, h⟩ := h
  refine je_putF (k := 53) (v := .ref (G.2.1 + b396)) C hI he rfl in_X6 tyX6 tyX6_ok nmX6 (by decide) q1733 rfl rfl rfl rfl rfl dX6_init_398 401 rfl ?_
  refine jh_lt h ?_
  clear h
  intro t398 h
  refine je_aload_n C dX6_init_401 402 rfl 0 rfl ?_
  refine je_sipush C (1920) dX6_init_402 405 rfl sp_1920 ?_
  refine je_newaI C (nA := 1920) (by decide +kernel) (by decide) (by decide) q433 rfl (Nat.le_of_ble_eq_true rfl) (Nat.le_of_ble_eq_true rfl) dX6_init_405 407 rfl ?_
  refine je_ltr h ?_
  clear h
  intro b405 h
  refine jh_lt h ?_
  clear h
  intro t405 h
  replace h := p_ob_inv h
  obtain ⟨V407, he, h⟩ := h
  refine je_putF (k := 54) (v := .ref (G.2.1 + b405)) C hI he rfl in_X6 tyX6 tyX6_ok nmX6 (by decide) q1734 rfl rfl rfl rfl rfl dX6_init_407 410 rfl ?_
  refine jh_lt h ?_
  clear h
  intro t407 h
  refine je_aload_n C dX6_init_410 411 rfl 0 rfl ?_
  refine je_sipush C (1920) dX6_init_411 414 rfl sp_1920 ?_
  refine je_newaI C (nA := 1920) (by decide +kernel) (by decide) (by decide) q433 rfl (Nat.le_of_ble_eq_true rfl) (Nat.le_of_ble_eq_true rfl) dX6_init_414 416 rfl ?_
  refine je_ltr h ?_
  clear h
  intro b414 h
  refine jh_lt h ?_
  clear h
  intro t414 h
  replace h := p_ob_inv h
  obtain ⟨V416, he, h⟩ := h
  refine je_putF (k := 55) (v := .ref (G.2.1 + b414)) C hI he rfl in_X6 tyX6 tyX6_ok nmX6 (by decide) q1735 rfl rfl rfl rfl rfl dX6_init_416 419 rfl ?_
  refine jh_lt h ?_
  clear h
  intro t416 h
  refine je_aload_n C dX6_init_419 420 rfl 0 rfl ?_
  refine je_sipush C (1920) dX6_init_420 423 rfl sp_1920 ?_
  refine je_newaI C (nA := 1920) (by decide +kernel) (by decide) (by decide) q433 rfl (Nat.le_of_ble_eq_true rfl) (Nat.le_of_ble_eq_true rfl) dX6_init_423 425 rfl ?_
  refine je_ltr h ?_
  clear h
  intro b423 h
  refine jh_lt h ?_
  clear h
  intro t423 h
  replace h := p_ob_inv h
  obtain ⟨V425, he, h⟩ := h
  refine je_putF (k := 56) (v := .ref (G.2.1 + b423)) C hI he rfl in_X6 tyX6 tyX6_ok nmX6 (by decide) q1736 rfl rfl rfl rfl rfl dX6_init_425 428 rfl ?_
  refine jh_lt h ?_
  clear h
  intro t425 h
  refine je_aload_n C dX6_init_428 429 rfl 0 rfl ?_
  refine je_iconst C (4) dX6_init_429 430 rfl ic_4 ?_
  refine je_newaI C (nA := 4) (by decide +kernel) (by decide) (by decide) q433 rfl (Nat.le_of_ble_eq_true rfl) (Nat.le_of_ble_eq_true rfl) dX6_init_430 432 rfl ?_
  refine je_ltr h ?_
  clear h
  intro b430 h
  refine jh_lt h ?_
  clear h
  intro t430 h
  replace h := p_ob_inv h
  obtain ⟨V432, he, h⟩ := h
  refine je_putF (k := 58) (v := .ref (G.2.1 + b430)) C hI he rfl in_X6 tyX6 tyX6_ok nmX6 (by decide) q1738 rfl rfl rfl rfl rfl dX6_init_432 435 rfl ?_
  refine jh_lt h ?_
  clear h
  intro t432 h
  refine je_aload_n C dX6_init_435 436 rfl 0 rfl ?_
  refine je_iconst C (4) dX6_init_436 437 rfl ic_4 ?_
  refine je_newaI C (nA := 4) (by decide +kernel) (by decide) (by decide) q433 rfl (Nat.le_of_ble_eq_true rfl) (Nat.le_of_ble_eq_true rfl) dX6_init_437 439 rfl ?_
  refine je_ltr h ?_
  clear h
  intro b437 h
  refine jh_lt h ?_
  clear h
  intro t437 h
  replace h := p_ob_inv h
  obtain ⟨V439, he, h⟩ := h
  refine je_putF (k := 60) (v := .ref (G.2.1 + b437)) C hI he rfl in_X6 tyX6 tyX6_ok nmX6 (by decide) q1740 rfl rfl rfl rfl rfl dX6_init_439 442 rfl ?_
  refine jh_lt h ?_
  clear h
  intro t439 h
  refine je_aload_n C dX6_init_442 443 rfl 0 rfl ?_
  refine je_iconst C (4) dX6_init_443 444 rfl ic_4 ?_
  refine je_newaI C (nA := 4) (by decide +kernel) (by decide) (by decide) q433 rfl (Nat.le_of_ble_eq_true rfl) (Nat.le_of_ble_eq_true rfl) dX6_init_444 446 rfl ?_
  refine je_ltr h ?_
  clear h
  intro b444 h
  refine jh_lt h ?_
  clear h
  intro t444 h
  replace h := p_ob_inv h
  obtain ⟨V446, he, h⟩ := h
  refine je_putF (k := 61) (v := .ref (G.2.1 + b444)) C hI he rfl in_X6 tyX6 tyX6_ok nmX6 (by decide) q1741 rfl rfl rfl rfl rfl dX6_init_446 449 rfl ?_
  refine jh_lt h ?_
  clear h
  intro t446 h
  refine je_aload_n C dX6_init_449 450 rfl 0 rfl ?_
  refine je_sipush C (4352) dX6_init_450 453 rfl sp_4352 ?_
  refine je_newaJ C (nA := 4352) (by decide +kernel) (by decide) (by decide) q319 rfl (Nat.le_of_ble_eq_true rfl) (Nat.le_of_ble_eq_true rfl) dX6_init_453 455 rfl ?_
  refine je_ltr h ?_
  clear h
  intro b453 h
  refine jh_lt h ?_
  clear h
  intro t453 h
  replace h := p_ob_inv h
  obtain ⟨V455, he, h⟩ := h
  refine je_putF (k := 62) (v := .ref (G.2.1 + b453)) C hI he rfl in_X6 tyX6 tyX6_ok nmX6 (by decide) q1742 rfl rfl rfl rfl rfl dX6_init_455 458 rfl ?_
  refine jh_lt h ?_
  clear h
  intro t455 h
  refine je_aload_n C dX6_init_458 459 rfl 0 rfl ?_
  refine je_bipush C (16) dX6_init_459 461 rfl bp_16 ?_
  refine je_newaI C (nA := 16) (by decide +kernel) (by decide) (by decide) q433 rfl (Nat.le_of_ble_eq_true rfl) (Nat.le_of_ble_eq_true rfl) dX6_init_461 463 rfl ?_
  refine je_ltr h ?_
  clear h
  intro b461 h
  refine jh_lt h ?_
  clear h
  intro t461 h
  replace h := p_ob_inv h
  obtain ⟨V463, he, h⟩ := h
  refine je_putF (k := 63) (v := .ref (G.2.1 + b461)) C hI he rfl in_X6 tyX6 tyX6_ok nmX6 (by decide) q1743 rfl rfl rfl rfl rfl dX6_init_463 466 rfl ?_
  refine jh_lt h ?_
  clear h
  intro t463 h
  refine je_aload_n C dX6_init_466 467 rfl 0 rfl ?_
  refine je_bipush C (16) dX6_init_467 469 rfl bp_16 ?_
  refine je_newaI C (nA := 16) (by decide +kernel) (by decide) (by decide) q433 rfl (Nat.le_of_ble_eq_true rfl) (Nat.le_of_ble_eq_true rfl) dX6_init_469 471 rfl ?_
  refine je_ltr h ?_
  clear h
  intro b469 h
  refine jh_lt h ?_
  clear h
  intro t469 h
  replace h := p_ob_inv h
  obtain ⟨V471, he, h⟩ := h
  refine je_putF (k := 65) (v := .ref (G.2.1 + b469)) C hI he rfl in_X6 tyX6 tyX6_ok nmX6 (by decide) q1745 rfl rfl rfl rfl rfl dX6_init_471 474 rfl ?_
  refine jh_lt h ?_
  clear h
  intro t471 h
  refine je_aload_n C dX6_init_474 475 rfl 0 rfl ?_
  refine je_bipush C (16) dX6_init_475 477 rfl bp_16 ?_
  refine je_newaI C (nA := 16) (by decide +kernel) (by decide) (by decide) q433 rfl (Nat.le_of_ble_eq_true rfl) (Nat.le_of_ble_eq_true rfl) dX6_init_477 479 rfl ?_
  refine je_ltr h ?_
  clear h
  intro b477 h
  refine jh_lt h ?_
  clear h
  intro t477 h
  replace h := p_ob_inv h
  obtain ⟨V479, he, h⟩ := h
  refine je_putF (k := 69) (v := .ref (G.2.1 + b477)) C hI he rfl in_X6 tyX6 tyX6_ok nmX6 (by decide) q1749 rfl rfl rfl rfl rfl dX6_init_479 482 rfl ?_
  refine jh_lt h ?_
  clear h
  intro t479 h
  refine je_aload_n C dX6_init_482 483 rfl 0 rfl ?_
  refine je_sipush C (19208) dX6_init_483 486 rfl sp_19208 ?_
  refine je_newaI C (nA := 19208) (by decide +kernel) (by decide) (by decide) q433 rfl (Nat.le_of_ble_eq_true rfl) (Nat.le_of_ble_eq_true rfl) dX6_init_486 488 rfl ?_
  refine je_ltr h ?_
  clear h
  intro b486 h
  refine jh_lt h ?_
  clear h
  intro t486 h
  replace h := p_ob_inv h
  obtain ⟨V488, he, h⟩ := h
  refine je_putF (k := 70) (v := .ref (G.2.1 + b486)) C hI he rfl in_X6 tyX6 tyX6_ok nmX6 (by decide) q1750 rfl rfl rfl rfl rfl dX6_init_488 491 rfl ?_
  refine jh_lt h ?_
  clear h
  intro t488 h
  refine je_aload_n C dX6_init_491 492 rfl 0 rfl ?_
  refine je_iconst C (-1) dX6_init_492 493 rfl ic_m1 ?_
  replace h := p_ob_inv h
  obtain ⟨V493, he, h⟩ := h
  refine je_put (k := 72) (v := .int (-1 : Int32)) C he rfl in_X6 tyX6 tyX6_ok nmX6 (by decide) q1752 rfl rfl rfl rfl dX6_init_493 496 rfl ?_
  refine jh_lt h ?_
  clear h
  intro t493 h
  refine je_aload_n C dX6_init_496 497 rfl 0 rfl ?_
  refine je_bipush C (24) dX6_init_497 499 rfl bp_24 ?_
  refine je_newaI C (nA := 24) (by decide +kernel) (by decide) (by decide) q433 rfl (Nat.le_of_ble_eq_true rfl) (Nat.le_of_ble_eq_true rfl) dX6_init_499 501 rfl ?_
  refine je_ltr h ?_
  clear h
  intro b499 h
  refine jh_lt h ?_
  clear h
  intro t499 h
  replace h := p_ob_inv h
  obtain ⟨V501, he, h⟩ := h
  refine je_putF (k := 73) (v := .ref (G.2.1 + b499)) C hI he rfl in_X6 tyX6 tyX6_ok nmX6 (by decide) q1753 rfl rfl rfl rfl rfl dX6_init_501 504 rfl ?_
  refine jh_lt h ?_
  clear h
  intro t501 h
  refine je_aload_n C dX6_init_504 505 rfl 0 rfl ?_
  refine je_bipush C (24) dX6_init_505 507 rfl bp_24 ?_
  refine je_newaI C (nA := 24) (by decide +kernel) (by decide) (by decide) q433 rfl (Nat.le_of_ble_eq_true rfl) (Nat.le_of_ble_eq_true rfl) dX6_init_507 509 rfl ?_
  refine je_ltr h ?_
  clear h
  intro b507 h
  refine jh_lt h ?_
  clear h
  intro t507 h
  replace h := p_ob_inv h
  obtain ⟨V509, he, h⟩ := h
  refine je_putF (k := 74) (v := .ref (G.2.1 + b507)) C hI he rfl in_X6 tyX6 tyX6_ok nmX6 (by decide) q1754 rfl rfl rfl rfl rfl dX6_init_509 512 rfl ?_
  refine jh_lt h ?_
  clear h
  intro t509 h
  refine je_aload_n C dX6_init_512 513 rfl 0 rfl ?_
  refine je_bipush C (24) dX6_init_513 515 rfl bp_24 ?_
  refine je_newaZ C (nA := 24) (by decide +kernel) (by decide) (by decide) q434 rfl (Nat.le_of_ble_eq_true rfl) (Nat.le_of_ble_eq_true rfl) dX6_init_515 517 rfl ?_
  refine je_ltr h ?_
  clear h
  intro b515 h
  refine jh_lt h ?_
  clear h
  intro t515 h
  replace h := p_ob_inv h
  obtain ⟨V517, he, h⟩ := h
  refine je_putF (k := 75) (v := .ref (G.2.1 + b515)) C hI he rfl in_X6 tyX6 tyX6_ok nmX6 (by decide) q1755 rfl rfl rfl rfl rfl dX6_init_517 520 rfl ?_
  refine jh_lt h ?_
  clear h
  intro t517 h
  cases h
  exact je_vret C dX6_init_520
