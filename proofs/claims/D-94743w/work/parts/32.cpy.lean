/-! OUR OWN, with lines of the kit (va_copyM, va_copyg, va_getC): copies between Object arrays of the store. Printed by gen/mkcpy.py -/
set_option maxRecDepth 100000
/-- an element that may lie in an Object array: null, or an item of a list -/
def isIt (G : je_G) (σ : Nat → Option je_E) : Option Nat → Bool
  | none => true
  | some a => if G.2.1 ≤ a then (match σ (a - G.2.1) with
    | some (.inr (ci, _)) => decide (6 ≤ ci ∧ ci ≤ 11)
    | _ => false) else false
theorem castIt {ci : Nat} (h : 6 ≤ ci ∧ ci ≤ 11) : ∃ r0 : vw_C, vwCl[ci]? = some r0 ∧ Cond.castable r0.1 "java/lang/Object" ∈ lw_tbl := by
  match ci, h with
  | 6, _ => exact ⟨_, rfl, q2412⟩
  | 7, _ => exact ⟨_, rfl, q2413⟩
  | 8, _ => exact ⟨_, rfl, q2414⟩
  | 9, _ => exact ⟨_, rfl, q2415⟩
  | 10, _ => exact ⟨_, rfl, q2416⟩
  | 11, _ => exact ⟨_, rfl, q2423⟩
  | 0, h => exact absurd h (by omega)
  | 1, h => exact absurd h (by omega)
  | 2, h => exact absurd h (by omega)
  | 3, h => exact absurd h (by omega)
  | 4, h => exact absurd h (by omega)
  | 5, h => exact absurd h (by omega)
  | n + 12, h => exact absurd h (by omega)
section JC
variable {p : Program} {l : Launch} {e : Env} {R : Room} {s : State} {m : MethodId} {args : Array Value} {below : List Frame} {meth : Method} {c : Code} {Q : State → Prop} {G : je_G} {own : String} {cc : ByteArray} {nL : Nat} {rt : Option FieldType} {σ : Nat → Option je_E} {sz cells slots pc : Nat} {L L' : List (Nat × Value)} {st : List Value}
theorem je_copyO (C : Cx p s m args meth c G own cc nL rt) {index j0 j1 n0 n1 : Nat} {f g : Nat → Option Nat} (he0 : σ j0 = some (.inl (G.2.2.1 4, n0, .inr (.inr (.inr (.inr f)))))) (he1 : σ j1 = some (.inl (G.2.2.1 4, n1, .inr (.inr (.inr (.inr g))))))
    (hq : Cond.methodLink own index arraycopyName ∈ lw_all ∧ Cond.native arraycopyName ∈ lw_all ∧ Cond.static arraycopyName ∈ lw_all ∧ Cond.initialized "java/lang/System" ∈ lw_all)
    {sp dp n9 : Int32} (h1 : ¬ sp < 0) (h2 : ¬ dp < 0) (h3 : ¬ n9 < 0) (h4 : sp.toNatClampNeg + n9.toNatClampNeg ≤ n0) (h5 : dp.toNatClampNeg + n9.toNatClampNeg ≤ n1) (hel : ∀ i, i < n9.toNatClampNeg → isIt G σ (f (sp.toNatClampNeg + i)) = true)
    (hframes : 1 ≤ R.frames ∧ 8 + (nativeFrameWords "java/lang/System" "arraycopy" 5 + 11) ≤ R.locals) (hrm : (st.map fun v => v.category).sum ≤ 8) (d : decode cc pc = .ok (.invokestatic index, 3)) (n : Nat) (hn : pc + 3 = n)
    (kk : Js p l e R s m args below meth c G nL Q (je_up σ j1 (.inl (G.2.2.1 4, n1, .inr (.inr (.inr (.inr (va_cpy f g sp.toNatClampNeg dp.toNatClampNeg n9.toNatClampNeg))))))) sz cells slots n L st) : Js p l e R s m args below meth c G nL Q σ sz cells slots pc L (.int n9 :: .int dp :: .ref (G.2.1 + j1) :: .int sp :: .ref (G.2.1 + j0) :: st) := by
  subst hn
  have nn : ∀ z : Int32, ¬ z < 0 → z.toInt = (z.toNatClampNeg : Int) := by
    intro z hz
    have hz0 : (0 : Int) ≤ z.toInt := by
      have := Int32.not_lt.mp hz
      simpa using Int32.le_iff_toInt_le.mp this
    show z.toInt = ((z.toInt.toNat : Nat) : Int)
    omega
  intro H locs ls hW hS hl T hT X
  have hc0 : H[G.2.1 + j0]? = some (vp_cell (G.2.2.1 4) (n0, .inr (.inr (.inr (.inr f))))) := hW.2 j0 _ he0
  have hc1 : H[G.2.1 + j1]? = some (vp_cell (G.2.2.1 4) (n1, .inr (.inr (.inr (.inr g))))) := hW.2 j1 _ he1
  obtain ⟨-, k0, hk0, cm0, hkk0⟩ := (C.2.2.2.2.2.2.2.1.1.2 4 _ rfl).1 n0 (fun j => va_rf (f j))
  obtain ⟨-, k1, hk1, cm1, hkk1⟩ := (C.2.2.2.2.2.2.2.1.1.2 4 _ rfl).1 n1 (fun j => va_rf (g j))
  obtain ⟨vm', X', step⟩ := X.arraycopy C.1 C.2.2.2.2.1 (C.2.2.2.1 _ hq.1) (C.2.2.2.1 _ hq.2.1) (C.2.2.2.1 _ hq.2.2.1) (C.2.2.2.1 _ hq.2.2.2) (src := G.2.1 + j0) (dst := G.2.1 + j1) (cs := vp_cell (G.2.2.1 4) (n0, .inr (.inr (.inr (.inr f))))) (cd := vp_cell (G.2.2.1 4) (n1, .inr (.inr (.inr (.inr g))))) (srcPos := sp) (destPos := dp) (n := n9) (by rw [hT]; exact hc0) (by rw [hT]; exact hc1)
    (fun _ h => by cases h) (fun _ h => by cases h) (fun h => by cases h) (fun h => by cases h) hk0 hk1 hkk0 hkk1 rfl h1 h2 h3
    (by rw [nn sp h1, nn n9 h3]; show ¬ _ > ((arrV (G.2.2.1 4) n0 (fun j => va_rf (f j))).slots.size : Int); rw [arrV_size]; omega)
    (by rw [nn dp h2, nn n9 h3]; show ¬ _ > ((arrV (G.2.2.1 4) n1 (fun j => va_rf (g j))).slots.size : Int); rw [arrV_size]; omega)
    (fun vm₁ hal i hi => by
      have e : (vp_cell (G.2.2.1 4) (n0, .inr (.inr (.inr (.inr f))))).slots.getD (sp.toNatClampNeg + i) .null = va_rf (f (sp.toNatClampNeg + i)) := by
        show (arrV (G.2.2.1 4) n0 (fun j => va_rf (f j))).slots.getD _ _ = _
        rw [Array.getD_eq_getD_getElem?, arrV_read _ _ (by omega)]
        rfl
      rw [e]
      have hi9 := hel i hi
      cases hy : f (sp.toNatClampNeg + i) with
      | none => exact ⟨rfl, trivial⟩
      | some y =>
        rw [hy] at hi9
        change (if G.2.1 ≤ y then (match σ (y - G.2.1) with | some (.inr (ci, _)) => decide (6 ≤ ci ∧ ci ≤ 11) | _ => false) else false) = true at hi9
        split at hi9
        · rename_i hle
          split at hi9
          · rename_i ci V0 hσ
            obtain ⟨r0, hr0, hca⟩ := castIt (of_decide_eq_true hi9)
            obtain ⟨r1, e1, cellV, g1, g2, g3, -⟩ := hW.2 _ _ hσ
            have hr : r1 = r0 := Option.some.inj (e1.symm.trans hr0)
            subst hr
            have ey : G.2.1 + (y - G.2.1) = y := by omega
            rw [ey] at g1
            have hcl : s.vm.findClass r1.1 = some (G.1.1 ci) := (C.2.2.2.2.2.2.2.1.1.1 ci _ hr0).2.1
            obtain ⟨kC, hkC, -⟩ := Vm.findClass_spec hcl
            obtain ⟨kA, comp, r1', r2, r3, -⟩ := (C.2.2.2.2.2.2.2.1.1.2 4 _ rfl).2
            cases hk1.symm.trans r1'
            cases hkk1.symm.trans r2
            obtain ⟨kE, hkE, -⟩ := Vm.findClass_spec r3
            obtain ⟨kC', hkC', -⟩ := hal.2.2 _ _ hkC
            obtain ⟨kE', hkE', -⟩ := hal.2.2 _ _ hkE
            refine ⟨rfl, cellV, (show T.heap[y]? = some cellV by rw [hT]; exact g1), (fun q h => by rw [h] at g3; cases g3), ⟨kC', by rw [g2]; exact hkC'⟩, ⟨kE', hkE'⟩, ?_⟩
            show vm₁.assignable _ _ = true
            rw [hal.assignable, g2]
            exact vb_asgC (C.2.2.2.2.2.2.2.1.2.1 _ (nw_in hca rfl)) _ _ r3 hcl
          · cases hi9
        · cases hi9)
    (g := F0 m pc ls (.int n9 :: .int dp :: .ref (G.2.1 + j1) :: .int sp :: .ref (G.2.1 + j0) :: st)) rfl (by rw [C.2.2.1]; exact hl.1) (rest := st) rfl (by rw [C.2.1]; exact d) hframes.1 (by show 2 * 0 + _ + _ ≤ _; have := hframes.2; omega)
  have e1 : copied (vp_cell (G.2.2.1 4) (n0, .inr (.inr (.inr (.inr f))))) (vp_cell (G.2.2.1 4) (n1, .inr (.inr (.inr (.inr g))))) sp dp n9 = vp_cell (G.2.2.1 4) (n1, .inr (.inr (.inr (.inr (va_cpy f g sp.toNatClampNeg dp.toNatClampNeg n9.toNatClampNeg))))) := by
    rw [vp_cell_q, vp_cell_q, vp_cell_q]
    exact va_copied (fun z => va_rf z) (G.2.2.1 4) (G.2.2.1 4) f g h4
  rw [e1] at X' step
  have hl1 : G.2.1 + j1 < H.size := (Array.getElem?_eq_some_iff.mp hc1).1
  have hheap : ((T.setVm vm').setCell (G.2.1 + j1) (vp_cell (G.2.2.1 4) (n1, .inr (.inr (.inr (.inr (va_cpy f g sp.toNatClampNeg dp.toNatClampNeg n9.toNatClampNeg))))))).heap = H.setIfInBounds (G.2.1 + j1) (vp_cell (G.2.2.1 4) (n1, .inr (.inr (.inr (.inr (va_cpy f g sp.toNatClampNeg dp.toNatClampNeg n9.toNatClampNeg)))))) := by rw [← hT]; rfl
  have oq : ∀ q : Nat, q ≠ G.2.1 + j1 → (H.setIfInBounds (G.2.1 + j1) (vp_cell (G.2.2.1 4) (n1, .inr (.inr (.inr (.inr (va_cpy f g sp.toNatClampNeg dp.toNatClampNeg n9.toNatClampNeg)))))))[q]? = H[q]? := fun q hq => by simp [Array.getElem?_setIfInBounds, Ne.symm hq]
  obtain ⟨t9, a1, b1⟩ := kk _ _ ls (hW.put (x := .inl (G.2.2.1 4, n1, .inr (.inr (.inr (.inr (va_cpy f g sp.toNatClampNeg dp.toNatClampNeg n9.toNatClampNeg)))))) (show (H.setIfInBounds (G.2.1 + j1) _)[G.2.1 + j1]? = some _ by simp [Array.getElem?_setIfInBounds, hl1]) (by simp) oq) ⟨by simp; exact hS.1, fun q g1 g2 => by
      rw [oq q (fun e => g2 (by rw [e]; exact Nat.le_add_right _ _))]
      exact hS.2.1 q g1 g2, fun q hq => by
      rcases List.mem_append.mp hq with h | h
      · exact hS.2.2 q h
      · obtain ⟨z, -, hz⟩ := List.mem_map.mp h
        rw [← hz]
        exact Nat.le_add_right _ _⟩ hl _ hheap X'
  exact ⟨t9, step t9 a1, b1⟩
theorem je_getC (C : Cx p s m args meth c G own cc nL rt) {index j n0 : Nat} {f : Nat → Option Nat} (he : σ j = some (.inl (G.2.2.1 4, n0, .inr (.inr (.inr (.inr f)))))) (hq : Cond.methodLink own index ⟨"java/lang/Object", "getClass", "()Ljava/lang/Class;"⟩ ∈ lw_all ∧ Cond.selects "[Ljava/lang/Object;" ⟨"java/lang/Object", "getClass", "()Ljava/lang/Class;"⟩ ⟨"java/lang/Object", "getClass", "()Ljava/lang/Class;"⟩ ∈ lw_all ∧ Cond.instanceMethod ⟨"java/lang/Object", "getClass", "()Ljava/lang/Class;"⟩ ∈ lw_all ∧ Cond.native ⟨"java/lang/Object", "getClass", "()Ljava/lang/Class;"⟩ ∈ lw_all)
    (hR : 1 ≤ R.frames ∧ 22 ≤ R.locals) (hrm : (st.map fun v => v.category).sum ≤ 8) (d : decode cc pc = .ok (.invokevirtual index, 3)) (n : Nat) (hn : pc + 3 = n) (kk : Js p l e R s m args below meth c G nL Q σ sz cells slots n L (.ref (G.2.2.2.1 7) :: st)) : Js p l e R s m args below meth c G nL Q σ sz cells slots pc L (.ref (G.2.1 + j) :: st) := by
  subst hn
  intro H locs ls hW hS hl
  refine va_getC C.1 C.2.1 (C.2.2.1.trans hl.1.symm) C.2.2.2.2.1 (C.2.2.2.1 _ hq.1) (va_Dc.use C.2.2.2.2.2.2.2.2.2.2.2.2.2.1) (C.2.2.2.1 _ hq.2.1) (C.2.2.2.1 _ hq.2.2.1) (C.2.2.2.1 _ hq.2.2.2) C.2.2.2.2.2.2.2.2.2.2.2.2.1 ⟨_, hW.2 j _ he, rfl, ?_⟩ hR.1 (by omega) d (kk H locs ls hW hS hl)
  obtain ⟨kA9, comp9, -, -, -, g4⟩ := (C.2.2.2.2.2.2.2.1.1.2 4 _ rfl).2
  exact g4
end JC
