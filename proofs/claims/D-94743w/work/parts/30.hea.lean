/-! OUR OWN: rows for new cells, constructors, references. Printed by gen/mkhea.py -/
set_option maxRecDepth 100000
theorem je_at.lt {D : va_G} {a : Nat} {x : je_E} {H : Heap} (h : je_at D a x H) : a < H.size := by
  cases x with
  | inl y => exact (Array.getElem?_eq_some_iff.mp h).1
  | inr o =>
    obtain ⟨r, h1, cell, q1, -⟩ := h
    exact (Array.getElem?_eq_some_iff.mp q1).1
theorem Wd.new {G : je_G} {σ : Nat → Option je_E} {sz : Nat} {H H1 : Heap} {j : Nat} {x : je_E} (h : Wd G σ sz H) (hj : G.2.1 + j = sz) (hx : je_at G.1 (G.2.1 + j) x H1) (z : H1.size = sz + 1) (oq : ∀ q : Nat, q < sz → H1[q]? = H[q]?) : Wd G (je_up σ j x) (sz + 1) H1 := by
  refine ⟨z, fun q y hq => ?_⟩
  unfold je_up at hq
  by_cases hqj : q = j
  · rw [if_pos hqj] at hq
    cases hq
    rw [hqj]
    exact hx
  · rw [if_neg hqj] at hq
    have h9 := h.2 q y hq
    exact h9.kept (oq _ (by rw [← h.1]; exact h9.lt))
theorem va_S.new {A : Nat → Prop} {H0 H H1 : Heap} {locs : List Loc} (h : va_S A H0 H locs) (z : H1.size = H.size + 1) (oq : ∀ q : Nat, q < H.size → H1[q]? = H[q]?) : va_S A H0 H1 locs :=
  ⟨Nat.le_trans h.1 (by omega), fun q h1 h2 => (oq q (Nat.lt_of_lt_of_le h1 h.1)).trans (h.2.1 q h1 h2), h.2.2⟩
section JH
variable {p : Program} {l : Launch} {e : Env} {R : Room} {s : State} {m : MethodId} {args : Array Value} {below : List Frame} {meth : Method} {c : Code} {Q : State → Prop} {G : je_G} {own : String} {cc : ByteArray} {nL : Nat} {rt : Option FieldType} {σ : Nat → Option je_E} {sz cells slots pc : Nat} {L L' : List (Nat × Value)} {st : List Value}
theorem je_new (C : Cx p s m args meth c G own cc nL rt) {C0 : String} {T : u_T} {N ci index j nS : Nat} (hc : vwCl[ci]? = some (C0, T, N)) (hin : ∀ w ∈ u_ws C0 T N, w ∈ lw_all) (ty0 : Nat → FieldType) (hty : ∀ k, k < N → parseFieldDescriptor (T k).2.2.1 = some (ty0 k)) (hq : Cond.classLink own index C0 ∈ lw_all) (hins : Cond.instantiable C0 nS ∈ lw_all) (hini : Cond.initialized C0 ∈ lw_all)
    (hj : G.2.1 + j = sz) (hcl : cells + 1 ≤ R.cells) (hsl : slots + nS ≤ R.slots) (d : decode cc pc = .ok (.new index, 3)) (n : Nat) (hn : pc + 3 = n) (kk : Js p l e R s m args below meth c G nL Q (je_up σ j (.inr (ci, fun k => defaultValue (ty0 k)))) (sz + 1) (cells + 1) (slots + nS) n L (.ref (G.2.1 + j) :: st)) : Js p l e R s m args below meth c G nL Q σ sz cells slots pc L st := by
  subst hn
  intro H locs ls hW hS hl
  have hK := C.2.2.2.2.2.2.2.1.1.1 ci _ hc
  refine W.newcK C.1 C.2.1 C.2.2.2.2.1 (C.2.2.2.1 _ hq) (C.2.2.2.1 _ hins) (C.2.2.2.1 _ hini) rfl d hcl hsl hK.2.1 hW.1 fun H1 kC hkC hcell z oq => ?_
  have hcell' : H1[G.2.1 + j]? = some (blank (G.1.1 ci) kC) := by rw [hj]; exact hcell
  rw [← hj]
  rw [← hj] at z oq
  exact kk H1 _ ls (hW.new hj ⟨_, hc, u_born ty0 C.2.2.2.1 hin hK hkC hcell' hty⟩ (by rw [z, hj]) (by rw [← hj]; exact oq)) (hS.new (by rw [z, hj, hW.1]) (by rw [hW.1, ← hj]; exact oq)) hl
theorem je_newaI (C : Cx p s m args meth c G own cc nL rt) {j nA : Nat} {x : Int32} (hx : x.toNatClampNeg = nA) (hx0 : ¬ x < 0) (hb : nA * componentBytes .int ≤ 536870912) (hq : Cond.arrayClass .int ∈ lw_all) (hj : G.2.1 + j = sz) (hcl : cells + 1 ≤ R.cells) (hsl : slots + nA ≤ R.slots) (d : decode cc pc = .ok (.newarray .int, 2)) (n : Nat) (hn : pc + 2 = n) (kk : Js p l e R s m args below meth c G nL Q (je_up σ j (.inl (G.2.2.1 0, nA, (.inl (fun _ => (0 : Int32)))))) (sz + 1) (cells + 1) (slots + nA) n L (.ref (G.2.1 + j) :: st)) : Js p l e R s m args below meth c G nL Q σ sz cells slots pc L (.int x :: st) := by
  subst hn
  intro H locs ls hW hS hl
  refine va_newaK C.1 C.2.1 (atype := .int) (C.2.2.2.1 _ hq) rfl d rfl hx0 hx hb hcl hsl hW.1 fun H1 cA hcell z oq hA hf => ?_
  have hcA : cA = G.2.2.1 0 := Option.some.inj (hf.symm.trans (C.2.2.2.2.2.2.2.1.1.2 0 _ rfl).2)
  subst hcA
  rw [← hj]
  refine kk H1 _ ls (hW.new hj ?_ z oq) (hS.new (by rw [z, hW.1]) (by rw [hW.1]; exact oq)) hl
  show H1[G.2.1 + j]? = some (vp_cell _ _)
  rw [hj, hcell, vp_cell_i]
  rfl
theorem je_newaJ (C : Cx p s m args meth c G own cc nL rt) {j nA : Nat} {x : Int32} (hx : x.toNatClampNeg = nA) (hx0 : ¬ x < 0) (hb : nA * componentBytes .long ≤ 536870912) (hq : Cond.arrayClass .long ∈ lw_all) (hj : G.2.1 + j = sz) (hcl : cells + 1 ≤ R.cells) (hsl : slots + nA ≤ R.slots) (d : decode cc pc = .ok (.newarray .long, 2)) (n : Nat) (hn : pc + 2 = n) (kk : Js p l e R s m args below meth c G nL Q (je_up σ j (.inl (G.2.2.1 1, nA, (.inr (.inl (fun _ => (0 : Int64))))))) (sz + 1) (cells + 1) (slots + nA) n L (.ref (G.2.1 + j) :: st)) : Js p l e R s m args below meth c G nL Q σ sz cells slots pc L (.int x :: st) := by
  subst hn
  intro H locs ls hW hS hl
  refine va_newaK C.1 C.2.1 (atype := .long) (C.2.2.2.1 _ hq) rfl d rfl hx0 hx hb hcl hsl hW.1 fun H1 cA hcell z oq hA hf => ?_
  have hcA : cA = G.2.2.1 1 := Option.some.inj (hf.symm.trans (C.2.2.2.2.2.2.2.1.1.2 1 _ rfl).2)
  subst hcA
  rw [← hj]
  refine kk H1 _ ls (hW.new hj ?_ z oq) (hS.new (by rw [z, hW.1]) (by rw [hW.1]; exact oq)) hl
  show H1[G.2.1 + j]? = some (vp_cell _ _)
  rw [hj, hcell, vp_cell_l]
  rfl
theorem je_newaZ (C : Cx p s m args meth c G own cc nL rt) {j nA : Nat} {x : Int32} (hx : x.toNatClampNeg = nA) (hx0 : ¬ x < 0) (hb : nA * componentBytes .boolean ≤ 536870912) (hq : Cond.arrayClass .boolean ∈ lw_all) (hj : G.2.1 + j = sz) (hcl : cells + 1 ≤ R.cells) (hsl : slots + nA ≤ R.slots) (d : decode cc pc = .ok (.newarray .boolean, 2)) (n : Nat) (hn : pc + 2 = n) (kk : Js p l e R s m args below meth c G nL Q (je_up σ j (.inl (G.2.2.1 2, nA, (.inl (fun _ => (0 : Int32)))))) (sz + 1) (cells + 1) (slots + nA) n L (.ref (G.2.1 + j) :: st)) : Js p l e R s m args below meth c G nL Q σ sz cells slots pc L (.int x :: st) := by
  subst hn
  intro H locs ls hW hS hl
  refine va_newaK C.1 C.2.1 (atype := .boolean) (C.2.2.2.1 _ hq) rfl d rfl hx0 hx hb hcl hsl hW.1 fun H1 cA hcell z oq hA hf => ?_
  have hcA : cA = G.2.2.1 2 := Option.some.inj (hf.symm.trans (C.2.2.2.2.2.2.2.1.1.2 2 _ rfl).2)
  subst hcA
  rw [← hj]
  refine kk H1 _ ls (hW.new hj ?_ z oq) (hS.new (by rw [z, hW.1]) (by rw [hW.1]; exact oq)) hl
  show H1[G.2.1 + j]? = some (vp_cell _ _)
  rw [hj, hcell, vp_cell_i]
  rfl
theorem je_newaB (C : Cx p s m args meth c G own cc nL rt) {j nA : Nat} {x : Int32} (hx : x.toNatClampNeg = nA) (hx0 : ¬ x < 0) (hb : nA * componentBytes .byte ≤ 536870912) (hq : Cond.arrayClass .byte ∈ lw_all) (hj : G.2.1 + j = sz) (hcl : cells + 1 ≤ R.cells) (hsl : slots + nA ≤ R.slots) (d : decode cc pc = .ok (.newarray .byte, 2)) (n : Nat) (hn : pc + 2 = n) (kk : Js p l e R s m args below meth c G nL Q (je_up σ j (.inl (G.2.2.1 3, nA, (.inl (fun _ => (0 : Int32)))))) (sz + 1) (cells + 1) (slots + nA) n L (.ref (G.2.1 + j) :: st)) : Js p l e R s m args below meth c G nL Q σ sz cells slots pc L (.int x :: st) := by
  subst hn
  intro H locs ls hW hS hl
  refine va_newaK C.1 C.2.1 (atype := .byte) (C.2.2.2.1 _ hq) rfl d rfl hx0 hx hb hcl hsl hW.1 fun H1 cA hcell z oq hA hf => ?_
  have hcA : cA = G.2.2.1 3 := Option.some.inj (hf.symm.trans (C.2.2.2.2.2.2.2.1.1.2 3 _ rfl).2)
  subst hcA
  rw [← hj]
  refine kk H1 _ ls (hW.new hj ?_ z oq) (hS.new (by rw [z, hW.1]) (by rw [hW.1]; exact oq)) hl
  show H1[G.2.1 + j]? = some (vp_cell _ _)
  rw [hj, hcell, vp_cell_i]
  rfl
theorem je_anew (C : Cx p s m args meth c G own cc nL rt) {index j nA : Nat} {x : Int32} (hx : x.toNatClampNeg = nA) (hx0 : ¬ x < 0) (hb : nA * 4 ≤ 536870912) (hq : Cond.classLink own index "java/lang/Object" ∈ lw_all) (hj : G.2.1 + j = sz) (hcl : cells + 1 ≤ R.cells) (hsl : slots + nA ≤ R.slots) (d : decode cc pc = .ok (.anewarray index, 3)) (n : Nat) (hn : pc + 3 = n) (kk : Js p l e R s m args below meth c G nL Q (je_up σ j (.inl (G.2.2.1 4, nA, .inr (.inr (.inr (.inr (fun _ => none))))))) (sz + 1) (cells + 1) (slots + nA) n L (.ref (G.2.1 + j) :: st)) : Js p l e R s m args below meth c G nL Q σ sz cells slots pc L (.int x :: st) := by
  subst hn; subst hx
  intro H locs ls hW hS hl
  refine W.anew C.1 C.2.1 C.2.2.2.2.1 (C.2.2.2.1 _ hq) (va_AO.use C.2.2.2.2.2.2.2.2.2.2.2.2.2.2) rfl d rfl hx0 hb hcl hsl fun cA kA comp h1 h2 h3 h4 => ?_
  obtain ⟨kA9, comp9, -, -, -, g4⟩ := (C.2.2.2.2.2.2.2.1.1.2 4 _ rfl).2
  have hcA : cA = G.2.2.1 4 := Option.some.inj (h1.symm.trans g4)
  subst hcA
  have hsz : H.size = G.2.1 + j := by rw [hW.1, hj]
  rw [hsz]
  refine kk _ _ ls (hW.new hj ?_ (by rw [Array.size_push, hW.1]) (fun q hq2 => ?_)) (hS.new (by simp) (fun q hq2 => ?_)) hl
  · show (H.push _)[G.2.1 + j]? = some (vp_cell _ _)
    rw [← hsz, vp_cell_q, ← show arrV (G.2.2.1 4) x.toNatClampNeg (fun _ => Value.null) = arrV (G.2.2.1 4) x.toNatClampNeg (fun _ => va_rf none) from rfl, ← arrV_new]
    simp
  · rw [Array.getElem?_push, if_neg (by rw [hW.1]; exact Nat.ne_of_lt hq2)]
  · rw [Array.getElem?_push, if_neg (Nat.ne_of_lt hq2)]
theorem je_aast (C : Cx p s m args meth c G own cc nL rt) {j n0 jv ci : Nat} {V : Nat → Value} {r0 : vw_C} {f : Nat → Option Nat} {i : Int32} (he : σ j = some (.inl (G.2.2.1 4, n0, .inr (.inr (.inr (.inr f)))))) (hv : σ jv = some (.inr (ci, V))) (hc : vwCl[ci]? = some r0) (hca : Cond.castable r0.1 "java/lang/Object" ∈ lw_tbl) (hin : vp_in i n0) (d : decode cc pc = .ok (.aastore, 1)) (n : Nat) (hn : pc + 1 = n) (kk : Js p l e R s m args below meth c G nL Q (je_up σ j (.inl (G.2.2.1 4, n0, .inr (.inr (.inr (.inr (va_up f i.toNatClampNeg (some (G.2.1 + jv))))))))) sz cells slots n L st) : Js p l e R s m args below meth c G nL Q σ sz cells slots pc L (.ref (G.2.1 + jv) :: .int i :: .ref (G.2.1 + j) :: st) := by
  subst hn
  intro H locs ls hW hS hl
  have hlt : i.toNatClampNeg < n0 := Nat.not_le.mp fun q => hin (Or.inr q)
  have h0 : ¬ i < 0 := fun q => hin (Or.inl q)
  obtain ⟨r1, e1, cellV, g1, g2, g3, -⟩ := hW.2 jv _ hv
  have hr : r1 = r0 := Option.some.inj (e1.symm.trans hc)
  subst hr
  have hcl : s.vm.findClass r1.1 = some (G.1.1 ci) := (C.2.2.2.2.2.2.2.1.1.1 ci _ hc).2.1
  obtain ⟨kC, hkC, -⟩ := Vm.findClass_spec hcl
  obtain ⟨kA, comp, k1, k2, k3, -⟩ := (C.2.2.2.2.2.2.2.1.1.2 4 _ rfl).2
  obtain ⟨kE, hkE, -⟩ := Vm.findClass_spec k3
  refine W.aast C.1 C.2.1 (hW.2 j _ he) (fun q h => by cases h) (fun h => by cases h) k1 k2 rfl hkE ⟨h0, by show _ < (arrV _ _ _).slots.size; rw [arrV_size]; exact hlt⟩ g1 (fun q h => by rw [h] at g3; cases g3) (by rw [g2]; exact hkC) (by rw [g2]; exact vb_asgC (C.2.2.2.2.2.2.2.1.2.1 _ (nw_in hca rfl)) _ _ k3 hcl) rfl rfl d fun H1 e z oq => ?_
  refine kk H1 _ ls (hW.put ?_ z oq) (hS.put z oq (Nat.le_add_right _ _)) hl
  show H1[G.2.1 + j]? = some (vp_cell _ _)
  rw [e]
  show some ((vp_cell _ _).setSlot _ _) = _
  rw [vp_cell_q, vp_cell_q, arrV_store]
  congr 2
  funext q
  by_cases hq : q = i.toNatClampNeg
  · subst hq
    simp [updV, va_up, va_rf]
  · simp [updV, va_up, hq]
/-- a final field written, in a constructor -/
theorem je_putF (C : Cx p s m args meth c G own cc nL rt) (hI : meth.name = "<init>") {ref Cn : String} {T : u_T} {N ci index j k : Nat} {V : Nat → Value} (he : σ j = some (.inr (ci, V))) (hc : vwCl[ci]? = some (Cn, T, N)) (hin : ∀ w ∈ u_ws Cn T N, w ∈ lw_all) (ty0 : Nat → FieldType) (hty : ∀ k, k < N → parseFieldDescriptor (T k).2.2.1 = some (ty0 k)) (hnm : ∀ a, a < N → ∀ b, b < N → a ≠ b → (T a).2.1 ≠ (T b).2.1) (hk : k < N) (hq : Cond.fieldLink own index ref (T k).2.1 (T k).2.2.1 ∈ lw_all) (hsame : (T k).1 = ref) (hfin : (T k).2.2.2 = true) (hdecl : (T k).1 = own) {v : Value} (hn1 : narrow (ty0 k) v = v) (hfit : fits (ty0 k) v = true) (d : decode cc pc = .ok (.putfield index, 3)) (n : Nat) (hn : pc + 3 = n) (kk : Js p l e R s m args below meth c G nL Q (je_up σ j (.inr (ci, updV V k v))) sz cells slots n L st) : Js p l e R s m args below meth c G nL Q σ sz cells slots pc L (v :: .ref (G.2.1 + j) :: st) := by
  subst hn; subst hsame
  intro H locs ls hW hS hl
  have hap := je_ap C hin ty0 hty hnm hc
  obtain ⟨r0, h1, cell, q1, q2, q3, q4⟩ := hW.2 j _ he
  have hr : r0 = (Cn, T, N) := Option.some.inj (h1.symm.trans hc)
  subst hr
  obtain ⟨hSl, hfc, kC, hkC, hkind⟩ := C.2.2.2.2.2.2.2.1.1.1 ci _ hc
  obtain ⟨cf, kf, fi, f, hi, hsl⟩ := hSl k hk
  have hlay := C.2.2.2.1 _ (hin _ (u_in_lay hk))
  unfold u_lay at hlay
  rw [if_pos hfin] at hlay
  have hst := (u_facts hfc hkC (u_lays C.2.2.2.1 hin hk) hi).1
  have hcf : m.cls = cf := by
    obtain ⟨_, _, c', _, _, _, -, -, hf', -, -, -, hown2, -⟩ := Cond.laysFinal_spec hlay
    have e1 : c' = cf := by have := hi.symm.trans hf'; simp at this; exact this.1.symm
    rw [hdecl] at hown2
    rw [← e1]; exact Option.some.inj (C.2.2.2.2.1.symm.trans hown2)
  have h6 := u_fits hfc hkC hkind (Or.inr hlay) hi (hty k hk) hn1 hfit
  refine W.putFinK C.1 C.2.1 C.2.2.2.2.1 (C.2.2.2.1 _ hq) hi hst hcf hI (by rw [q2]; exact h6) q1 q3 (by rw [hsl]; exact k2_hasslot (q4 k hk)) rfl rfl d fun H' e1 e2 e3 => ?_
  rw [hsl] at e1 ⊢
  exact kk H' _ ls (hW.put ⟨_, hc, _, e1, q2, q3, t_set q4 hap hk v⟩ e2 e3) (hS.put e2 e3 (Nat.le_add_right _ _)) hl
variable {σ' : Nat → Option je_E} {sz' mc ms fr lo maxL : Nat} {y : MethodName} {bytes : ByteArray} {As rest : List Value}
theorem je_callI (C : Cx p s m args meth c G own cc nL rt) {index j nA : Nat} (hM : MetS l G y bytes maxL none fr lo mc ms (.ref (G.2.1 + j) :: As) σ sz none σ' sz') (hd : je_hd y nA) (hy1 : y.name = "<init>") (hw : Cond.methodLink own index y ∈ lw_all ∧ Cond.instanceMethod y ∈ lw_all ∧ Cond.initialized y.cls ∈ lw_all ∧ Cond.code y bytes maxL none ∈ lw_all) (hn2 : As.length = nA) (hR : fr + 1 ≤ R.frames ∧ 8 + (maxL + 11) + lo ≤ R.locals) (hf : cells + mc ≤ R.cells ∧ slots + ms ≤ R.slots) (hrm : (rest.map fun v => v.category).sum ≤ 8) (d : decode cc pc = .ok (.invokespecial index, 3)) (n : Nat) (hn : pc + 3 = n) (kk : Js p l e R s m args below meth c G nL Q σ' sz' (cells + mc) (slots + ms) n L rest) : Js p l e R s m args below meth c G nL Q σ sz cells slots pc L (As.reverse ++ .ref (G.2.1 + j) :: rest) :=
  je_call (o := none) (fun H locs ls hW hS hl => va_runI (As := As) (rest := rest) ⟨C.1, C.2.1, C.2.2.1, C.2.2.2.2.1, C.2.2.2.1⟩ hM (cwI nA C.2.2.2.1 (lw_meth hw.2.2.2) rfl rfl rfl (C.2.2.2.1 _ hw.2.2.1) (C.2.2.2.1 _ hw.1) (C.2.2.2.1 _ hw.2.1) hy1 hd hR) ⟨je_blind, fun U hU hW2 => ⟨rfl, by rw [hU]; exact hW, je_K.moved hW2.alike hW2 C.2.2.2.2.2.2.2.1, je_O.at (by rw [hU]; exact hS) hW2 C.2.2.2.2.2.2.2.2⟩⟩ rfl hn2 hl.1 rfl (lv_room hrm) d hf) n hn kk
theorem je_callIN (C : Cx p s m args meth c G own cc nL rt) {host : String} {index j nA : Nat} (hM : MetS l G y bytes maxL none fr lo mc ms (.ref (G.2.1 + j) :: As) σ sz none σ' sz') (hd : je_hd y nA) (hy1 : y.name = "<init>") (hw : Cond.methodLinkNest own index y host ∈ lw_tbl ∧ Cond.instanceMethod y ∈ lw_all ∧ Cond.initialized y.cls ∈ lw_all ∧ Cond.code y bytes maxL none ∈ lw_all) (hn2 : As.length = nA) (hR : fr + 1 ≤ R.frames ∧ 8 + (maxL + 11) + lo ≤ R.locals) (hf : cells + mc ≤ R.cells ∧ slots + ms ≤ R.slots) (hrm : (rest.map fun v => v.category).sum ≤ 8) (d : decode cc pc = .ok (.invokespecial index, 3)) (n : Nat) (hn : pc + 3 = n) (kk : Js p l e R s m args below meth c G nL Q σ' sz' (cells + mc) (slots + ms) n L rest) : Js p l e R s m args below meth c G nL Q σ sz cells slots pc L (As.reverse ++ .ref (G.2.1 + j) :: rest) :=
  je_call (o := none) (fun H locs ls hW hS hl => va_runIN (host := host) (As := As) (rest := rest) ⟨C.1, C.2.1, C.2.2.1, C.2.2.2.2.1, C.2.2.2.1⟩ hM ⟨va_cnB nA C.2.2.2.1 (lw_meth hw.2.2.2) rfl rfl rfl (C.2.2.2.2.2.2.2.1.2.1 _ (nw_in hw.1 rfl)) (C.2.2.2.1 _ hw.2.2.1) hd hR, hy1, C.2.2.2.1 _ hw.2.1⟩ ⟨je_blind, fun U hU hW2 => ⟨rfl, by rw [hU]; exact hW, je_K.moved hW2.alike hW2 C.2.2.2.2.2.2.2.1, je_O.at (by rw [hU]; exact hS) hW2 C.2.2.2.2.2.2.2.2⟩⟩ rfl hn2 hl.1 rfl (lv_room hrm) d hf) n hn kk
theorem je_obji (C : Cx p s m args meth c G own cc nL rt) {a index : Nat} (hw : Cond.methodLink own index Lib.objectInit ∈ lw_all ∧ Cond.instanceMethod Lib.objectInit ∈ lw_all ∧ Cond.code Lib.objectInit ⟨#[0xb1]⟩ 1 none ∈ lw_all) (hR : 1 ≤ R.frames ∧ 20 ≤ R.locals) (hrm : (st.map fun v => v.category).sum ≤ 8) (d : decode cc pc = .ok (.invokespecial index, 3)) (n : Nat) (hn : pc + 3 = n) (kk : Js p l e R s m args below meth c G nL Q σ sz cells slots n L st) : Js p l e R s m args below meth c G nL Q σ sz cells slots pc L (.ref a :: st) := by
  subst hn
  exact fun H locs ls hW hS hl => W.objInit C.1 C.2.1 C.2.2.2.2.1 (C.2.2.2.1 _ hw.1) (C.2.2.2.1 _ hw.2.1) (C.2.2.2.1 _ hw.2.2) rfl (hl.1.trans C.2.2.1.symm) rfl d hR.1 (by show 2 * 0 + _ + _ ≤ _; omega) (kk H locs ls hW hS hl)
theorem je_widen (k n : Nat) (h1 : cells ≤ k) (h2 : slots ≤ n) (kk : Js p l e R s m args below meth c G nL Q σ sz k n pc L st) : Js p l e R s m args below meth c G nL Q σ sz cells slots pc L st := fun H locs ls hW hS hl => W.widen h1 h2 (kk H locs ls hW hS hl)
theorem je_dupx1 (C : Cx p s m args meth c G own cc nL rt) {va vb : Value} (d : decode cc pc = .ok (.dup_x1, 1)) (hva : va.category = 1) (hvb : vb.category = 1) (n : Nat) (hn : pc + 1 = n) (kk : Js p l e R s m args below meth c G nL Q σ sz cells slots n L (va :: vb :: va :: st)) : Js p l e R s m args below meth c G nL Q σ sz cells slots pc L (va :: vb :: st) := by
  subst hn
  exact fun H locs ls hW hS hl => lv_dup_x1 C.1 C.2.1 d hva hvb (kk H locs ls hW hS hl)
variable {X : Type} {r : X}
theorem je_acmp_eq (C : Cx p s m args meth c G own cc nL rt) {x y : Option Nat} {off : Int} (tgt : Nat) (d : decode cc pc = .ok (.if_acmp .eq off, 3)) (n : Nat) (hn : pc + 3 = n) (ht : (pc : Int) + off = (tgt : Int)) {A B : Option X} (h : (if x = y then A else B) = some r) (kt : A = some r → Js p l e R s m args below meth c G nL Q σ sz cells slots tgt L st) (kf : B = some r → Js p l e R s m args below meth c G nL Q σ sz cells slots n L st) : Js p l e R s m args below meth c G nL Q σ sz cells slots pc L (va_rf y :: va_rf x :: st) := by
  subst hn
  refine fun H locs ls hW hS hl => lv_acmp_eq C.1 C.2.1 d ht (fun q => kt ?_ H locs ls hW hS hl) (fun q => kf ?_ H locs ls hW hS hl)
  · rw [if_pos q] at h; exact h
  · rw [if_neg q] at h; exact h
theorem je_acmp_ne (C : Cx p s m args meth c G own cc nL rt) {x y : Option Nat} {off : Int} (tgt : Nat) (d : decode cc pc = .ok (.if_acmp .ne off, 3)) (n : Nat) (hn : pc + 3 = n) (ht : (pc : Int) + off = (tgt : Int)) {A B : Option X} (h : (if x = y then B else A) = some r) (kt : A = some r → Js p l e R s m args below meth c G nL Q σ sz cells slots tgt L st) (kf : B = some r → Js p l e R s m args below meth c G nL Q σ sz cells slots n L st) : Js p l e R s m args below meth c G nL Q σ sz cells slots pc L (va_rf y :: va_rf x :: st) := by
  subst hn
  refine fun H locs ls hW hS hl => lv_acmp_ne C.1 C.2.1 d ht (fun q => kt ?_ H locs ls hW hS hl) (fun q => kf ?_ H locs ls hW hS hl)
  · rw [if_neg q] at h; exact h
  · rw [if_pos q] at h; exact h
theorem je_alenO (C : Cx p s m args meth c G own cc nL rt) {j n0 : Nat} {f : Nat → Option Nat} (he : σ j = some (.inl (G.2.2.1 4, n0, .inr (.inr (.inr (.inr f)))))) (d : decode cc pc = .ok (.arraylength, 1)) (n : Nat) (hn : pc + 1 = n) (kk : Js p l e R s m args below meth c G nL Q σ sz cells slots n L (.int (Int32.ofNat n0) :: st)) : Js p l e R s m args below meth c G nL Q σ sz cells slots pc L (.ref (G.2.1 + j) :: st) := by
  subst hn
  intro H locs ls hW hS hl
  exact W.alen (n := Int32.ofNat n0) C.1 C.2.1 (hW.2 j _ he) ((C.2.2.2.2.2.2.2.1.1.2 4 _ rfl).1 n0 (fun j => va_rf (f j))) (by show (vp_cell _ _).slots.size.toInt32 = _; rw [vp_cell_q, arrV_size] <;> rfl) rfl rfl d (kk H locs ls hW hS hl)
theorem je_alenE (C : Cx p s m args meth c G own cc nL rt) (d : decode cc pc = .ok (.arraylength, 1)) (n : Nat) (hn : pc + 1 = n) (kk : Js p l e R s m args below meth c G nL Q σ sz cells slots n L (.int (Int32.ofNat 0) :: st)) : Js p l e R s m args below meth c G nL Q σ sz cells slots pc L (.ref (G.2.2.2.1 6) :: st) := by
  subst hn
  exact fun H locs ls hW hS hl => va_tlen C.1 C.2.1 C.2.2.2.2.2.2.2.2.2.2.2.1 hS rfl d (kk H locs ls hW hS hl)
theorem je_ldcM (C : Cx p s m args meth c G own cc nL rt) {index : Nat} (hq : Cond.classLink own index "[Ljava/lang/Object;" ∈ lw_all) (d : decode cc pc = .ok (.ldc index, 2)) (n : Nat) (hn : pc + 2 = n) (kk : Js p l e R s m args below meth c G nL Q σ sz cells slots n L (.ref (G.2.2.2.1 7) :: st)) : Js p l e R s m args below meth c G nL Q σ sz cells slots pc L st := by
  subst hn
  exact fun H locs ls hW hS hl => va_ldcM C.1 C.2.1 C.2.2.2.2.1 (C.2.2.2.1 _ hq) C.2.2.2.2.2.2.2.2.2.2.2.2.1 d (kk H locs ls hW hS hl)


end JH
/-- a contract out of a walk, of a constructor -/
theorem je_metI {l : Launch} {G : je_G} {y : MethodName} {cc : ByteArray} {nL : Nat} {ret : Option FieldType} {fr lo mc ms : Nat} {av : List Value} {σ σ' : Nat → Option je_E} {sz sz' : Nat} {o : Option Value} (own : String) (hcls : y.cls = own) (hy : plainName y.cls = true) (hyn : y.name = "<init>") (hn : (lg_sl av).length ≤ nL) (L0 : List (Nat × Value)) (hL0 : lv_args 0 av = L0)
    (body : ∀ (p : Program) (e : Env) (s : State) (m : MethodId) (args : Array Value) (below : List Frame) (meth : Method) (c : Code), Cx p s m args meth c G own cc nL ret → meth.name = "<init>" → Js p l e ({ frames := fr, cells := mc, slots := ms, locals := lo }) s m args below meth c G nL (MQ below (je_Q G o σ' sz') args s mc ms (je_A G)) σ sz 0 0 0 L0 []) : MetS l G y cc nL ret fr lo mc ms av σ sz o σ' sz' := by
  refine Met.ofW (cc := cc) (maxL := nL) (ret := ret) hy rfl ?_
  intro p e s m args below meth c s₁ B hml hv
  obtain ⟨rfl, hW, hK, hO⟩ := hv
  have hts := atoms_spec (ws := ws_ y cc nL ret) B.pre
  have hts : ∀ w ∈ lw_all, w.before _ s = true := fun w h => hts w (List.mem_cons_of_mem _ h)
  have hown : s.vm.findClass own = some m.cls := by rw [← hcls]; exact findClass_of_methodNamed B.named
  have hl := lv_entry av (n := nL) hn
  rw [lg_entry_eq]
  rw [hL0] at hl
  exact body p e s m _ below meth c ⟨B.exec, B.bytes, hml, hts, hown, B.returns, B.notSynchronized, hK, hO⟩ ((name_of_methodNamed B.named B.method).1.trans hyn) s.heap [] _ hW va_S.rf hl

