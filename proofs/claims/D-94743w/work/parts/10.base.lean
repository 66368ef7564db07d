/-! OUR OWN: an abstract store, a judgement over it (Js), its rows out of the kit's rows, one contract form (MetS). Printed by gen/mkbase.py -/
set_option maxRecDepth 100000
/-- the words that don't ride in the lists -/
def nw_ok : Cond → Bool
  | .fieldLinkNest _ _ _ _ _ _ => true
  | .methodLinkNest _ _ _ _ => true
  | .castable _ _ => true
  | .declares _ => true
  | _ => false
def nw_tbl : List Cond := lw_tbl.filter nw_ok
theorem nw_in {w : Cond} (h : w ∈ lw_tbl) (g : nw_ok w = true) : w ∈ nw_tbl := List.mem_filter.mpr ⟨h, g⟩
theorem nw_moved {w : Cond} {u U : State} (hW : u.WarmedH U.vm) (h : w ∈ nw_tbl) (hZ : va_Nw w u) : va_Nw w U := by
  have h2 := (List.mem_filter.mp h).2
  cases w with
  | fieldLinkNest a i b n d h0 => exact va_Nw.warmF hW hZ
  | methodLinkNest a i x h0 => exact va_Nw.warmM hW hZ
  | castable C T => exact va_Nw.warmC hW hZ
  | declares x => exact va_Nw.warmD hW hZ
  | _ => exact absurd h2 (by simp [nw_ok])
theorem nw_calling {w : Cond} {U : State} {g : JFrame} {mk : MethodId} {a : Array Value} (h : w ∈ nw_tbl) (hZ : va_Nw w U) : va_Nw w (U.calling g mk a) := by
  have h2 := (List.mem_filter.mp h).2
  cases w with
  | fieldLinkNest a i b n d h0 => exact va_Nw.same rfl rfl hZ
  | methodLinkNest a i x h0 => exact va_Nw.same rfl rfl hZ
  | castable C T => exact va_Nw.same rfl rfl hZ
  | declares x => exact va_Nw.same rfl rfl hZ
  | _ => exact absurd h2 (by simp [nw_ok])
abbrev je_E : Type := (ClassId × vp_A) ⊕ (Nat × (Nat → Value))
/-- class numbers, field slots; the base address; the array classes: 0 int, 1 long, 2 boolean, 3 byte, 4 Object; old cells: 0, 1, 2 the String constants, 3, 4, 5 their bytes, 6 ArrayList's empty array, 7 the mirror; statics that may be null -/
abbrev je_G : Type := va_G × Nat × (Nat → ClassId) × (Nat → Nat) × (Nat → Option Nat)
def je_at (D : va_G) (a : Nat) (x : je_E) (H : Heap) : Prop := match x with
  | .inl y => H[a]? = some (vp_cell y.1 y.2)
  | .inr o => ∃ r : vw_C, vwCl[o.1]? = some r ∧ t_OB a (D.1 o.1) r.2.2 (D.2 o.1) H o.2
theorem je_at.kept {D : va_G} {a : Nat} {x : je_E} {H H1 : Heap} (h : je_at D a x H) (hq : H1[a]? = H[a]?) : je_at D a x H1 := by
  cases x with
  | inl y => exact hq.trans h
  | inr o =>
    obtain ⟨r, h1, h2⟩ := h
    exact ⟨r, h1, h2.kept hq⟩
def je_A (G : je_G) : Nat → Prop := fun q => G.2.1 ≤ q
/-- the store: what stands at base + j -/
def Wd (G : je_G) (σ : Nat → Option je_E) (sz : Nat) (H : Heap) : Prop := H.size = sz ∧ ∀ j x, σ j = some x → je_at G.1 (G.2.1 + j) x H
def je_tys (G : je_G) : List (ClassId × FieldType) := [(G.2.2.1 0, .int), (G.2.2.1 1, .long), (G.2.2.1 2, .boolean), (G.2.2.1 3, .byte), (G.2.2.1 4, .object "java/lang/Object")]
/-- what the tables say, all through a run: classes; the words that don't ride in the lists -/
def jn_x : MethodName := ⟨"MinistryDesks$Node", "value", "(LMinistryDesks$Scene;)J"⟩
/-- the sums' classes behind the interface -/
def jn_F (U : State) : Prop := va_Fw RX15 jn_x ⟨RX15, "value", "(LMinistryDesks$Scene;)J"⟩ U ∧ va_Fw RX14 jn_x ⟨RX14, "value", "(LMinistryDesks$Scene;)J"⟩ U ∧ va_Fw RX19 jn_x ⟨RX19, "value", "(LMinistryDesks$Scene;)J"⟩ U ∧ va_Fw RX20 jn_x ⟨RX16, "value", "(LMinistryDesks$Scene;)J"⟩ U ∧ va_Fw RX18 jn_x ⟨RX16, "value", "(LMinistryDesks$Scene;)J"⟩ U ∧ va_Fw RX17 jn_x ⟨RX16, "value", "(LMinistryDesks$Scene;)J"⟩ U
theorem jn_F.moved {u U : State} (hvm : u.vm.Alike U.vm) (h : jn_F u) : jn_F U := by
  have hx : jn_x.cls ≠ "java/lang/invoke/MethodHandle" ∧ jn_x.cls ≠ "java/lang/invoke/VarHandle" := by decide +kernel
  obtain ⟨h1, h2, h3, h4, h5, h6⟩ := h
  exact ⟨h1.moved hx hvm, h2.moved hx hvm, h3.moved hx hvm, h4.moved hx hvm, h5.moved hx hvm, h6.moved hx hvm⟩
def je_K (G : je_G) (U : State) : Prop := va_K G.1 vwCl (je_tys G) U ∧ (∀ w ∈ nw_tbl, va_Nw w U) ∧ jn_F U
def lenS : List Nat := [107, 7, 108]
def bytS : List (List Int32) := [[100, 101, 115, 107, 32, 97, 115, 107, 115, 32, 102, 97, 99, 116, 32, 99, 111, 109, 101, 115, 32, 113, 117, 101, 115, 116, 105, 111, 110, 32, 102, 105, 114, 101, 32, 112, 97, 116, 105, 101, 110, 99, 101, 32, 108, 97, 119, 32, 109, 97, 121, 32, 107, 101, 101, 112, 32, 119, 97, 110, 116, 32, 97, 110, 100, 32, 111, 114, 32, 110, 111, 116, 32, 104, 101, 108, 100, 32, 108, 101, 102, 116, 32, 119, 111, 114, 116, 104, 32, 111, 116, 104, 101, 114, 115, 32, 97, 115, 107, 101, 100, 32, 102, 114, 101, 115, 104], [43, 45, 42, 47, 40, 41, 59], [100, 101, 115, 107, 32, 97, 115, 107, 115, 32, 102, 97, 99, 116, 32, 99, 111, 109, 101, 115, 32, 113, 117, 101, 115, 116, 105, 111, 110, 32, 102, 105, 114, 101, 32, 112, 97, 116, 105, 101, 110, 99, 101, 32, 108, 97, 119, 32, 109, 97, 121, 32, 107, 101, 101, 112, 32, 119, 97, 110, 116, 32, 111, 114, 32, 97, 110, 100, 32, 110, 111, 116, 32, 104, 101, 108, 100, 32, 108, 101, 102, 116, 32, 119, 111, 114, 116, 104, 32, 111, 116, 104, 101, 114, 115, 32, 97, 115, 107, 101, 100, 32, 102, 114, 101, 115, 104, 32]]
def txS : Nat → String
  | 0 => "desk asks fact comes question fire patience law may keep want and or not held left worth others asked fresh"
  | 1 => "+-*/();"
  | _ => "desk asks fact comes question fire patience law may keep want or and not held left worth others asked fresh "
/-- old cells that are never written: the String constants, statics, the mirror of Object[] -/
def je_O (G : je_G) (U : State) : Prop :=
  vk_S 3 lenS bytS (fun i => G.2.2.2.1 i) (fun i => G.2.2.2.1 (3 + i)) (je_A G) U U.heap ∧
  (vk_R "MinistryDesks$Reader" 69 (txS 0) (G.2.2.2.1 0) U ∧ vk_R "MinistryDesks$Reader" 90 (txS 1) (G.2.2.2.1 1) U ∧ vk_R "MinistryDesksModel" 208 (txS 2) (G.2.2.2.1 2) U) ∧
  (va_Z "java/lang/String" "COMPACT_STRINGS" "Z" (.int 1) (je_A G) U U.heap ∧ va_Z "jdk/internal/util/Preconditions" "SIOOBE_FORMATTER" "Ljava/util/function/BiFunction;" (va_rf (G.2.2.2.2 2)) (je_A G) U U.heap ∧
    va_Z "java/util/ArrayList" "DEFAULTCAPACITY_EMPTY_ELEMENTDATA" "[Ljava/lang/Object;" (.ref (G.2.2.2.1 6)) (je_A G) U U.heap ∧
    va_Z "java/lang/Throwable" "UNASSIGNED_STACK" "[Ljava/lang/StackTraceElement;" (va_rf (G.2.2.2.2 0)) (je_A G) U U.heap ∧ va_Z "java/lang/Throwable" "SUPPRESSED_SENTINEL" "Ljava/util/List;" (va_rf (G.2.2.2.2 1)) (je_A G) U U.heap) ∧
  va_T (.object "java/lang/Object") (G.2.2.2.1 6) 0 (fun _ => .null) (je_A G) U U.heap ∧
  va_Mi "[Ljava/lang/Object;" (G.2.2.2.1 7) U ∧ va_Dc U ∧ va_AO "java/lang/Object" U
theorem je_O.to {G : je_G} {s U : State} (hs : s.heap.size ≤ U.heap.size ∧ ∀ q : Nat, q < s.heap.size → ¬ je_A G q → U.heap[q]? = s.heap[q]?) (hvm : s.vm.Alike U.vm) (hr : ∀ own k tx a, vk_R own k tx a s → vk_R own k tx a U) (h : je_O G s) : je_O G U := by
  obtain ⟨h1, ⟨r1, r2, r3⟩, ⟨z1, z2, z3, z4, z5⟩, t1, m1, m2, m3⟩ := h
  exact ⟨vk_S.moved hvm (h1.kept hs.2), ⟨hr _ _ _ _ r1, hr _ _ _ _ r2, hr _ _ _ _ r3⟩, ⟨va_Z.moved hvm (z1.kept hs.2), va_Z.moved hvm (z2.kept hs.2), va_Z.moved hvm (z3.kept hs.2), va_Z.moved hvm (z4.kept hs.2), va_Z.moved hvm (z5.kept hs.2)⟩, va_T.moved hvm (t1.kept hs.2), va_Mi.moved hvm m1, va_Dc.moved hvm m2, va_AO.moved hvm m3⟩
theorem je_O.at {G : je_G} {s U : State} {locs : List Loc} (hS : va_S (je_A G) s.heap U.heap locs) (hW : s.WarmedH U.vm) (h : je_O G s) : je_O G U := h.to ⟨hS.1, hS.2.1⟩ hW.alike (fun _ _ _ _ q => q.warm hW)
def je_up (σ : Nat → Option je_E) (j : Nat) (x : je_E) : Nat → Option je_E := fun q => if q = j then some x else σ q
theorem Wd.put {G : je_G} {σ : Nat → Option je_E} {sz : Nat} {H H1 : Heap} {j : Nat} {x : je_E} (h : Wd G σ sz H) (hx : je_at G.1 (G.2.1 + j) x H1) (z : H1.size = H.size) (oq : ∀ q : Nat, q ≠ G.2.1 + j → H1[q]? = H[q]?) : Wd G (je_up σ j x) sz H1 := by
  refine ⟨z.trans h.1, fun q y hq => ?_⟩
  unfold je_up at hq
  by_cases hj : q = j
  · rw [if_pos hj] at hq
    cases hq
    rw [hj]
    exact hx
  · rw [if_neg hj] at hq
    exact (h.2 q y hq).kept (oq _ (by omega))
theorem Wd.eq {G : je_G} {σ σ' : Nat → Option je_E} {sz : Nat} {H : Heap} (h : Wd G σ sz H) (e : σ = σ') : Wd G σ' sz H := e ▸ h
/-- a method's context -/
def Cx (p : Program) (s : State) (m : MethodId) (args : Array Value) (meth : Method) (c : Code) (G : je_G) (own : String) (cc : ByteArray) (nL : Nat) (rt : Option FieldType) : Prop :=
  p.tables.exec = Jvm.exec ∧ c.code = cc ∧ c.maxLocals = nL ∧ (∀ w ∈ lw_all, w.before args s = true) ∧ s.vm.findClass own = some m.cls ∧ meth.sig.returnType = rt ∧ meth.locks = false ∧ je_K G s ∧ je_O G s
def Js (p : Program) (l : Launch) (e : Env) (R : Room) (s : State) (m : MethodId) (args : Array Value) (below : List Frame) (meth : Method) (c : Code) (G : je_G) (nL : Nat) (Q : State → Prop) (σ : Nat → Option je_E) (sz cells slots pc : Nat) (L : List (Nat × Value)) (st : List Value) : Prop :=
  ∀ (H : Heap) (locs : List Loc) (ls : Array Slot), Wd G σ sz H → va_S (je_A G) s.heap H locs → lv_has ls nL L → W p l e R s m args below meth c H locs cells slots Q (F0 m pc ls st)
def je_Q (G : je_G) (o : Option Value) (σ : Nat → Option je_E) (sz : Nat) : Array Value → State → Outcome → State → Prop := fun _ st oc t => oc = .returned o ∧ Wd G σ sz t.heap ∧ va_F (je_A G) st t
def je_P (G : je_G) (σ : Nat → Option je_E) (sz : Nat) (av : List Value) : Array Value → State → Prop := va_Pc av (fun U => Wd G σ sz U.heap ∧ je_K G U ∧ je_O G U)
/-- a contract: from the store σ the method returns o, and the store is σ' -/
def MetS (l : Launch) (G : je_G) (y : MethodName) (cc : ByteArray) (nL : Nat) (rt : Option FieldType) (fr lo mc ms : Nat) (av : List Value) (σ : Nat → Option je_E) (sz : Nat) (o : Option Value) (σ' : Nat → Option je_E) (sz' : Nat) : Prop :=
  Met l y (ws_ y cc nL rt) ({ frames := fr, cells := mc, slots := ms, locals := lo }) (je_P G σ sz av) (je_Q G o σ' sz') mc ms (je_A G)
theorem je_K.moved {G : je_G} {u U : State} (hvm : u.vm.Alike U.vm) (hw : u.WarmedH U.vm) (h : je_K G u) : je_K G U := ⟨va_K.moved hvm h.1, fun w hw' => nw_moved hw hw' (h.2.1 w hw'), h.2.2.moved hvm⟩
theorem je_blind {G : je_G} {σ : Nat → Option je_E} {sz : Nat} {av : List Value} : FrameBlind (je_P G σ sz av) := fun a U g mk q => by
  obtain ⟨q0, q1, ⟨q2, q3⟩, q4⟩ := q
  exact ⟨q0, q1, ⟨va_K.moved (u := U) (U := U.calling g mk a) (Vm.Alike.refl U.vm) q2, fun w hw => nw_calling hw (q3.1 w hw), jn_F.moved (u := U) (U := U.calling g mk a) (Vm.Alike.refl U.vm) q3.2⟩, je_O.to (s := U) (U := U.calling g mk a) ⟨Nat.le_refl _, fun _ _ _ => rfl⟩ (Vm.Alike.refl U.vm) (fun _ _ _ _ q => vk_R.same rfl q) q4⟩

section JE
variable {p : Program} {l : Launch} {e : Env} {R : Room} {s : State} {m : MethodId} {args : Array Value} {below : List Frame} {meth : Method} {c : Code} {Q : State → Prop} {G : je_G} {own : String} {cc : ByteArray} {nL : Nat} {rt : Option FieldType} {σ : Nat → Option je_E} {sz cells slots pc : Nat} {L L' : List (Nat × Value)} {st : List Value}
theorem je_iconst (C : Cx p s m args meth c G own cc nL rt) {i : Int} (v : Int32) (d : decode cc pc = .ok (.iconst i, 1)) (n : Nat) (hn : pc + 1 = n) (hv : Int32.ofInt i = v) (k : Js p l e R s m args below meth c G nL Q σ sz cells slots n L (.int v :: st)) : Js p l e R s m args below meth c G nL Q σ sz cells slots pc L st := by
  subst hn
  exact fun H locs ls hW hS hl => lv_iconst C.1 C.2.1 d hv (k H locs ls hW hS hl)
theorem je_bipush (C : Cx p s m args meth c G own cc nL rt) {i : Int} (v : Int32) (d : decode cc pc = .ok (.bipush i, 2)) (n : Nat) (hn : pc + 2 = n) (hv : (Int8.ofInt i).toInt32 = v) (k : Js p l e R s m args below meth c G nL Q σ sz cells slots n L (.int v :: st)) : Js p l e R s m args below meth c G nL Q σ sz cells slots pc L st := by
  subst hn
  exact fun H locs ls hW hS hl => lv_bipush C.1 C.2.1 d hv (k H locs ls hW hS hl)
theorem je_sipush (C : Cx p s m args meth c G own cc nL rt) {i : Int} (v : Int32) (d : decode cc pc = .ok (.sipush i, 3)) (n : Nat) (hn : pc + 3 = n) (hv : (Int16.ofInt i).toInt32 = v) (k : Js p l e R s m args below meth c G nL Q σ sz cells slots n L (.int v :: st)) : Js p l e R s m args below meth c G nL Q σ sz cells slots pc L st := by
  subst hn
  exact fun H locs ls hW hS hl => lv_sipush C.1 C.2.1 d hv (k H locs ls hW hS hl)
theorem je_lconst (C : Cx p s m args meth c G own cc nL rt) {i : Fin 2} (v : Int64) (d : decode cc pc = .ok (.lconst i, 1)) (n : Nat) (hn : pc + 1 = n) (hv : Int64.ofNat (i : Nat) = v) (k : Js p l e R s m args below meth c G nL Q σ sz cells slots n L (.long v :: st)) : Js p l e R s m args below meth c G nL Q σ sz cells slots pc L st := by
  subst hn
  exact fun H locs ls hW hS hl => lv_lconst C.1 C.2.1 d hv (k H locs ls hW hS hl)
theorem je_iload_n (C : Cx p s m args meth c G own cc nL rt) {k : Fin 4} {x : Int32} (d : decode cc pc = .ok (.iload_n k, 1)) (n : Nat) (hn : pc + 1 = n) (q : Nat) (hl0 : L[q]? = some ((k : Nat), .int x)) (kk : Js p l e R s m args below meth c G nL Q σ sz cells slots n L (.int x :: st)) : Js p l e R s m args below meth c G nL Q σ sz cells slots pc L st := by
  subst hn
  exact fun H locs ls hW hS hl => lv_iload_n C.1 C.2.1 d rfl (lv_at hl q hl0) (kk H locs ls hW hS hl)
theorem je_iload (C : Cx p s m args meth c G own cc nL rt) {i : Nat} {x : Int32} (d : decode cc pc = .ok (.iload i, 2)) (n : Nat) (hn : pc + 2 = n) (q : Nat) (hl0 : L[q]? = some (i, .int x)) (kk : Js p l e R s m args below meth c G nL Q σ sz cells slots n L (.int x :: st)) : Js p l e R s m args below meth c G nL Q σ sz cells slots pc L st := by
  subst hn
  exact fun H locs ls hW hS hl => lv_iload C.1 C.2.1 d (lv_at hl q hl0) (kk H locs ls hW hS hl)
theorem je_lload_n (C : Cx p s m args meth c G own cc nL rt) {k : Fin 4} {x : Int64} (d : decode cc pc = .ok (.lload_n k, 1)) (n : Nat) (hn : pc + 1 = n) (q : Nat) (hl0 : L[q]? = some ((k : Nat), .long x)) (kk : Js p l e R s m args below meth c G nL Q σ sz cells slots n L (.long x :: st)) : Js p l e R s m args below meth c G nL Q σ sz cells slots pc L st := by
  subst hn
  exact fun H locs ls hW hS hl => lv_lload_n C.1 C.2.1 d rfl (lv_at hl q hl0) (kk H locs ls hW hS hl)
theorem je_lload (C : Cx p s m args meth c G own cc nL rt) {i : Nat} {x : Int64} (d : decode cc pc = .ok (.lload i, 2)) (n : Nat) (hn : pc + 2 = n) (q : Nat) (hl0 : L[q]? = some (i, .long x)) (kk : Js p l e R s m args below meth c G nL Q σ sz cells slots n L (.long x :: st)) : Js p l e R s m args below meth c G nL Q σ sz cells slots pc L st := by
  subst hn
  exact fun H locs ls hW hS hl => lv_lload C.1 C.2.1 d (lv_at hl q hl0) (kk H locs ls hW hS hl)
theorem je_aload_n (C : Cx p s m args meth c G own cc nL rt) {k : Fin 4} {x : Nat} (d : decode cc pc = .ok (.aload_n k, 1)) (n : Nat) (hn : pc + 1 = n) (q : Nat) (hl0 : L[q]? = some ((k : Nat), .ref x)) (kk : Js p l e R s m args below meth c G nL Q σ sz cells slots n L (.ref x :: st)) : Js p l e R s m args below meth c G nL Q σ sz cells slots pc L st := by
  subst hn
  exact fun H locs ls hW hS hl => lv_aload_n C.1 C.2.1 d rfl (lv_at hl q hl0) (kk H locs ls hW hS hl)
theorem je_aload (C : Cx p s m args meth c G own cc nL rt) {i : Nat} {x : Nat} (d : decode cc pc = .ok (.aload i, 2)) (n : Nat) (hn : pc + 2 = n) (q : Nat) (hl0 : L[q]? = some (i, .ref x)) (kk : Js p l e R s m args below meth c G nL Q σ sz cells slots n L (.ref x :: st)) : Js p l e R s m args below meth c G nL Q σ sz cells slots pc L st := by
  subst hn
  exact fun H locs ls hW hS hl => lv_aload C.1 C.2.1 d (lv_at hl q hl0) (kk H locs ls hW hS hl)
theorem je_istore_n (C : Cx p s m args meth c G own cc nL rt) {k : Fin 4} {x : Int32} (d : decode cc pc = .ok (.istore_n k, 1)) (n : Nat) (hn : pc + 1 = n) (hi : (k : Nat) < nL) (L2 : List (Nat × Value)) (hl0 : ((k : Nat), .int x) :: L.filter (fun q => !(q.1 == (k : Nat)) && !(q.1 + 1 == (k : Nat) && q.2.category == 2)) = L2) (kk : Js p l e R s m args below meth c G nL Q σ sz cells slots n L2 st) : Js p l e R s m args below meth c G nL Q σ sz cells slots pc L (.int x :: st) := by
  subst hn
  exact fun H locs ls hW hS hl => lv_istore_n C.1 C.2.1 d rfl hl hi hl0 (fun ls2 hl2 => kk H locs ls2 hW hS hl2)
theorem je_istore (C : Cx p s m args meth c G own cc nL rt) {i : Nat} {x : Int32} (d : decode cc pc = .ok (.istore i, 2)) (n : Nat) (hn : pc + 2 = n) (hi : i < nL) (L2 : List (Nat × Value)) (hl0 : (i, .int x) :: L.filter (fun q => !(q.1 == i) && !(q.1 + 1 == i && q.2.category == 2)) = L2) (kk : Js p l e R s m args below meth c G nL Q σ sz cells slots n L2 st) : Js p l e R s m args below meth c G nL Q σ sz cells slots pc L (.int x :: st) := by
  subst hn
  exact fun H locs ls hW hS hl => lv_istore C.1 C.2.1 d hl hi hl0 (fun ls2 hl2 => kk H locs ls2 hW hS hl2)
theorem je_lstore_n (C : Cx p s m args meth c G own cc nL rt) {k : Fin 4} {x : Int64} (d : decode cc pc = .ok (.lstore_n k, 1)) (n : Nat) (hn : pc + 1 = n) (hi : (k : Nat) + 1 < nL) (L2 : List (Nat × Value)) (hl0 : ((k : Nat), .long x) :: L.filter (fun q => !(q.1 == (k : Nat)) && (!(q.1 == (k : Nat) + 1) && !(q.1 + 1 == (k : Nat) && q.2.category == 2))) = L2) (kk : Js p l e R s m args below meth c G nL Q σ sz cells slots n L2 st) : Js p l e R s m args below meth c G nL Q σ sz cells slots pc L (.long x :: st) := by
  subst hn
  exact fun H locs ls hW hS hl => lv_lstore_n C.1 C.2.1 d rfl hl hi hl0 (fun ls2 hl2 => kk H locs ls2 hW hS hl2)
theorem je_lstore (C : Cx p s m args meth c G own cc nL rt) {i : Nat} {x : Int64} (d : decode cc pc = .ok (.lstore i, 2)) (n : Nat) (hn : pc + 2 = n) (hi : i + 1 < nL) (L2 : List (Nat × Value)) (hl0 : (i, .long x) :: L.filter (fun q => !(q.1 == i) && (!(q.1 == i + 1) && !(q.1 + 1 == i && q.2.category == 2))) = L2) (kk : Js p l e R s m args below meth c G nL Q σ sz cells slots n L2 st) : Js p l e R s m args below meth c G nL Q σ sz cells slots pc L (.long x :: st) := by
  subst hn
  exact fun H locs ls hW hS hl => lv_lstore C.1 C.2.1 d hl hi hl0 (fun ls2 hl2 => kk H locs ls2 hW hS hl2)
theorem je_astore_n (C : Cx p s m args meth c G own cc nL rt) {k : Fin 4} {x : Nat} (d : decode cc pc = .ok (.astore_n k, 1)) (n : Nat) (hn : pc + 1 = n) (hi : (k : Nat) < nL) (L2 : List (Nat × Value)) (hl0 : ((k : Nat), .ref x) :: L.filter (fun q => !(q.1 == (k : Nat)) && !(q.1 + 1 == (k : Nat) && q.2.category == 2)) = L2) (kk : Js p l e R s m args below meth c G nL Q σ sz cells slots n L2 st) : Js p l e R s m args below meth c G nL Q σ sz cells slots pc L (.ref x :: st) := by
  subst hn
  exact fun H locs ls hW hS hl => lv_astore_n C.1 C.2.1 d rfl hl hi hl0 (fun ls2 hl2 => kk H locs ls2 hW hS hl2)
theorem je_astore (C : Cx p s m args meth c G own cc nL rt) {i : Nat} {x : Nat} (d : decode cc pc = .ok (.astore i, 2)) (n : Nat) (hn : pc + 2 = n) (hi : i < nL) (L2 : List (Nat × Value)) (hl0 : (i, .ref x) :: L.filter (fun q => !(q.1 == i) && !(q.1 + 1 == i && q.2.category == 2)) = L2) (kk : Js p l e R s m args below meth c G nL Q σ sz cells slots n L2 st) : Js p l e R s m args below meth c G nL Q σ sz cells slots pc L (.ref x :: st) := by
  subst hn
  exact fun H locs ls hW hS hl => lv_astore C.1 C.2.1 d hl hi hl0 (fun ls2 hl2 => kk H locs ls2 hW hS hl2)
theorem je_iinc (C : Cx p s m args meth c G own cc nL rt) {i : Nat} {z : Int} {x : Int32} (v : Int32) (d : decode cc pc = .ok (.iinc i z, 3)) (n : Nat) (hn : pc + 3 = n) (q : Nat) (hl0 : L[q]? = some (i, .int x)) (hv : Int32.ofInt z = v) (hi : i < nL) (L2 : List (Nat × Value)) (hl1 : (i, Value.int (x + v)) :: L.filter (fun q => !(q.1 == i) && !(q.1 + 1 == i && q.2.category == 2)) = L2) (kk : Js p l e R s m args below meth c G nL Q σ sz cells slots n L2 st) : Js p l e R s m args below meth c G nL Q σ sz cells slots pc L st := by
  subst hn; subst hv
  exact fun H locs ls hW hS hl => lv_iinc C.1 C.2.1 d hl hl0 rfl hi hl1 (fun ls2 hl2 => kk H locs ls2 hW hS hl2)
theorem je_iadd (C : Cx p s m args meth c G own cc nL rt) {x y : Int32} (d : decode cc pc = .ok (.iadd, 1)) (n : Nat) (hn : pc + 1 = n) (k : Js p l e R s m args below meth c G nL Q σ sz cells slots n L (.int (x + y) :: st)) : Js p l e R s m args below meth c G nL Q σ sz cells slots pc L (.int y :: .int x :: st) := by
  subst hn
  exact fun H locs ls hW hS hl => lv_iadd C.1 C.2.1 d (k H locs ls hW hS hl)
theorem je_isub (C : Cx p s m args meth c G own cc nL rt) {x y : Int32} (d : decode cc pc = .ok (.isub, 1)) (n : Nat) (hn : pc + 1 = n) (k : Js p l e R s m args below meth c G nL Q σ sz cells slots n L (.int (x - y) :: st)) : Js p l e R s m args below meth c G nL Q σ sz cells slots pc L (.int y :: .int x :: st) := by
  subst hn
  exact fun H locs ls hW hS hl => lv_isub C.1 C.2.1 d (k H locs ls hW hS hl)
theorem je_imul (C : Cx p s m args meth c G own cc nL rt) {x y : Int32} (d : decode cc pc = .ok (.imul, 1)) (n : Nat) (hn : pc + 1 = n) (k : Js p l e R s m args below meth c G nL Q σ sz cells slots n L (.int (x * y) :: st)) : Js p l e R s m args below meth c G nL Q σ sz cells slots pc L (.int y :: .int x :: st) := by
  subst hn
  exact fun H locs ls hW hS hl => lv_imul C.1 C.2.1 d (k H locs ls hW hS hl)
theorem je_iand (C : Cx p s m args meth c G own cc nL rt) {x y : Int32} (d : decode cc pc = .ok (.iand, 1)) (n : Nat) (hn : pc + 1 = n) (k : Js p l e R s m args below meth c G nL Q σ sz cells slots n L (.int (x &&& y) :: st)) : Js p l e R s m args below meth c G nL Q σ sz cells slots pc L (.int y :: .int x :: st) := by
  subst hn
  exact fun H locs ls hW hS hl => lv_iand C.1 C.2.1 d (k H locs ls hW hS hl)
theorem je_ior (C : Cx p s m args meth c G own cc nL rt) {x y : Int32} (d : decode cc pc = .ok (.ior, 1)) (n : Nat) (hn : pc + 1 = n) (k : Js p l e R s m args below meth c G nL Q σ sz cells slots n L (.int (x ||| y) :: st)) : Js p l e R s m args below meth c G nL Q σ sz cells slots pc L (.int y :: .int x :: st) := by
  subst hn
  exact fun H locs ls hW hS hl => lv_ior C.1 C.2.1 d (k H locs ls hW hS hl)
theorem je_ixor (C : Cx p s m args meth c G own cc nL rt) {x y : Int32} (d : decode cc pc = .ok (.ixor, 1)) (n : Nat) (hn : pc + 1 = n) (k : Js p l e R s m args below meth c G nL Q σ sz cells slots n L (.int (x ^^^ y) :: st)) : Js p l e R s m args below meth c G nL Q σ sz cells slots pc L (.int y :: .int x :: st) := by
  subst hn
  exact fun H locs ls hW hS hl => lv_ixor C.1 C.2.1 d (k H locs ls hW hS hl)
theorem je_ishl (C : Cx p s m args meth c G own cc nL rt) {x y : Int32} (d : decode cc pc = .ok (.ishl, 1)) (n : Nat) (hn : pc + 1 = n) (k : Js p l e R s m args below meth c G nL Q σ sz cells slots n L (.int (x <<< (y &&& 31)) :: st)) : Js p l e R s m args below meth c G nL Q σ sz cells slots pc L (.int y :: .int x :: st) := by
  subst hn
  exact fun H locs ls hW hS hl => lv_ishl C.1 C.2.1 d (k H locs ls hW hS hl)
theorem je_ishr (C : Cx p s m args meth c G own cc nL rt) {x y : Int32} (d : decode cc pc = .ok (.ishr, 1)) (n : Nat) (hn : pc + 1 = n) (k : Js p l e R s m args below meth c G nL Q σ sz cells slots n L (.int (x >>> (y &&& 31)) :: st)) : Js p l e R s m args below meth c G nL Q σ sz cells slots pc L (.int y :: .int x :: st) := by
  subst hn
  exact fun H locs ls hW hS hl => lv_ishr C.1 C.2.1 d (k H locs ls hW hS hl)
theorem je_iushr (C : Cx p s m args meth c G own cc nL rt) {x y : Int32} (d : decode cc pc = .ok (.iushr, 1)) (n : Nat) (hn : pc + 1 = n) (k : Js p l e R s m args below meth c G nL Q σ sz cells slots n L (.int (x.toUInt32 >>> (y.toUInt32 &&& Int32.toUInt32 31)).toInt32 :: st)) : Js p l e R s m args below meth c G nL Q σ sz cells slots pc L (.int y :: .int x :: st) := by
  subst hn
  exact fun H locs ls hW hS hl => lv_iushr C.1 C.2.1 d rfl (k H locs ls hW hS hl)
theorem je_idiv (C : Cx p s m args meth c G own cc nL rt) {x y : Int32} (d : decode cc pc = .ok (.idiv, 1)) (n : Nat) (hn : pc + 1 = n) (hne : ¬ y = 0) (k : Js p l e R s m args below meth c G nL Q σ sz cells slots n L (.int (x / y) :: st)) : Js p l e R s m args below meth c G nL Q σ sz cells slots pc L (.int y :: .int x :: st) := by
  subst hn
  exact fun H locs ls hW hS hl => lv_idiv C.1 C.2.1 d hne (k H locs ls hW hS hl)
theorem je_irem (C : Cx p s m args meth c G own cc nL rt) {x y : Int32} (d : decode cc pc = .ok (.irem, 1)) (n : Nat) (hn : pc + 1 = n) (hne : ¬ y = 0) (k : Js p l e R s m args below meth c G nL Q σ sz cells slots n L (.int (x - x / y * y) :: st)) : Js p l e R s m args below meth c G nL Q σ sz cells slots pc L (.int y :: .int x :: st) := by
  subst hn
  exact fun H locs ls hW hS hl => lv_irem C.1 C.2.1 d hne (k H locs ls hW hS hl)
theorem je_ladd (C : Cx p s m args meth c G own cc nL rt) {x y : Int64} (d : decode cc pc = .ok (.ladd, 1)) (n : Nat) (hn : pc + 1 = n) (k : Js p l e R s m args below meth c G nL Q σ sz cells slots n L (.long (x + y) :: st)) : Js p l e R s m args below meth c G nL Q σ sz cells slots pc L (.long y :: .long x :: st) := by
  subst hn
  exact fun H locs ls hW hS hl => lv_ladd C.1 C.2.1 d (k H locs ls hW hS hl)
theorem je_lsub (C : Cx p s m args meth c G own cc nL rt) {x y : Int64} (d : decode cc pc = .ok (.lsub, 1)) (n : Nat) (hn : pc + 1 = n) (k : Js p l e R s m args below meth c G nL Q σ sz cells slots n L (.long (x - y) :: st)) : Js p l e R s m args below meth c G nL Q σ sz cells slots pc L (.long y :: .long x :: st) := by
  subst hn
  exact fun H locs ls hW hS hl => lv_lsub C.1 C.2.1 d (k H locs ls hW hS hl)
theorem je_lmul (C : Cx p s m args meth c G own cc nL rt) {x y : Int64} (d : decode cc pc = .ok (.lmul, 1)) (n : Nat) (hn : pc + 1 = n) (k : Js p l e R s m args below meth c G nL Q σ sz cells slots n L (.long (x * y) :: st)) : Js p l e R s m args below meth c G nL Q σ sz cells slots pc L (.long y :: .long x :: st) := by
  subst hn
  exact fun H locs ls hW hS hl => lv_lmul C.1 C.2.1 d (k H locs ls hW hS hl)
theorem je_land (C : Cx p s m args meth c G own cc nL rt) {x y : Int64} (d : decode cc pc = .ok (.land, 1)) (n : Nat) (hn : pc + 1 = n) (k : Js p l e R s m args below meth c G nL Q σ sz cells slots n L (.long (x &&& y) :: st)) : Js p l e R s m args below meth c G nL Q σ sz cells slots pc L (.long y :: .long x :: st) := by
  subst hn
  exact fun H locs ls hW hS hl => lv_land C.1 C.2.1 d (k H locs ls hW hS hl)
theorem je_lor (C : Cx p s m args meth c G own cc nL rt) {x y : Int64} (d : decode cc pc = .ok (.lor, 1)) (n : Nat) (hn : pc + 1 = n) (k : Js p l e R s m args below meth c G nL Q σ sz cells slots n L (.long (x ||| y) :: st)) : Js p l e R s m args below meth c G nL Q σ sz cells slots pc L (.long y :: .long x :: st) := by
  subst hn
  exact fun H locs ls hW hS hl => lv_lor C.1 C.2.1 d (k H locs ls hW hS hl)
theorem je_ldiv (C : Cx p s m args meth c G own cc nL rt) {x y : Int64} (d : decode cc pc = .ok (.ldiv, 1)) (n : Nat) (hn : pc + 1 = n) (hne : ¬ y = 0) (k : Js p l e R s m args below meth c G nL Q σ sz cells slots n L (.long (x / y) :: st)) : Js p l e R s m args below meth c G nL Q σ sz cells slots pc L (.long y :: .long x :: st) := by
  subst hn
  exact fun H locs ls hW hS hl => lv_ldiv C.1 C.2.1 d hne (k H locs ls hW hS hl)
theorem je_lrem (C : Cx p s m args meth c G own cc nL rt) {x y : Int64} (d : decode cc pc = .ok (.lrem, 1)) (n : Nat) (hn : pc + 1 = n) (hne : ¬ y = 0) (k : Js p l e R s m args below meth c G nL Q σ sz cells slots n L (.long (x - x / y * y) :: st)) : Js p l e R s m args below meth c G nL Q σ sz cells slots pc L (.long y :: .long x :: st) := by
  subst hn
  exact fun H locs ls hW hS hl => lv_lrem C.1 C.2.1 d hne (k H locs ls hW hS hl)
theorem je_lneg (C : Cx p s m args meth c G own cc nL rt) {x : Int64} (d : decode cc pc = .ok (.lneg, 1)) (n : Nat) (hn : pc + 1 = n) (k : Js p l e R s m args below meth c G nL Q σ sz cells slots n L (.long (-x) :: st)) : Js p l e R s m args below meth c G nL Q σ sz cells slots pc L (.long x :: st) := by
  subst hn
  exact fun H locs ls hW hS hl => lv_lneg C.1 C.2.1 d (k H locs ls hW hS hl)
theorem je_lcmp (C : Cx p s m args meth c G own cc nL rt) {x y : Int64} (d : decode cc pc = .ok (.lcmp, 1)) (n : Nat) (hn : pc + 1 = n) (k : Js p l e R s m args below meth c G nL Q σ sz cells slots n L (.int (lg_cmp x y) :: st)) : Js p l e R s m args below meth c G nL Q σ sz cells slots pc L (.long y :: .long x :: st) := by
  subst hn
  exact fun H locs ls hW hS hl => W.lcmp C.1 C.2.1 d (k H locs ls hW hS hl)
theorem je_lshl (C : Cx p s m args meth c G own cc nL rt) {x : Int64} {y : Int32} (d : decode cc pc = .ok (.lshl, 1)) (n : Nat) (hn : pc + 1 = n) (k : Js p l e R s m args below meth c G nL Q σ sz cells slots n L (.long (x <<< (y.toInt64 &&& 63)) :: st)) : Js p l e R s m args below meth c G nL Q σ sz cells slots pc L (.int y :: .long x :: st) := by
  subst hn
  exact fun H locs ls hW hS hl => lv_lshl C.1 C.2.1 d rfl (k H locs ls hW hS hl)
theorem je_lshr (C : Cx p s m args meth c G own cc nL rt) {x : Int64} {y : Int32} (d : decode cc pc = .ok (.lshr, 1)) (n : Nat) (hn : pc + 1 = n) (k : Js p l e R s m args below meth c G nL Q σ sz cells slots n L (.long (x >>> (y.toInt64 &&& 63)) :: st)) : Js p l e R s m args below meth c G nL Q σ sz cells slots pc L (.int y :: .long x :: st) := by
  subst hn
  exact fun H locs ls hW hS hl => lv_lshr C.1 C.2.1 d rfl (k H locs ls hW hS hl)
theorem je_i2l (C : Cx p s m args meth c G own cc nL rt) {x : Int32} (d : decode cc pc = .ok (.i2l, 1)) (n : Nat) (hn : pc + 1 = n) (k : Js p l e R s m args below meth c G nL Q σ sz cells slots n L (.long x.toInt64 :: st)) : Js p l e R s m args below meth c G nL Q σ sz cells slots pc L (.int x :: st) := by
  subst hn
  exact fun H locs ls hW hS hl => lv_i2l C.1 C.2.1 d rfl (k H locs ls hW hS hl)
theorem je_l2i (C : Cx p s m args meth c G own cc nL rt) {x : Int64} (d : decode cc pc = .ok (.l2i, 1)) (n : Nat) (hn : pc + 1 = n) (k : Js p l e R s m args below meth c G nL Q σ sz cells slots n L (.int x.toInt32 :: st)) : Js p l e R s m args below meth c G nL Q σ sz cells slots pc L (.long x :: st) := by
  subst hn
  exact fun H locs ls hW hS hl => lv_l2i C.1 C.2.1 d rfl (k H locs ls hW hS hl)
theorem je_i2b (C : Cx p s m args meth c G own cc nL rt) {x : Int32} (d : decode cc pc = .ok (.i2b, 1)) (n : Nat) (hn : pc + 1 = n) (k : Js p l e R s m args below meth c G nL Q σ sz cells slots n L (.int x.toInt8.toInt32 :: st)) : Js p l e R s m args below meth c G nL Q σ sz cells slots pc L (.int x :: st) := by
  subst hn
  exact fun H locs ls hW hS hl => lv_i2b C.1 C.2.1 d rfl (k H locs ls hW hS hl)
theorem je_i2c (C : Cx p s m args meth c G own cc nL rt) {x : Int32} (d : decode cc pc = .ok (.i2c, 1)) (n : Nat) (hn : pc + 1 = n) (k : Js p l e R s m args below meth c G nL Q σ sz cells slots n L (.int (x.toUInt32 % 65536).toInt32 :: st)) : Js p l e R s m args below meth c G nL Q σ sz cells slots pc L (.int x :: st) := by
  subst hn
  exact fun H locs ls hW hS hl => lv_i2c C.1 C.2.1 d rfl (k H locs ls hW hS hl)
theorem je_dup (C : Cx p s m args meth c G own cc nL rt) {v : Value} (d : decode cc pc = .ok (.dup, 1)) (n : Nat) (hn : pc + 1 = n) (hc : v.category = 1) (k : Js p l e R s m args below meth c G nL Q σ sz cells slots n L (v :: v :: st)) : Js p l e R s m args below meth c G nL Q σ sz cells slots pc L (v :: st) := by
  subst hn
  exact fun H locs ls hW hS hl => lv_dup C.1 C.2.1 d hc (k H locs ls hW hS hl)
theorem je_pop (C : Cx p s m args meth c G own cc nL rt) {v : Value} (d : decode cc pc = .ok (.pop, 1)) (n : Nat) (hn : pc + 1 = n) (hc : v.category = 1) (k : Js p l e R s m args below meth c G nL Q σ sz cells slots n L st) : Js p l e R s m args below meth c G nL Q σ sz cells slots pc L (v :: st) := by
  subst hn
  exact fun H locs ls hW hS hl => lv_pop C.1 C.2.1 d hc (k H locs ls hW hS hl)
theorem je_dup2 (C : Cx p s m args meth c G own cc nL rt) {va vb : Value} (d : decode cc pc = .ok (.dup2, 1)) (n : Nat) (hn : pc + 1 = n) (hva : va.category = 1) (hvb : vb.category = 1) (k : Js p l e R s m args below meth c G nL Q σ sz cells slots n L (va :: vb :: va :: vb :: st)) : Js p l e R s m args below meth c G nL Q σ sz cells slots pc L (va :: vb :: st) := by
  subst hn
  exact fun H locs ls hW hS hl => lv_dup2_11 C.1 C.2.1 d hva hvb (k H locs ls hW hS hl)
theorem je_pop2 (C : Cx p s m args meth c G own cc nL rt) {v : Value} (d : decode cc pc = .ok (.pop2, 1)) (n : Nat) (hn : pc + 1 = n) (hc : v.category = 2) (k : Js p l e R s m args below meth c G nL Q σ sz cells slots n L st) : Js p l e R s m args below meth c G nL Q σ sz cells slots pc L (v :: st) := by
  subst hn
  exact fun H locs ls hW hS hl => lv_pop2_2 C.1 C.2.1 d hc (k H locs ls hW hS hl)
theorem je_null (C : Cx p s m args meth c G own cc nL rt) (d : decode cc pc = .ok (.aconst_null, 1)) (n : Nat) (hn : pc + 1 = n) (k : Js p l e R s m args below meth c G nL Q σ sz cells slots n L (.null :: st)) : Js p l e R s m args below meth c G nL Q σ sz cells slots pc L st := by
  subst hn
  exact fun H locs ls hW hS hl => lv_null C.1 C.2.1 d (k H locs ls hW hS hl)
variable {X : Type} {r : X}
theorem je_if_eq (C : Cx p s m args meth c G own cc nL rt) {x : Int32} {off : Int} (tgt : Nat) (d : decode cc pc = .ok (.ifCond .eq off, 3)) (n : Nat) (hn : pc + 3 = n) (ht : (pc : Int) + off = (tgt : Int)) {A B : Option X} (h : (if x = 0 then A else B) = some r) (kt : A = some r → Js p l e R s m args below meth c G nL Q σ sz cells slots tgt L st) (kf : B = some r → Js p l e R s m args below meth c G nL Q σ sz cells slots n L st) : Js p l e R s m args below meth c G nL Q σ sz cells slots pc L (.int x :: st) := by
  subst hn
  refine fun H locs ls hW hS hl => lv_if_eq C.1 C.2.1 d ht (fun q => kt ?_ H locs ls hW hS hl) (fun q => kf ?_ H locs ls hW hS hl)
  · rw [if_pos q] at h; exact h
  · rw [if_neg q] at h; exact h
theorem je_if_lt (C : Cx p s m args meth c G own cc nL rt) {x : Int32} {off : Int} (tgt : Nat) (d : decode cc pc = .ok (.ifCond .lt off, 3)) (n : Nat) (hn : pc + 3 = n) (ht : (pc : Int) + off = (tgt : Int)) {A B : Option X} (h : (if x < 0 then A else B) = some r) (kt : A = some r → Js p l e R s m args below meth c G nL Q σ sz cells slots tgt L st) (kf : B = some r → Js p l e R s m args below meth c G nL Q σ sz cells slots n L st) : Js p l e R s m args below meth c G nL Q σ sz cells slots pc L (.int x :: st) := by
  subst hn
  refine fun H locs ls hW hS hl => lv_if_lt C.1 C.2.1 d ht (fun q => kt ?_ H locs ls hW hS hl) (fun q => kf ?_ H locs ls hW hS hl)
  · rw [if_pos q] at h; exact h
  · rw [if_neg q] at h; exact h
theorem je_if_ge (C : Cx p s m args meth c G own cc nL rt) {x : Int32} {off : Int} (tgt : Nat) (d : decode cc pc = .ok (.ifCond .ge off, 3)) (n : Nat) (hn : pc + 3 = n) (ht : (pc : Int) + off = (tgt : Int)) {A B : Option X} (h : (if 0 ≤ x then A else B) = some r) (kt : A = some r → Js p l e R s m args below meth c G nL Q σ sz cells slots tgt L st) (kf : B = some r → Js p l e R s m args below meth c G nL Q σ sz cells slots n L st) : Js p l e R s m args below meth c G nL Q σ sz cells slots pc L (.int x :: st) := by
  subst hn
  refine fun H locs ls hW hS hl => lv_if_ge C.1 C.2.1 d ht (fun q => kt ?_ H locs ls hW hS hl) (fun q => kf ?_ H locs ls hW hS hl)
  · rw [if_pos q] at h; exact h
  · rw [if_neg q] at h; exact h
theorem je_if_gt (C : Cx p s m args meth c G own cc nL rt) {x : Int32} {off : Int} (tgt : Nat) (d : decode cc pc = .ok (.ifCond .gt off, 3)) (n : Nat) (hn : pc + 3 = n) (ht : (pc : Int) + off = (tgt : Int)) {A B : Option X} (h : (if 0 < x then A else B) = some r) (kt : A = some r → Js p l e R s m args below meth c G nL Q σ sz cells slots tgt L st) (kf : B = some r → Js p l e R s m args below meth c G nL Q σ sz cells slots n L st) : Js p l e R s m args below meth c G nL Q σ sz cells slots pc L (.int x :: st) := by
  subst hn
  refine fun H locs ls hW hS hl => lv_if_gt C.1 C.2.1 d ht (fun q => kt ?_ H locs ls hW hS hl) (fun q => kf ?_ H locs ls hW hS hl)
  · rw [if_pos q] at h; exact h
  · rw [if_neg q] at h; exact h
theorem je_if_le (C : Cx p s m args meth c G own cc nL rt) {x : Int32} {off : Int} (tgt : Nat) (d : decode cc pc = .ok (.ifCond .le off, 3)) (n : Nat) (hn : pc + 3 = n) (ht : (pc : Int) + off = (tgt : Int)) {A B : Option X} (h : (if x ≤ 0 then A else B) = some r) (kt : A = some r → Js p l e R s m args below meth c G nL Q σ sz cells slots tgt L st) (kf : B = some r → Js p l e R s m args below meth c G nL Q σ sz cells slots n L st) : Js p l e R s m args below meth c G nL Q σ sz cells slots pc L (.int x :: st) := by
  subst hn
  refine fun H locs ls hW hS hl => lv_if_le C.1 C.2.1 d ht (fun q => kt ?_ H locs ls hW hS hl) (fun q => kf ?_ H locs ls hW hS hl)
  · rw [if_pos q] at h; exact h
  · rw [if_neg q] at h; exact h
theorem je_if_ne (C : Cx p s m args meth c G own cc nL rt) {x : Int32} {off : Int} (tgt : Nat) (d : decode cc pc = .ok (.ifCond .ne off, 3)) (n : Nat) (hn : pc + 3 = n) (ht : (pc : Int) + off = (tgt : Int)) {A B : Option X} (h : (if x = 0 then B else A) = some r) (kt : A = some r → Js p l e R s m args below meth c G nL Q σ sz cells slots tgt L st) (kf : B = some r → Js p l e R s m args below meth c G nL Q σ sz cells slots n L st) : Js p l e R s m args below meth c G nL Q σ sz cells slots pc L (.int x :: st) := by
  subst hn
  refine fun H locs ls hW hS hl => lv_if_ne C.1 C.2.1 d ht (fun q => kt ?_ H locs ls hW hS hl) (fun q => kf ?_ H locs ls hW hS hl)
  · rw [if_neg q] at h; exact h
  · rw [if_pos q] at h; exact h
theorem je_icmp_ne (C : Cx p s m args meth c G own cc nL rt) {x y : Int32} {off : Int} (tgt : Nat) (d : decode cc pc = .ok (.if_icmp .ne off, 3)) (n : Nat) (hn : pc + 3 = n) (ht : (pc : Int) + off = (tgt : Int)) {A B : Option X} (h : (if x = y then B else A) = some r) (kt : A = some r → Js p l e R s m args below meth c G nL Q σ sz cells slots tgt L st) (kf : B = some r → Js p l e R s m args below meth c G nL Q σ sz cells slots n L st) : Js p l e R s m args below meth c G nL Q σ sz cells slots pc L (.int y :: .int x :: st) := by
  subst hn
  refine fun H locs ls hW hS hl => lv_icmp_ne C.1 C.2.1 d ht (fun q => kt ?_ H locs ls hW hS hl) (fun q => kf ?_ H locs ls hW hS hl)
  · rw [if_neg q] at h; exact h
  · rw [if_pos q] at h; exact h
theorem je_icmp_eq (C : Cx p s m args meth c G own cc nL rt) {x y : Int32} {off : Int} (tgt : Nat) (d : decode cc pc = .ok (.if_icmp .eq off, 3)) (n : Nat) (hn : pc + 3 = n) (ht : (pc : Int) + off = (tgt : Int)) {A B : Option X} (h : (if x = y then A else B) = some r) (kt : A = some r → Js p l e R s m args below meth c G nL Q σ sz cells slots tgt L st) (kf : B = some r → Js p l e R s m args below meth c G nL Q σ sz cells slots n L st) : Js p l e R s m args below meth c G nL Q σ sz cells slots pc L (.int y :: .int x :: st) := by
  subst hn
  refine fun H locs ls hW hS hl => lv_icmp_eq C.1 C.2.1 d ht (fun q => kt ?_ H locs ls hW hS hl) (fun q => kf ?_ H locs ls hW hS hl)
  · rw [if_pos q] at h; exact h
  · rw [if_neg q] at h; exact h
theorem je_icmp_lt (C : Cx p s m args meth c G own cc nL rt) {x y : Int32} {off : Int} (tgt : Nat) (d : decode cc pc = .ok (.if_icmp .lt off, 3)) (n : Nat) (hn : pc + 3 = n) (ht : (pc : Int) + off = (tgt : Int)) {A B : Option X} (h : (if x < y then A else B) = some r) (kt : A = some r → Js p l e R s m args below meth c G nL Q σ sz cells slots tgt L st) (kf : B = some r → Js p l e R s m args below meth c G nL Q σ sz cells slots n L st) : Js p l e R s m args below meth c G nL Q σ sz cells slots pc L (.int y :: .int x :: st) := by
  subst hn
  refine fun H locs ls hW hS hl => lv_icmp_lt C.1 C.2.1 d ht (fun q => kt ?_ H locs ls hW hS hl) (fun q => kf ?_ H locs ls hW hS hl)
  · rw [if_pos q] at h; exact h
  · rw [if_neg q] at h; exact h
theorem je_icmp_ge (C : Cx p s m args meth c G own cc nL rt) {x y : Int32} {off : Int} (tgt : Nat) (d : decode cc pc = .ok (.if_icmp .ge off, 3)) (n : Nat) (hn : pc + 3 = n) (ht : (pc : Int) + off = (tgt : Int)) {A B : Option X} (h : (if y ≤ x then A else B) = some r) (kt : A = some r → Js p l e R s m args below meth c G nL Q σ sz cells slots tgt L st) (kf : B = some r → Js p l e R s m args below meth c G nL Q σ sz cells slots n L st) : Js p l e R s m args below meth c G nL Q σ sz cells slots pc L (.int y :: .int x :: st) := by
  subst hn
  refine fun H locs ls hW hS hl => lv_icmp_ge C.1 C.2.1 d ht (fun q => kt ?_ H locs ls hW hS hl) (fun q => kf ?_ H locs ls hW hS hl)
  · rw [if_pos q] at h; exact h
  · rw [if_neg q] at h; exact h
theorem je_icmp_gt (C : Cx p s m args meth c G own cc nL rt) {x y : Int32} {off : Int} (tgt : Nat) (d : decode cc pc = .ok (.if_icmp .gt off, 3)) (n : Nat) (hn : pc + 3 = n) (ht : (pc : Int) + off = (tgt : Int)) {A B : Option X} (h : (if y < x then A else B) = some r) (kt : A = some r → Js p l e R s m args below meth c G nL Q σ sz cells slots tgt L st) (kf : B = some r → Js p l e R s m args below meth c G nL Q σ sz cells slots n L st) : Js p l e R s m args below meth c G nL Q σ sz cells slots pc L (.int y :: .int x :: st) := by
  subst hn
  refine fun H locs ls hW hS hl => lv_icmp_gt C.1 C.2.1 d ht (fun q => kt ?_ H locs ls hW hS hl) (fun q => kf ?_ H locs ls hW hS hl)
  · rw [if_pos q] at h; exact h
  · rw [if_neg q] at h; exact h
theorem je_icmp_le (C : Cx p s m args meth c G own cc nL rt) {x y : Int32} {off : Int} (tgt : Nat) (d : decode cc pc = .ok (.if_icmp .le off, 3)) (n : Nat) (hn : pc + 3 = n) (ht : (pc : Int) + off = (tgt : Int)) {A B : Option X} (h : (if x ≤ y then A else B) = some r) (kt : A = some r → Js p l e R s m args below meth c G nL Q σ sz cells slots tgt L st) (kf : B = some r → Js p l e R s m args below meth c G nL Q σ sz cells slots n L st) : Js p l e R s m args below meth c G nL Q σ sz cells slots pc L (.int y :: .int x :: st) := by
  subst hn
  refine fun H locs ls hW hS hl => lv_icmp_le C.1 C.2.1 d ht (fun q => kt ?_ H locs ls hW hS hl) (fun q => kf ?_ H locs ls hW hS hl)
  · rw [if_pos q] at h; exact h
  · rw [if_neg q] at h; exact h
theorem je_goto (C : Cx p s m args meth c G own cc nL rt) {off : Int} (tgt : Nat) (d : decode cc pc = .ok (.goto off, 3)) (ht : (pc : Int) + off = (tgt : Int)) (k : Js p l e R s m args below meth c G nL Q σ sz cells slots tgt L st) : Js p l e R s m args below meth c G nL Q σ sz cells slots pc L st := fun H locs ls hW hS hl => lv_goto C.1 C.2.1 d ht (k H locs ls hW hS hl)
theorem je_sub (ks : List Nat) (L2 : List (Nat × Value)) (hl0 : lv_pick L ks = L2) (k : Js p l e R s m args below meth c G nL Q σ sz cells slots pc L2 st) : Js p l e R s m args below meth c G nL Q σ sz cells slots pc L st := fun H locs ls hW hS hl => k H locs ls hW hS (lv_sub hl ks hl0)
theorem je_ldc2 (C : Cx p s m args meth c G own cc nL rt) {index : Nat} {v : Int64} (hq : Cond.constantLong own index v ∈ lw_all) (d : decode cc pc = .ok (.ldc2_w index, 3)) (n : Nat) (hn : pc + 3 = n) (k : Js p l e R s m args below meth c G nL Q σ sz cells slots n L (.long v :: st)) : Js p l e R s m args below meth c G nL Q σ sz cells slots pc L st := by
  subst hn
  exact fun H locs ls hW hS hl => lv_ldc2 C.1 C.2.1 C.2.2.2.2.1 (C.2.2.2.1 _ hq) d (k H locs ls hW hS hl)
theorem je_ldc (C : Cx p s m args meth c G own cc nL rt) {index : Nat} {v : Int32} (hq : Cond.constant own index v ∈ lw_all) (d : decode cc pc = .ok (.ldc index, 2)) (n : Nat) (hn : pc + 2 = n) (k : Js p l e R s m args below meth c G nL Q σ sz cells slots n L (.int v :: st)) : Js p l e R s m args below meth c G nL Q σ sz cells slots pc L st := by
  subst hn
  exact fun H locs ls hW hS hl => lv_ldc C.1 C.2.1 C.2.2.2.2.1 (C.2.2.2.1 _ hq) d (k H locs ls hW hS hl)
/-- a switch by a table: x is one of its numbers -/
theorem je_tsw (C : Cx p s m args meth c G own cc nL rt) {x : Int32} (kx : Int32) {dflt lo hi off : Int} {offs : Array Int} {len : Nat} (tgt : Nat) (d : decode cc pc = .ok (.tableswitch dflt lo hi offs, len)) (hx : x = kx) (h1 : ¬ kx.toInt < lo) (h2 : ¬ hi < kx.toInt) (ho : offs[(kx.toInt - lo).toNat]? = some off) (ht : (pc : Int) + off = (tgt : Int)) (k : Js p l e R s m args below meth c G nL Q σ sz cells slots tgt L st) : Js p l e R s m args below meth c G nL Q σ sz cells slots pc L (.int x :: st) := by
  subst hx
  exact fun H locs ls hW hS hl => lv_tableIn C.1 C.2.1 d h1 h2 ho ht (k H locs ls hW hS hl)
/-- .. or none -/
theorem je_tswd (C : Cx p s m args meth c G own cc nL rt) {x : Int32} {dflt lo hi : Int} {offs : Array Int} {len : Nat} (tgt : Nat) (d : decode cc pc = .ok (.tableswitch dflt lo hi offs, len)) (hx : x.toInt < lo ∨ hi < x.toInt) (ht : (pc : Int) + dflt = (tgt : Int)) (k : Js p l e R s m args below meth c G nL Q σ sz cells slots tgt L st) : Js p l e R s m args below meth c G nL Q σ sz cells slots pc L (.int x :: st) :=
  fun H locs ls hW hS hl => lv_tableOut C.1 C.2.1 d hx ht (k H locs ls hW hS hl)
theorem je_ldcw (C : Cx p s m args meth c G own cc nL rt) {index : Nat} {v : Int32} (hq : Cond.constant own index v ∈ lw_all) (d : decode cc pc = .ok (.ldc_w index, 3)) (n : Nat) (hn : pc + 3 = n) (k : Js p l e R s m args below meth c G nL Q σ sz cells slots n L (.int v :: st)) : Js p l e R s m args below meth c G nL Q σ sz cells slots pc L st := by
  subst hn
  exact fun H locs ls hW hS hl => lv_ldcw C.1 C.2.1 C.2.2.2.2.1 (C.2.2.2.1 _ hq) d (k H locs ls hW hS hl)
theorem je_lsw (C : Cx p s m args meth c G own cc nL rt) {x : Int32} (kx : Int32) {dflt off : Int} {ps : Array (Int × Int)} {len : Nat} (tgt : Nat) (d : decode cc pc = .ok (.lookupswitch dflt ps, len)) (hp : (ps.toList.zip (ps.toList.drop 1)).all (fun (a, next) => a.1 < next.1) = true) (hx : x = kx) (ho : Op.lookupswitch.offset ps.toList dflt kx.toInt = off) (ht : (pc : Int) + off = (tgt : Int)) (k : Js p l e R s m args below meth c G nL Q σ sz cells slots tgt L st) : Js p l e R s m args below meth c G nL Q σ sz cells slots pc L (.int x :: st) := by
  subst hx
  exact fun H locs ls hW hS hl => lv_lookup C.1 C.2.1 d hp ho ht (k H locs ls hW hS hl)
theorem je_lswd (C : Cx p s m args meth c G own cc nL rt) {x : Int32} {dflt off : Int} {ps : Array (Int × Int)} {len : Nat} (tgt : Nat) (d : decode cc pc = .ok (.lookupswitch dflt ps, len)) (hp : (ps.toList.zip (ps.toList.drop 1)).all (fun (a, next) => a.1 < next.1) = true) (ho : Op.lookupswitch.offset ps.toList dflt x.toInt = off) (ht : (pc : Int) + off = (tgt : Int)) (k : Js p l e R s m args below meth c G nL Q σ sz cells slots tgt L st) : Js p l e R s m args below meth c G nL Q σ sz cells slots pc L (.int x :: st) := fun H locs ls hW hS hl => lv_lookup C.1 C.2.1 d hp ho ht (k H locs ls hW hS hl)
theorem je_out {x : Int32} (lo : Int) (n : Nat) (ks : List Int32) (hks : ks = (List.range n).map (fun (i : Nat) => Int32.ofInt (lo + (i : Int)))) (h : ∀ k ∈ ks, ¬ x = k) : x.toInt < lo ∨ lo + n - 1 < x.toInt := by
  by_cases h1 : x.toInt < lo
  · exact Or.inl h1
  by_cases h2 : lo + n - 1 < x.toInt
  · exact Or.inr h2
  exfalso
  refine h x ?_ rfl
  rw [hks, List.mem_map]
  refine ⟨(x.toInt - lo).toNat, List.mem_range.mpr (by omega), ?_⟩
  rw [show lo + ((x.toInt - lo).toNat : Int) = x.toInt by omega]
  exact Int32.ofInt_toInt x
theorem je_ite {c0 : Prop} [Decidable c0] {A B : Option X} {T : Prop} (h : (if c0 then A else B) = some r) (kt : c0 → A = some r → T) (kf : ¬ c0 → B = some r → T) : T := by
  by_cases q : c0
  · rw [if_pos q] at h; exact kt q h
  · rw [if_neg q] at h; exact kf q h

/-- a name for a value -/
def p_lt {α X : Type} (x : α) (K : α → Option X) : Option X := K x
/-- an index within, or nothing -/
def p_ck {X : Type} (i : Int32) (n : Nat) (K : Option X) : Option X := if i < 0 ∨ n ≤ i.toNatClampNeg then none else K
/-- a boolean, or nothing -/
def p_cz {X : Type} (v : Int32) (K : Option X) : Option X := if v = 0 ∨ v = 1 then K else none
/-- a char of a String constant, or nothing -/
def p_c8 {X : Type} (v : Int32) (K : Option X) : Option X := if v &&& 255 = v then K else none
/-- a String constant's number -/
def p_i3 {X : Type} (i : Nat) (K : Option X) : Option X := if i < 3 then K else none
theorem p_c8_inv {v : Int32} {K : Option X} (h : p_c8 v K = some r) : v &&& 255 = v ∧ K = some r := by
  unfold p_c8 at h
  split at h
  · rename_i q
    exact ⟨q, h⟩
  · cases h
theorem p_i3_inv {v : Nat} {K : Option X} (h : p_i3 v K = some r) : v < 3 ∧ K = some r := by
  unfold p_i3 at h
  split at h
  · rename_i q
    exact ⟨q, h⟩
  · cases h
/-- a divisor -/
def p_cd {X : Type} (v : Int32) (K : Option X) : Option X := if v = 0 then none else K
def p_cdl {X : Type} (v : Int64) (K : Option X) : Option X := if v = 0 then none else K
/-- a call -/
def p_cl {α X : Type} (x : Option α) (K : α → Option X) : Option X := match x with
  | some a => K a
  | none => none
theorem p_ck_inv {i : Int32} {n : Nat} {K : Option X} (h : p_ck i n K = some r) : vp_in i n ∧ K = some r := by
  unfold p_ck at h
  split at h
  · cases h
  · rename_i q
    exact ⟨q, h⟩
theorem p_cz_inv {v : Int32} {K : Option X} (h : p_cz v K = some r) : (v = 0 ∨ v = 1) ∧ K = some r := by
  unfold p_cz at h
  split at h
  · rename_i q
    exact ⟨q, h⟩
  · cases h
theorem p_cd_inv {v : Int32} {K : Option X} (h : p_cd v K = some r) : ¬ v = 0 ∧ K = some r := by
  unfold p_cd at h
  split at h
  · cases h
  · rename_i q
    exact ⟨q, h⟩
theorem p_cdl_inv {v : Int64} {K : Option X} (h : p_cdl v K = some r) : ¬ v = 0 ∧ K = some r := by
  unfold p_cdl at h
  split at h
  · cases h
  · rename_i q
    exact ⟨q, h⟩
theorem p_cl_inv {α : Type} {x : Option α} {K : α → Option X} (h : p_cl x K = some r) : ∃ a, x = some a ∧ K a = some r := by
  cases x with
  | none => cases h
  | some a => exact ⟨a, rfl, h⟩
theorem je_nar {v : Int32} (h : v = 0 ∨ v = 1) : narrow .boolean (.int v) = .int v := by
  rcases h with h | h <;> subst h <;> rfl
theorem je_nar8 {v : Int32} (h : v &&& 255 = v) : narrow .char (.int v) = .int v := by
  rw [← h]
  exact sc_nar _
theorem je_narv {v : Int32} (h : v = 0 ∨ v = 1) : vp_nar .boolean v = v := by
  rcases h with h | h <;> subst h <;> rfl
theorem je_lti {x : Int32} {K : Int32 → Option X} (h : p_lt x K = some r) (k : ∀ v, K v = some r → Js p l e R s m args below meth c G nL Q σ sz cells slots pc L (.int v :: st)) : Js p l e R s m args below meth c G nL Q σ sz cells slots pc L (.int x :: st) := k x h
theorem je_ltl {x : Int64} {K : Int64 → Option X} (h : p_lt x K = some r) (k : ∀ v, K v = some r → Js p l e R s m args below meth c G nL Q σ sz cells slots pc L (.long v :: st)) : Js p l e R s m args below meth c G nL Q σ sz cells slots pc L (.long x :: st) := k x h
variable {σ2 : Nat → Option je_E} {sz2 : Nat}
theorem je_iret (C : Cx p s m args meth c G own cc nL (some .int)) {v : Int32} (d : decode cc pc = .ok (.ireturn, 1)) : Js p l e R s m args below meth c G nL (MQ below (je_Q G (some (.int v)) σ2 sz2) args s cells slots (je_A G)) σ2 sz2 cells slots pc L ([.int v]) := fun H locs ls hW hS hl => W.iret (v := v) C.1 C.2.1 C.2.2.2.2.2.1 (fun t ht hW2 => ⟨rfl, by rw [ht]; exact hW, hS.F ht⟩) hS.2.2 d (hlocks := C.2.2.2.2.2.2.1)
theorem je_zret (C : Cx p s m args meth c G own cc nL (some .boolean)) {v : Int32} (d : decode cc pc = .ok (.ireturn, 1)) (hz : v = 0 ∨ v = 1) : Js p l e R s m args below meth c G nL (MQ below (je_Q G (some (.int v)) σ2 sz2) args s cells slots (je_A G)) σ2 sz2 cells slots pc L ([.int v]) := fun H locs ls hW hS hl => W.zret (v := v) C.1 C.2.1 C.2.2.2.2.2.1 (je_nar hz) (fun t ht hW2 => ⟨rfl, by rw [ht]; exact hW, hS.F ht⟩) hS.2.2 d (hlocks := C.2.2.2.2.2.2.1)
theorem je_cret (C : Cx p s m args meth c G own cc nL (some .char)) {v : Int32} (d : decode cc pc = .ok (.ireturn, 1)) (hz : v &&& 255 = v) : Js p l e R s m args below meth c G nL (MQ below (je_Q G (some (.int v)) σ2 sz2) args s cells slots (je_A G)) σ2 sz2 cells slots pc L ([.int v]) := fun H locs ls hW hS hl => W.zret (v := v) C.1 C.2.1 C.2.2.2.2.2.1 (je_nar8 hz) (fun t ht hW2 => ⟨rfl, by rw [ht]; exact hW, hS.F ht⟩) hS.2.2 d (hlocks := C.2.2.2.2.2.2.1)
theorem je_bret (C : Cx p s m args meth c G own cc nL (some .byte)) {v : Int32} (d : decode cc pc = .ok (.ireturn, 1)) (hz : v = 0 ∨ v = 1) : Js p l e R s m args below meth c G nL (MQ below (je_Q G (some (.int v)) σ2 sz2) args s cells slots (je_A G)) σ2 sz2 cells slots pc L ([.int v]) := fun H locs ls hW hS hl => W.zret (v := v) C.1 C.2.1 C.2.2.2.2.2.1 (by rcases hz with h | h <;> subst h <;> rfl) (fun t ht hW2 => ⟨rfl, by rw [ht]; exact hW, hS.F ht⟩) hS.2.2 d (hlocks := C.2.2.2.2.2.2.1)
theorem je_lret (C : Cx p s m args meth c G own cc nL (some .long)) {v : Int64} (d : decode cc pc = .ok (.lreturn, 1)) : Js p l e R s m args below meth c G nL (MQ below (je_Q G (some (.long v)) σ2 sz2) args s cells slots (je_A G)) σ2 sz2 cells slots pc L ([.long v]) := fun H locs ls hW hS hl => W.lret (v := v) C.1 C.2.1 C.2.2.2.2.2.1 (fun t ht hW2 => ⟨rfl, by rw [ht]; exact hW, hS.F ht⟩) hS.2.2 d (hlocks := C.2.2.2.2.2.2.1)
theorem je_vret (C : Cx p s m args meth c G own cc nL none) (d : decode cc pc = .ok (.return_, 1)) : Js p l e R s m args below meth c G nL (MQ below (je_Q G none σ2 sz2) args s cells slots (je_A G)) σ2 sz2 cells slots pc L ([]) := fun H locs ls hW hS hl => W.vret C.1 C.2.1 C.2.2.2.2.2.1 (fun t ht hW2 => ⟨rfl, by rw [ht]; exact hW, hS.F ht⟩) hS.2.2 d (hlocks := C.2.2.2.2.2.2.1)

/-- a field read, by its place k in the class's list -/
theorem je_get (C : Cx p s m args meth c G own cc nL rt) {ref Cn : String} {T : u_T} {N ci index j k : Nat} {V : Nat → Value} (he : σ j = some (.inr (ci, V))) (hc : vwCl[ci]? = some (Cn, T, N)) (hin : ∀ w ∈ u_ws Cn T N, w ∈ lw_all) (hk : k < N) (hq : Cond.fieldLink own index ref (T k).2.1 (T k).2.2.1 ∈ lw_all) (hsame : (T k).1 = ref) (d : decode cc pc = .ok (.getfield index, 3)) (n : Nat) (hn : pc + 3 = n) {v : Value} (hv : V k = v) (kk : Js p l e R s m args below meth c G nL Q σ sz cells slots n L (v :: st)) : Js p l e R s m args below meth c G nL Q σ sz cells slots pc L (.ref (G.2.1 + j) :: st) := by
  subst hn; subst hsame; subst hv
  intro H locs ls hW hS hl
  obtain ⟨r0, h1, cell, q1, q2, q3, q4⟩ := hW.2 j _ he
  have hr : r0 = (Cn, T, N) := Option.some.inj (h1.symm.trans hc)
  subst hr
  obtain ⟨hSl, hfc, kC, hkC, hkind⟩ := C.2.2.2.2.2.2.2.1.1.1 ci _ hc
  obtain ⟨cf, kf, fi, f, hi, hsl⟩ := hSl k hk
  refine W.getf C.1 C.2.1 C.2.2.2.2.1 (C.2.2.2.1 _ hq) hi (u_facts hfc hkC (u_lays C.2.2.2.1 hin hk) hi).1 q1 (by rw [q3]; exact fun h => by cases h) (v := V k) ?_ rfl rfl d (kk H locs ls hW hS hl)
  rw [hsl, q4 k hk]
theorem je_ap {Cn : String} {T : u_T} {N ci : Nat} (C : Cx p s m args meth c G own cc nL rt) (hin : ∀ w ∈ u_ws Cn T N, w ∈ lw_all) (ty : Nat → FieldType) (hty : ∀ k, k < N → parseFieldDescriptor (T k).2.2.1 = some (ty k)) (hnm : ∀ a, a < N → ∀ b, b < N → a ≠ b → (T a).2.1 ≠ (T b).2.1) (hc : vwCl[ci]? = some (Cn, T, N)) : ∀ x y, x < N → y < N → x ≠ y → (G.1.2 ci) x ≠ (G.1.2 ci) y :=
  va_apart (own := own) C.2.2.2.1 hin ty hty hnm C.2.2.2.2.2.2.2.1.1 hc
/-- a field written -/
theorem je_put (C : Cx p s m args meth c G own cc nL rt) {ref Cn : String} {T : u_T} {N ci index j k : Nat} {V : Nat → Value} (he : σ j = some (.inr (ci, V))) (hc : vwCl[ci]? = some (Cn, T, N)) (hin : ∀ w ∈ u_ws Cn T N, w ∈ lw_all) (ty0 : Nat → FieldType) (hty : ∀ k, k < N → parseFieldDescriptor (T k).2.2.1 = some (ty0 k)) (hnm : ∀ a, a < N → ∀ b, b < N → a ≠ b → (T a).2.1 ≠ (T b).2.1) (hk : k < N) (hq : Cond.fieldLink own index ref (T k).2.1 (T k).2.2.1 ∈ lw_all) (hsame : (T k).1 = ref) (hfin : (T k).2.2.2 = false) {v : Value} (hn1 : narrow (ty0 k) v = v) (hfit : fits (ty0 k) v = true) (d : decode cc pc = .ok (.putfield index, 3)) (n : Nat) (hn : pc + 3 = n) (kk : Js p l e R s m args below meth c G nL Q (je_up σ j (.inr (ci, updV V k v))) sz cells slots n L st) : Js p l e R s m args below meth c G nL Q σ sz cells slots pc L (v :: .ref (G.2.1 + j) :: st) := by
  subst hn; subst hsame
  intro H locs ls hW hS hl
  have hap := je_ap C hin ty0 hty hnm hc
  obtain ⟨r0, h1, cell, q1, q2, q3, q4⟩ := hW.2 j _ he
  have hr : r0 = (Cn, T, N) := Option.some.inj (h1.symm.trans hc)
  subst hr
  obtain ⟨hSl, hfc, kC, hkC, hkind⟩ := C.2.2.2.2.2.2.2.1.1.1 ci _ hc
  obtain ⟨cf, kf, fi, f, hi, hsl⟩ := hSl k hk
  have hlay := C.2.2.2.1 _ (hin _ (u_in_lay hk))
  unfold u_lay at hlay
  rw [if_neg (by rw [hfin]; decide)] at hlay
  have hst := (u_facts hfc hkC (u_lays C.2.2.2.1 hin hk) hi).1
  have h6 := u_store hfc hkC hkind hlay hi (hty k hk) hn1 hfit
  refine W.putK C.1 C.2.1 (f := f) ⟨C.2.2.2.2.1, C.2.2.2.1 _ hq, ⟨_, _, _, hi⟩, hst⟩ (by rw [q2]; exact h6) q1 q3 (by rw [hsl]; exact k2_hasslot (q4 k hk)) rfl rfl d fun H' e1 e2 e3 => ?_
  rw [hsl] at e1 ⊢
  exact kk H' _ ls (hW.put ⟨_, hc, _, e1, q2, q3, t_set q4 hap hk v⟩ e2 e3) (hS.put e2 e3 (Nat.le_add_right _ _)) hl

theorem je_iald (C : Cx p s m args meth c G own cc nL rt) {j n0 : Nat} {f : Nat → Int32} {i : Int32} (he : σ j = some (.inl (G.2.2.1 0, n0, .inl f))) (hin : vp_in i n0) (d : decode cc pc = .ok (.iaload, 1)) (n : Nat) (hn : pc + 1 = n) (kk : Js p l e R s m args below meth c G nL Q σ sz cells slots n L (.int (f i.toNatClampNeg) :: st)) : Js p l e R s m args below meth c G nL Q σ sz cells slots pc L (.int i :: .ref (G.2.1 + j) :: st) := by
  subst hn
  intro H locs ls hW hS hl
  have hlt : i.toNatClampNeg < n0 := Nat.not_le.mp fun q => hin (Or.inr q)
  exact W.iald (v := .int (f i.toNatClampNeg)) C.1 C.2.1 (hW.2 j _ he) ((C.2.2.2.2.2.2.2.1.1.2 0 _ rfl).1 n0 (fun j => .int (f j))) (fun q => by cases q) (by show ¬ (i < 0 ∨ (arrV _ _ _).slots.size ≤ _); rw [arrV_size]; exact hin) (by show (arrV _ _ _).slots[_]? = _; rw [arrV_read _ _ hlt]) rfl rfl d (kk H locs ls hW hS hl)
theorem je_zald (C : Cx p s m args meth c G own cc nL rt) {j n0 : Nat} {f : Nat → Int32} {i : Int32} (he : σ j = some (.inl (G.2.2.1 2, n0, .inl f))) (hin : vp_in i n0) (d : decode cc pc = .ok (.baload, 1)) (n : Nat) (hn : pc + 1 = n) (kk : Js p l e R s m args below meth c G nL Q σ sz cells slots n L (.int (f i.toNatClampNeg) :: st)) : Js p l e R s m args below meth c G nL Q σ sz cells slots pc L (.int i :: .ref (G.2.1 + j) :: st) := by
  subst hn
  intro H locs ls hW hS hl
  have hlt : i.toNatClampNeg < n0 := Nat.not_le.mp fun q => hin (Or.inr q)
  exact W.zald (v := .int (f i.toNatClampNeg)) C.1 C.2.1 (hW.2 j _ he) ((C.2.2.2.2.2.2.2.1.1.2 2 _ rfl).1 n0 (fun j => .int (f j))) (fun q => by cases q) (by show ¬ (i < 0 ∨ (arrV _ _ _).slots.size ≤ _); rw [arrV_size]; exact hin) (by show (arrV _ _ _).slots[_]? = _; rw [arrV_read _ _ hlt]) rfl rfl d (kk H locs ls hW hS hl)
theorem je_bald (C : Cx p s m args meth c G own cc nL rt) {j n0 : Nat} {f : Nat → Int32} {i : Int32} (he : σ j = some (.inl (G.2.2.1 3, n0, .inl f))) (hin : vp_in i n0) (d : decode cc pc = .ok (.baload, 1)) (n : Nat) (hn : pc + 1 = n) (kk : Js p l e R s m args below meth c G nL Q σ sz cells slots n L (.int (f i.toNatClampNeg) :: st)) : Js p l e R s m args below meth c G nL Q σ sz cells slots pc L (.int i :: .ref (G.2.1 + j) :: st) := by
  subst hn
  intro H locs ls hW hS hl
  have hlt : i.toNatClampNeg < n0 := Nat.not_le.mp fun q => hin (Or.inr q)
  exact W.bald (v := .int (f i.toNatClampNeg)) C.1 C.2.1 (hW.2 j _ he) ((C.2.2.2.2.2.2.2.1.1.2 3 _ rfl).1 n0 (fun j => .int (f j))) (fun q => by cases q) (by show ¬ (i < 0 ∨ (arrV _ _ _).slots.size ≤ _); rw [arrV_size]; exact hin) (by show (arrV _ _ _).slots[_]? = _; rw [arrV_read _ _ hlt]) rfl rfl d (kk H locs ls hW hS hl)
theorem je_lald (C : Cx p s m args meth c G own cc nL rt) {j n0 : Nat} {f : Nat → Int64} {i : Int32} (he : σ j = some (.inl (G.2.2.1 1, n0, .inr (.inl f)))) (hin : vp_in i n0) (d : decode cc pc = .ok (.laload, 1)) (n : Nat) (hn : pc + 1 = n) (kk : Js p l e R s m args below meth c G nL Q σ sz cells slots n L (.long (f i.toNatClampNeg) :: st)) : Js p l e R s m args below meth c G nL Q σ sz cells slots pc L (.int i :: .ref (G.2.1 + j) :: st) := by
  subst hn
  intro H locs ls hW hS hl
  have hlt : i.toNatClampNeg < n0 := Nat.not_le.mp fun q => hin (Or.inr q)
  exact W.lald (v := .long (f i.toNatClampNeg)) C.1 C.2.1 (hW.2 j _ he) ((C.2.2.2.2.2.2.2.1.1.2 1 _ rfl).1 n0 (fun j => .long (f j))) (fun q => by cases q) (by show ¬ (i < 0 ∨ (arrV _ _ _).slots.size ≤ _); rw [arrV_size]; exact hin) (by show (arrV _ _ _).slots[_]? = _; rw [arrV_read _ _ hlt]) rfl rfl d (kk H locs ls hW hS hl)
theorem je_iast (C : Cx p s m args meth c G own cc nL rt) {j n0 : Nat} {f : Nat → Int32} {i : Int32} {x : Int32} (he : σ j = some (.inl (G.2.2.1 0, n0, .inl f))) (hin : vp_in i n0) (d : decode cc pc = .ok (.iastore, 1)) (n : Nat) (hn : pc + 1 = n) (kk : Js p l e R s m args below meth c G nL Q (je_up σ j (.inl (G.2.2.1 0, n0, .inl (upd f i.toNatClampNeg x)))) sz cells slots n L st) : Js p l e R s m args below meth c G nL Q σ sz cells slots pc L (.int x :: .int i :: .ref (G.2.1 + j) :: st) := by
  subst hn
  intro H locs ls hW hS hl
  refine W.iast C.1 C.2.1 (hW.2 j _ he) ((C.2.2.2.2.2.2.2.1.1.2 0 _ rfl).1 n0 (fun j => .int (f j))) (fun q => by cases q) (by show ¬ (i < 0 ∨ (arrV _ _ _).slots.size ≤ _); rw [arrV_size]; exact hin) rfl rfl d fun H1 e z oq => ?_
  refine kk H1 _ ls (hW.put ?_ z oq) (hS.put z oq (Nat.le_add_right _ _)) hl
  show H1[G.2.1 + j]? = some (vp_cell _ _)
  rw [e]
  rw [vp_cell_i, vp_cell_i, arrV_store]
  congr 2
  funext q
  by_cases hq : q = i.toNatClampNeg
  · subst hq
    simp [updV, upd, vp_updL, vp_nar]
    try rfl
  · simp [updV, upd, vp_updL, hq]
theorem je_zast (C : Cx p s m args meth c G own cc nL rt) {j n0 : Nat} {f : Nat → Int32} {i : Int32} {x : Int32} (he : σ j = some (.inl (G.2.2.1 2, n0, .inl f))) (hin : vp_in i n0) (d : decode cc pc = .ok (.bastore, 1)) (n : Nat) (hn : pc + 1 = n) (kk : Js p l e R s m args below meth c G nL Q (je_up σ j (.inl (G.2.2.1 2, n0, .inl (upd f i.toNatClampNeg (vp_nar .boolean x))))) sz cells slots n L st) : Js p l e R s m args below meth c G nL Q σ sz cells slots pc L (.int x :: .int i :: .ref (G.2.1 + j) :: st) := by
  subst hn
  intro H locs ls hW hS hl
  refine W.zast C.1 C.2.1 (hW.2 j _ he) ((C.2.2.2.2.2.2.2.1.1.2 2 _ rfl).1 n0 (fun j => .int (f j))) (fun q => by cases q) (by show ¬ (i < 0 ∨ (arrV _ _ _).slots.size ≤ _); rw [arrV_size]; exact hin) rfl rfl d fun H1 e z oq => ?_
  refine kk H1 _ ls (hW.put ?_ z oq) (hS.put z oq (Nat.le_add_right _ _)) hl
  show H1[G.2.1 + j]? = some (vp_cell _ _)
  rw [e]
  rw [vp_cell_i, vp_cell_i, arrV_store]
  congr 2
  funext q
  by_cases hq : q = i.toNatClampNeg
  · subst hq
    simp [updV, upd, vp_updL, vp_nar]
    try rfl
  · simp [updV, upd, vp_updL, hq]
theorem je_bast (C : Cx p s m args meth c G own cc nL rt) {j n0 : Nat} {f : Nat → Int32} {i : Int32} {x : Int32} (he : σ j = some (.inl (G.2.2.1 3, n0, .inl f))) (hin : vp_in i n0) (d : decode cc pc = .ok (.bastore, 1)) (n : Nat) (hn : pc + 1 = n) (kk : Js p l e R s m args below meth c G nL Q (je_up σ j (.inl (G.2.2.1 3, n0, .inl (upd f i.toNatClampNeg (vp_nar .byte x))))) sz cells slots n L st) : Js p l e R s m args below meth c G nL Q σ sz cells slots pc L (.int x :: .int i :: .ref (G.2.1 + j) :: st) := by
  subst hn
  intro H locs ls hW hS hl
  refine W.bast C.1 C.2.1 (hW.2 j _ he) ((C.2.2.2.2.2.2.2.1.1.2 3 _ rfl).1 n0 (fun j => .int (f j))) (fun q => by cases q) (by show ¬ (i < 0 ∨ (arrV _ _ _).slots.size ≤ _); rw [arrV_size]; exact hin) rfl rfl d fun H1 e z oq => ?_
  refine kk H1 _ ls (hW.put ?_ z oq) (hS.put z oq (Nat.le_add_right _ _)) hl
  show H1[G.2.1 + j]? = some (vp_cell _ _)
  rw [e]
  rw [vp_cell_i, vp_cell_i, arrV_store]
  congr 2
  funext q
  by_cases hq : q = i.toNatClampNeg
  · subst hq
    simp [updV, upd, vp_updL, vp_nar]
    try rfl
  · simp [updV, upd, vp_updL, hq]
theorem je_last (C : Cx p s m args meth c G own cc nL rt) {j n0 : Nat} {f : Nat → Int64} {i : Int32} {x : Int64} (he : σ j = some (.inl (G.2.2.1 1, n0, .inr (.inl f)))) (hin : vp_in i n0) (d : decode cc pc = .ok (.lastore, 1)) (n : Nat) (hn : pc + 1 = n) (kk : Js p l e R s m args below meth c G nL Q (je_up σ j (.inl (G.2.2.1 1, n0, .inr (.inl (vp_updL f i.toNatClampNeg x))))) sz cells slots n L st) : Js p l e R s m args below meth c G nL Q σ sz cells slots pc L (.long x :: .int i :: .ref (G.2.1 + j) :: st) := by
  subst hn
  intro H locs ls hW hS hl
  refine W.last C.1 C.2.1 (hW.2 j _ he) ((C.2.2.2.2.2.2.2.1.1.2 1 _ rfl).1 n0 (fun j => .long (f j))) (fun q => by cases q) (by show ¬ (i < 0 ∨ (arrV _ _ _).slots.size ≤ _); rw [arrV_size]; exact hin) rfl rfl d fun H1 e z oq => ?_
  refine kk H1 _ ls (hW.put ?_ z oq) (hS.put z oq (Nat.le_add_right _ _)) hl
  show H1[G.2.1 + j]? = some (vp_cell _ _)
  rw [e]
  rw [vp_cell_l, vp_cell_l, arrV_store]
  congr 2
  funext q
  by_cases hq : q = i.toNatClampNeg
  · subst hq
    simp [updV, upd, vp_updL, vp_nar]
    try rfl
  · simp [updV, upd, vp_updL, hq]
theorem je_alen (C : Cx p s m args meth c G own cc nL rt) {j n0 : Nat} {f : Nat → Int32} (he : σ j = some (.inl (G.2.2.1 0, n0, .inl f))) (d : decode cc pc = .ok (.arraylength, 1)) (n : Nat) (hn : pc + 1 = n) {v : Int32} (hv : Int32.ofNat n0 = v) (kk : Js p l e R s m args below meth c G nL Q σ sz cells slots n L (.int v :: st)) : Js p l e R s m args below meth c G nL Q σ sz cells slots pc L (.ref (G.2.1 + j) :: st) := by
  subst hn
  intro H locs ls hW hS hl
  exact W.alen (n := v) C.1 C.2.1 (hW.2 j _ he) ((C.2.2.2.2.2.2.2.1.1.2 0 _ rfl).1 n0 (fun j => .int (f j))) (by show (arrV _ _ _).slots.size.toInt32 = _; rw [arrV_size]; exact hv) rfl rfl d (kk H locs ls hW hS hl)
theorem je_nw (C : Cx p s m args meth c G own cc nL rt) {w : Cond} (hw : w ∈ lw_tbl) (g : nw_ok w = true) (ho : w.onTables = true) : w.before args s = true := va_Nw.use ho (C.2.2.2.2.2.2.2.1.2.1 w (nw_in hw g))
theorem je_getN (C : Cx p s m args meth c G own cc nL rt) {ref Cn host : String} {T : u_T} {N ci index j k : Nat} {V : Nat → Value} (he : σ j = some (.inr (ci, V))) (hc : vwCl[ci]? = some (Cn, T, N)) (hin : ∀ w ∈ u_ws Cn T N, w ∈ lw_all) (hk : k < N) (hq : Cond.fieldLinkNest own index ref (T k).2.1 (T k).2.2.1 host ∈ lw_tbl) (hsame : (T k).1 = ref) (d : decode cc pc = .ok (.getfield index, 3)) (n : Nat) (hn : pc + 3 = n) {v : Value} (hv : V k = v) (kk : Js p l e R s m args below meth c G nL Q σ sz cells slots n L (v :: st)) : Js p l e R s m args below meth c G nL Q σ sz cells slots pc L (.ref (G.2.1 + j) :: st) := by
  subst hn; subst hsame; subst hv
  intro H locs ls hW hS hl
  obtain ⟨r0, h1, cell, q1, q2, q3, q4⟩ := hW.2 j _ he
  have hr : r0 = (Cn, T, N) := Option.some.inj (h1.symm.trans hc)
  subst hr
  obtain ⟨hSl, hfc, kC, hkC, hkind⟩ := C.2.2.2.2.2.2.2.1.1.1 ci _ hc
  obtain ⟨cf, kf, fi, f, hi, hsl⟩ := hSl k hk
  refine va_Wgetf C.1 C.2.1 C.2.2.2.2.1 (je_nw C hq rfl rfl) hi (u_facts hfc hkC (u_lays C.2.2.2.1 hin hk) hi).1 q1 (by rw [q3]; exact fun h => by cases h) (v := V k) ?_ rfl rfl d (kk H locs ls hW hS hl)
  rw [hsl, q4 k hk]
theorem je_putN (C : Cx p s m args meth c G own cc nL rt) {ref Cn host : String} {T : u_T} {N ci index j k : Nat} {V : Nat → Value} (he : σ j = some (.inr (ci, V))) (hc : vwCl[ci]? = some (Cn, T, N)) (hin : ∀ w ∈ u_ws Cn T N, w ∈ lw_all) (ty0 : Nat → FieldType) (hty : ∀ k, k < N → parseFieldDescriptor (T k).2.2.1 = some (ty0 k)) (hnm : ∀ a, a < N → ∀ b, b < N → a ≠ b → (T a).2.1 ≠ (T b).2.1) (hk : k < N) (hq : Cond.fieldLinkNest own index ref (T k).2.1 (T k).2.2.1 host ∈ lw_tbl) (hsame : (T k).1 = ref) (hfin : (T k).2.2.2 = false) {v : Value} (hn1 : narrow (ty0 k) v = v) (hfit : fits (ty0 k) v = true) (d : decode cc pc = .ok (.putfield index, 3)) (n : Nat) (hn : pc + 3 = n) (kk : Js p l e R s m args below meth c G nL Q (je_up σ j (.inr (ci, updV V k v))) sz cells slots n L st) : Js p l e R s m args below meth c G nL Q σ sz cells slots pc L (v :: .ref (G.2.1 + j) :: st) := by
  subst hn; subst hsame
  intro H locs ls hW hS hl
  have hap := je_ap C hin ty0 hty hnm hc
  obtain ⟨r0, h1, cell, q1, q2, q3, q4⟩ := hW.2 j _ he
  have hr : r0 = (Cn, T, N) := Option.some.inj (h1.symm.trans hc)
  subst hr
  obtain ⟨hSl, hfc, kC, hkC, hkind⟩ := C.2.2.2.2.2.2.2.1.1.1 ci _ hc
  obtain ⟨cf, kf, fi, f, hi, hsl⟩ := hSl k hk
  have hlay := C.2.2.2.1 _ (hin _ (u_in_lay hk))
  unfold u_lay at hlay
  rw [if_neg (by rw [hfin]; decide)] at hlay
  have hst := (u_facts hfc hkC (u_lays C.2.2.2.1 hin hk) hi).1
  have h6 := u_store hfc hkC hkind hlay hi (hty k hk) hn1 hfit
  refine va_WputK C.1 C.2.1 (f := f) C.2.2.2.2.1 (je_nw C hq rfl rfl) hi hst (by rw [q2]; exact h6) q1 q3 (by rw [hsl]; exact k2_hasslot (q4 k hk)) rfl rfl d fun H' e1 e2 e3 => ?_
  rw [hsl] at e1 ⊢
  exact kk H' _ ls (hW.put ⟨_, hc, _, e1, q2, q3, t_set q4 hap hk v⟩ e2 e3) (hS.put e2 e3 (Nat.le_add_right _ _)) hl
theorem je_aald (C : Cx p s m args meth c G own cc nL rt) {j n0 : Nat} {f : Nat → Option Nat} {i : Int32} (he : σ j = some (.inl (G.2.2.1 4, n0, .inr (.inr (.inr (.inr f)))))) (hin : vp_in i n0) (d : decode cc pc = .ok (.aaload, 1)) (n : Nat) (hn : pc + 1 = n) (kk : Js p l e R s m args below meth c G nL Q σ sz cells slots n L (va_rf (f i.toNatClampNeg) :: st)) : Js p l e R s m args below meth c G nL Q σ sz cells slots pc L (.int i :: .ref (G.2.1 + j) :: st) := by
  subst hn
  intro H locs ls hW hS hl
  have hlt : i.toNatClampNeg < n0 := Nat.not_le.mp fun q => hin (Or.inr q)
  exact W.aald (v := va_rf (f i.toNatClampNeg)) (ty := .object "java/lang/Object") C.1 C.2.1 (hW.2 j _ he) ((C.2.2.2.2.2.2.2.1.1.2 4 _ rfl).1 n0 (fun j => va_rf (f j))) rfl (fun q => by cases q) (by show ¬ (i < 0 ∨ (arrV _ _ _).slots.size ≤ _); rw [arrV_size]; exact hin) (by show (arrV _ _ _).slots[_]? = _; rw [arrV_read _ _ hlt]) rfl rfl d (kk H locs ls hW hS hl)
/-- a cast of an object of just that class -/
theorem je_cast (C : Cx p s m args meth c G own cc nL rt) {nm : String} {index j ci N : Nat} {T : u_T} {V : Nat → Value} (he : σ j = some (.inr (ci, V))) (hc : vwCl[ci]? = some (nm, T, N)) (hq : Cond.classLink own index nm ∈ lw_all) (d : decode cc pc = .ok (.checkcast index, 3)) (n : Nat) (hn : pc + 3 = n) (k : Js p l e R s m args below meth c G nL Q σ sz cells slots n L (.ref (G.2.1 + j) :: st)) : Js p l e R s m args below meth c G nL Q σ sz cells slots pc L (.ref (G.2.1 + j) :: st) := by
  subst hn
  intro H locs ls hW hS hl
  obtain ⟨r0, h1, cell, q1, q2, q3, -⟩ := hW.2 j _ he
  exact va_castE C.1 C.2.1 C.2.2.2.2.1 (C.2.2.2.1 _ hq) ⟨cell, q1, by rw [q3]; rfl, by rw [q2]; exact (C.2.2.2.2.2.2.2.1.1.1 ci _ hc).2.1⟩ d (k H locs ls hW hS hl)
theorem je_ifnull (C : Cx p s m args meth c G own cc nL rt) {x : Option Nat} {off : Int} (tgt : Nat) (d : decode cc pc = .ok (.ifnull off, 3)) (n : Nat) (hn : pc + 3 = n) (ht : (pc : Int) + off = (tgt : Int)) {A B : Option X} (h : (if x = none then A else B) = some r) (kt : x = none → A = some r → Js p l e R s m args below meth c G nL Q σ sz cells slots tgt L st) (kf : B = some r → Js p l e R s m args below meth c G nL Q σ sz cells slots n L st) : Js p l e R s m args below meth c G nL Q σ sz cells slots pc L (va_rf x :: st) := by
  subst hn
  cases x with
  | none =>
    rw [if_pos rfl] at h
    exact fun H locs ls hW hS hl => lv_ifnullN C.1 C.2.1 d ht (kt rfl h H locs ls hW hS hl)
  | some a =>
    rw [if_neg (by simp)] at h
    exact fun H locs ls hW hS hl => lv_ifnull C.1 C.2.1 d (kf h H locs ls hW hS hl)
theorem je_ifnonnull (C : Cx p s m args meth c G own cc nL rt) {x : Option Nat} {off : Int} (tgt : Nat) (d : decode cc pc = .ok (.ifnonnull off, 3)) (n : Nat) (hn : pc + 3 = n) (ht : (pc : Int) + off = (tgt : Int)) {A B : Option X} (h : (if x = none then B else A) = some r) (kt : A = some r → Js p l e R s m args below meth c G nL Q σ sz cells slots tgt L st) (kf : x = none → B = some r → Js p l e R s m args below meth c G nL Q σ sz cells slots n L st) : Js p l e R s m args below meth c G nL Q σ sz cells slots pc L (va_rf x :: st) := by
  subst hn
  cases x with
  | none =>
    rw [if_pos rfl] at h
    exact fun H locs ls hW hS hl => lv_ifnonnullN C.1 C.2.1 d (kf rfl h H locs ls hW hS hl)
  | some a =>
    rw [if_neg (by simp)] at h
    exact fun H locs ls hW hS hl => lv_ifnonnull C.1 C.2.1 d ht (kt h H locs ls hW hS hl)
/-- a relative reference, null or a cell of ours -/
def je_rf (G : je_G) (x : Option Nat) : Value := va_rf (x.map (fun q => G.2.1 + q))
theorem je_astoreR_n (C : Cx p s m args meth c G own cc nL rt) {k : Fin 4} {x : Option Nat} (d : decode cc pc = .ok (.astore_n k, 1)) (n : Nat) (hn : pc + 1 = n) (hi : (k : Nat) < nL) (L2 : List (Nat × Value)) (hl0 : ((k : Nat), va_rf x) :: L.filter (fun q => !(q.1 == (k : Nat)) && !(q.1 + 1 == (k : Nat) && q.2.category == 2)) = L2) (kk : Js p l e R s m args below meth c G nL Q σ sz cells slots n L2 st) : Js p l e R s m args below meth c G nL Q σ sz cells slots pc L (va_rf x :: st) := by
  subst hn
  cases x with
  | none => exact fun H locs ls hW hS hl => lv_astore_nN C.1 C.2.1 d rfl hl hi hl0 (fun ls2 hl2 => kk H locs ls2 hW hS hl2)
  | some a => exact fun H locs ls hW hS hl => lv_astore_n C.1 C.2.1 d rfl hl hi hl0 (fun ls2 hl2 => kk H locs ls2 hW hS hl2)
theorem je_astoreR (C : Cx p s m args meth c G own cc nL rt) {i : Nat} {x : Option Nat} (d : decode cc pc = .ok (.astore i, 2)) (n : Nat) (hn : pc + 2 = n) (hi : i < nL) (L2 : List (Nat × Value)) (hl0 : (i, va_rf x) :: L.filter (fun q => !(q.1 == i) && !(q.1 + 1 == i && q.2.category == 2)) = L2) (kk : Js p l e R s m args below meth c G nL Q σ sz cells slots n L2 st) : Js p l e R s m args below meth c G nL Q σ sz cells slots pc L (va_rf x :: st) := by
  subst hn
  cases x with
  | none => exact fun H locs ls hW hS hl => lv_astoreN C.1 C.2.1 d hl hi hl0 (fun ls2 hl2 => kk H locs ls2 hW hS hl2)
  | some a => exact fun H locs ls hW hS hl => lv_astore C.1 C.2.1 d hl hi hl0 (fun ls2 hl2 => kk H locs ls2 hW hS hl2)
/-- System.arraycopy between two int arrays of the store -/
theorem je_copyi (C : Cx p s m args meth c G own cc nL rt) {index j0 j1 n0 n1 t : Nat} {ty : FieldType} {f g : Nat → Int32} (he0 : σ j0 = some (.inl (G.2.2.1 t, n0, .inl f))) (he1 : σ j1 = some (.inl (G.2.2.1 t, n1, .inl g))) (hty : (je_tys G)[t]? = some (G.2.2.1 t, ty)) (hprim : refKind ty = false)
    (hq : Cond.methodLink own index arraycopyName ∈ lw_all ∧ Cond.native arraycopyName ∈ lw_all ∧ Cond.static arraycopyName ∈ lw_all ∧ Cond.initialized "java/lang/System" ∈ lw_all)
    {sp dp n9 : Int32} (h1 : ¬ sp < 0) (h2 : ¬ dp < 0) (h3 : ¬ n9 < 0) (h4 : sp.toNatClampNeg + n9.toNatClampNeg ≤ n0) (h5 : dp.toNatClampNeg + n9.toNatClampNeg ≤ n1) (hfit : ∀ i, i < n9.toNatClampNeg → fits ty (.int (f (sp.toNatClampNeg + i))) = true)
    (hframes : 1 ≤ R.frames ∧ 8 + (nativeFrameWords "java/lang/System" "arraycopy" 5 + 11) ≤ R.locals) (hrm : (st.map fun v => v.category).sum ≤ 8) (d : decode cc pc = .ok (.invokestatic index, 3)) (n : Nat) (hn : pc + 3 = n)
    (kk : Js p l e R s m args below meth c G nL Q (je_up σ j1 (.inl (G.2.2.1 t, n1, .inl (va_cpy f g sp.toNatClampNeg dp.toNatClampNeg n9.toNatClampNeg)))) sz cells slots n L st) : Js p l e R s m args below meth c G nL Q σ sz cells slots pc L (.int n9 :: .int dp :: .ref (G.2.1 + j1) :: .int sp :: .ref (G.2.1 + j0) :: st) := by
  subst hn
  have nn : ∀ z : Int32, ¬ z < 0 → z.toInt = (z.toNatClampNeg : Int) := by
    intro z hz
    have hz0 : (0 : Int) ≤ z.toInt := by
      have := Int32.not_lt.mp hz
      simpa using Int32.le_iff_toInt_le.mp this
    show z.toInt = ((z.toInt.toNat : Nat) : Int)
    omega
  intro H locs ls hW hS hl T hT X0
  have hc0 : H[G.2.1 + j0]? = some (vp_cell (G.2.2.1 t) (n0, .inl f)) := hW.2 j0 _ he0
  have hc1 : H[G.2.1 + j1]? = some (vp_cell (G.2.2.1 t) (n1, .inl g)) := hW.2 j1 _ he1
  obtain ⟨-, k0, hk0, cm0, hkk0⟩ := (C.2.2.2.2.2.2.2.1.1.2 t _ hty).1 n0 (fun j => .int (f j))
  obtain ⟨-, k1, hk1, cm1, hkk1⟩ := (C.2.2.2.2.2.2.2.1.1.2 t _ hty).1 n1 (fun j => .int (g j))
  obtain ⟨vm', X', step⟩ := X0.arraycopy C.1 C.2.2.2.2.1 (C.2.2.2.1 _ hq.1) (C.2.2.2.1 _ hq.2.1) (C.2.2.2.1 _ hq.2.2.1) (C.2.2.2.1 _ hq.2.2.2) (src := G.2.1 + j0) (dst := G.2.1 + j1) (cs := vp_cell (G.2.2.1 t) (n0, .inl f)) (cd := vp_cell (G.2.2.1 t) (n1, .inl g)) (srcPos := sp) (destPos := dp) (n := n9) (by rw [hT]; exact hc0) (by rw [hT]; exact hc1)
    (fun _ h => by cases h) (fun _ h => by cases h) (fun h => by cases h) (fun h => by cases h) hk0 hk1 hkk0 hkk1 (by simp [hprim]) h1 h2 h3
    (by rw [nn sp h1, nn n9 h3]; show ¬ _ > ((arrV (G.2.2.1 t) n0 (fun j => .int (f j))).slots.size : Int); rw [arrV_size]; omega)
    (by rw [nn dp h2, nn n9 h3]; show ¬ _ > ((arrV (G.2.2.1 t) n1 (fun j => .int (g j))).slots.size : Int); rw [arrV_size]; omega)
    (fun vm₁ _ i hi => by
      have e : (vp_cell (G.2.2.1 t) (n0, .inl f)).slots.getD (sp.toNatClampNeg + i) .null = .int (f (sp.toNatClampNeg + i)) := by
        show (arrV (G.2.2.1 t) n0 (fun j => .int (f j))).slots.getD _ _ = _
        rw [Array.getD_eq_getD_getElem?, arrV_read _ _ (by omega)]
        rfl
      refine ⟨?_, ?_⟩
      · rw [e]
        exact hfit i hi
      · rw [e]
        exact trivial)
    (g := F0 m pc ls (.int n9 :: .int dp :: .ref (G.2.1 + j1) :: .int sp :: .ref (G.2.1 + j0) :: st)) rfl (by rw [C.2.2.1]; exact hl.1) (rest := st) rfl (by rw [C.2.1]; exact d) hframes.1 (by show 2 * 0 + _ + _ ≤ _; have := hframes.2; omega)
  have e1 : copied (vp_cell (G.2.2.1 t) (n0, .inl f)) (vp_cell (G.2.2.1 t) (n1, .inl g)) sp dp n9 = vp_cell (G.2.2.1 t) (n1, .inl (va_cpy f g sp.toNatClampNeg dp.toNatClampNeg n9.toNatClampNeg)) := va_copied (fun z => .int z) (G.2.2.1 t) (G.2.2.1 t) f g h4
  rw [e1] at X' step
  have hl1 : G.2.1 + j1 < H.size := (Array.getElem?_eq_some_iff.mp hc1).1
  have hheap : ((T.setVm vm').setCell (G.2.1 + j1) (vp_cell (G.2.2.1 t) (n1, .inl (va_cpy f g sp.toNatClampNeg dp.toNatClampNeg n9.toNatClampNeg)))).heap = H.setIfInBounds (G.2.1 + j1) (vp_cell (G.2.2.1 t) (n1, .inl (va_cpy f g sp.toNatClampNeg dp.toNatClampNeg n9.toNatClampNeg))) := by rw [← hT]; rfl
  have oq : ∀ q : Nat, q ≠ G.2.1 + j1 → (H.setIfInBounds (G.2.1 + j1) (vp_cell (G.2.2.1 t) (n1, .inl (va_cpy f g sp.toNatClampNeg dp.toNatClampNeg n9.toNatClampNeg))))[q]? = H[q]? := fun q hq => by simp [Array.getElem?_setIfInBounds, Ne.symm hq]
  obtain ⟨t9, a1, b1⟩ := kk _ _ ls (hW.put (x := .inl (G.2.2.1 t, n1, .inl (va_cpy f g sp.toNatClampNeg dp.toNatClampNeg n9.toNatClampNeg))) (show (H.setIfInBounds (G.2.1 + j1) _)[G.2.1 + j1]? = some _ by simp [Array.getElem?_setIfInBounds, hl1]) (by simp) oq) ⟨by simp; exact hS.1, fun q g1 g2 => by
      rw [oq q (fun e => g2 (by rw [e]; exact Nat.le_add_right _ _))]
      exact hS.2.1 q g1 g2, fun q hq => by
      rcases List.mem_append.mp hq with h | h
      · exact hS.2.2 q h
      · obtain ⟨z, -, hz⟩ := List.mem_map.mp h
        rw [← hz]
        exact Nat.le_add_right _ _⟩ hl _ hheap X'
  exact ⟨t9, step t9 a1, b1⟩
theorem je_r0 (h : je_O G s) : vk_R "MinistryDesks$Reader" 69 (txS 0) (G.2.2.2.1 0) s := h.2.1.1
theorem je_r1 (h : je_O G s) : vk_R "MinistryDesks$Reader" 90 (txS 1) (G.2.2.2.1 1) s := h.2.1.2.1
theorem je_r2 (h : je_O G s) : vk_R "MinistryDesksModel" 208 (txS 2) (G.2.2.2.1 2) s := h.2.1.2.2
theorem je_zCS (h : je_O G s) : va_Z "java/lang/String" "COMPACT_STRINGS" "Z" (.int 1) (je_A G) s s.heap := h.2.2.1.1
theorem je_zSF (h : je_O G s) : va_Z "jdk/internal/util/Preconditions" "SIOOBE_FORMATTER" "Ljava/util/function/BiFunction;" (va_rf (G.2.2.2.2 2)) (je_A G) s s.heap := h.2.2.1.2.1
theorem je_zDC (h : je_O G s) : va_Z "java/util/ArrayList" "DEFAULTCAPACITY_EMPTY_ELEMENTDATA" "[Ljava/lang/Object;" (.ref (G.2.2.2.1 6)) (je_A G) s s.heap := h.2.2.1.2.2.1
theorem je_zUS (h : je_O G s) : va_Z "java/lang/Throwable" "UNASSIGNED_STACK" "[Ljava/lang/StackTraceElement;" (va_rf (G.2.2.2.2 0)) (je_A G) s s.heap := h.2.2.1.2.2.2.1
theorem je_zSS (h : je_O G s) : va_Z "java/lang/Throwable" "SUPPRESSED_SENTINEL" "Ljava/util/List;" (va_rf (G.2.2.2.2 1)) (je_A G) s s.heap := h.2.2.1.2.2.2.2

theorem je_ldcS (C : Cx p s m args meth c G own cc nL rt) {i index : Nat} {tx : String} (hR : vk_R own index tx (G.2.2.2.1 i) s) (d : decode cc pc = .ok (.ldc index, 2)) (n : Nat) (hn : pc + 2 = n) (k : Js p l e R s m args below meth c G nL Q σ sz cells slots n L (.ref (G.2.2.2.1 i) :: st)) : Js p l e R s m args below meth c G nL Q σ sz cells slots pc L st := by
  subst hn
  exact fun H locs ls hW hS hl => va_ldcS C.1 C.2.1 C.2.2.2.2.1 hR d (k H locs ls hW hS hl)
theorem je_gets (C : Cx p s m args meth c G own cc nL rt) {Cn nm ds ref : String} {v : Value} {index : Nat} (hZ : va_Z Cn nm ds v (je_A G) s s.heap) (hq : Cond.fieldLink own index ref nm ds ∈ lw_all) (hsame : Cn = ref) (d : decode cc pc = .ok (.getstatic index, 3)) (n : Nat) (hn : pc + 3 = n) (k : Js p l e R s m args below meth c G nL Q σ sz cells slots n L (v :: st)) : Js p l e R s m args below meth c G nL Q σ sz cells slots pc L st := by
  subst hn; subst hsame
  exact fun H locs ls hW hS hl => va_gets C.1 C.2.1 hZ hS C.2.2.2.2.1 (C.2.2.2.1 _ hq) (fun _ h9 => h9) d (k H locs ls hW hS hl)
theorem je_Sval (C : Cx p s m args meth c G own cc nL rt) {i index : Nat} (hi : i < 3) (hq : Cond.fieldLink own index "java/lang/String" "value" "[B" ∈ lw_all) (d : decode cc pc = .ok (.getfield index, 3)) (n : Nat) (hn : pc + 3 = n) (k : Js p l e R s m args below meth c G nL Q σ sz cells slots n L (.ref (G.2.2.2.1 (3 + i)) :: st)) : Js p l e R s m args below meth c G nL Q σ sz cells slots pc L (.ref (G.2.2.2.1 i) :: st) := by
  subst hn
  exact fun H locs ls hW hS hl => vk_getf C.1 C.2.1 (C.2.2.2.2.2.2.2.2.1.1 i hi).2.2.1 hS C.2.2.2.2.1 (C.2.2.2.1 _ hq) (fun _ h9 => h9) d (k H locs ls hW hS hl)
theorem je_Scod (C : Cx p s m args meth c G own cc nL rt) {i index : Nat} (hi : i < 3) (hq : Cond.fieldLink own index "java/lang/String" "coder" "B" ∈ lw_all) (d : decode cc pc = .ok (.getfield index, 3)) (n : Nat) (hn : pc + 3 = n) (k : Js p l e R s m args below meth c G nL Q σ sz cells slots n L (.int 0 :: st)) : Js p l e R s m args below meth c G nL Q σ sz cells slots pc L (.ref (G.2.2.2.1 i) :: st) := by
  subst hn
  exact fun H locs ls hW hS hl => vk_getf C.1 C.2.1 (C.2.2.2.2.2.2.2.2.1.1 i hi).2.1 hS C.2.2.2.2.1 (C.2.2.2.1 _ hq) (fun _ h9 => h9) d (k H locs ls hW hS hl)
theorem je_Slen (C : Cx p s m args meth c G own cc nL rt) {i : Nat} (hi : i < 3) (d : decode cc pc = .ok (.arraylength, 1)) (n : Nat) (hn : pc + 1 = n) (k : Js p l e R s m args below meth c G nL Q σ sz cells slots n L (.int (Int32.ofNat (lenS.getD i 0)) :: st)) : Js p l e R s m args below meth c G nL Q σ sz cells slots pc L (.ref (G.2.2.2.1 (3 + i)) :: st) := by
  subst hn
  exact fun H locs ls hW hS hl => va_tlen C.1 C.2.1 (C.2.2.2.2.2.2.2.2.1.1 i hi).2.2.2 hS rfl d (k H locs ls hW hS hl)
theorem je_Sbald (C : Cx p s m args meth c G own cc nL rt) {i : Nat} {x : Int32} (hi : i < 3) (d : decode cc pc = .ok (.baload, 1)) (n : Nat) (hn : pc + 1 = n) (hin : vp_in x (lenS.getD i 0)) (k : Js p l e R s m args below meth c G nL Q σ sz cells slots n L (.int ((bytS.getD i []).getD x.toNatClampNeg 0) :: st)) : Js p l e R s m args below meth c G nL Q σ sz cells slots pc L (.int x :: .ref (G.2.2.2.1 (3 + i)) :: st) := by
  subst hn
  exact fun H locs ls hW hS hl => va_tb C.1 C.2.1 (C.2.2.2.2.2.2.2.2.1.1 i hi).2.2.2 hS hin rfl d (k H locs ls hW hS hl)
theorem je_aloadR_n (C : Cx p s m args meth c G own cc nL rt) {k : Fin 4} {x : Option Nat} (d : decode cc pc = .ok (.aload_n k, 1)) (n : Nat) (hn : pc + 1 = n) (q : Nat) (hl0 : L[q]? = some ((k : Nat), va_rf x)) (kk : Js p l e R s m args below meth c G nL Q σ sz cells slots n L (va_rf x :: st)) : Js p l e R s m args below meth c G nL Q σ sz cells slots pc L st := by
  subst hn
  cases x with
  | none => exact fun H locs ls hW hS hl => lv_aload_nN C.1 C.2.1 d rfl (lv_at hl q hl0) (kk H locs ls hW hS hl)
  | some a => exact fun H locs ls hW hS hl => lv_aload_n C.1 C.2.1 d rfl (lv_at hl q hl0) (kk H locs ls hW hS hl)
theorem je_aloadR (C : Cx p s m args meth c G own cc nL rt) {i : Nat} {x : Option Nat} (d : decode cc pc = .ok (.aload i, 2)) (n : Nat) (hn : pc + 2 = n) (q : Nat) (hl0 : L[q]? = some (i, va_rf x)) (kk : Js p l e R s m args below meth c G nL Q σ sz cells slots n L (va_rf x :: st)) : Js p l e R s m args below meth c G nL Q σ sz cells slots pc L st := by
  subst hn
  cases x with
  | none => exact fun H locs ls hW hS hl => lv_aloadN C.1 C.2.1 d (lv_at hl q hl0) (kk H locs ls hW hS hl)
  | some a => exact fun H locs ls hW hS hl => lv_aload C.1 C.2.1 d (lv_at hl q hl0) (kk H locs ls hW hS hl)
theorem je_popR (C : Cx p s m args meth c G own cc nL rt) {x : Option Nat} (d : decode cc pc = .ok (.pop, 1)) (n : Nat) (hn : pc + 1 = n) (k : Js p l e R s m args below meth c G nL Q σ sz cells slots n L st) : Js p l e R s m args below meth c G nL Q σ sz cells slots pc L (va_rf x :: st) := by
  subst hn
  exact fun H locs ls hW hS hl => lv_pop C.1 C.2.1 d (by cases x <;> rfl) (k H locs ls hW hS hl)

variable {σ' : Nat → Option je_E} {sz' mc ms fr lo maxL : Nat} {y : MethodName} {bytes : ByteArray} {ret : Option FieldType} {As rest : List Value} {o : Option Value}
theorem je_call {st0 : List Value} (hr : ∀ (H : Heap) (locs : List Loc) (ls : Array Slot), Wd G σ sz H → va_S (je_A G) s.heap H locs → lv_has ls nL L → va_Run p l e R s m args below meth c H locs cells slots mc ms (F0 m pc ls st0) rest (je_Q G o σ' sz' #[]) (je_A G)) (n : Nat) (hn : pc + 3 = n) (kk : Js p l e R s m args below meth c G nL Q σ' sz' (cells + mc) (slots + ms) n L (o.toList ++ rest)) : Js p l e R s m args below meth c G nL Q σ sz cells slots pc L st0 := by
  subst hn
  intro H locs ls hW hS hl T hT X0
  obtain ⟨v, st₀, t, T', L2, h0, X', hL, e1, e2, ⟨hv, hW', hz, hk⟩, stp⟩ := hr H locs ls hW hS hl T hT X0
  cases hv
  rw [h0] at hz hk
  obtain ⟨t2, a1, b1⟩ := kk T'.heap (locs ++ L2) ls (by rw [e1]; exact hW') ⟨Nat.le_trans hS.1 (by rw [e1]; exact hz), fun q h1 h2 => by rw [e1, hk q (Nat.lt_of_lt_of_le h1 hS.1) h2]; exact hS.2.1 q h1 h2, fun q hq => by
    rcases List.mem_append.mp hq with h | h
    · exact hS.2.2 q h
    · exact hL q h⟩ hl T' rfl X'
  exact ⟨t2, stp t2 a1, b1⟩
def je_hd (y : MethodName) (n : Nat) : Prop := y.cls ≠ "java/lang/invoke/MethodHandle" ∧ y.cls ≠ "java/lang/invoke/VarHandle" ∧ (parseMethodDescriptor y.desc).map (fun d => d.parameters.length) = some n
theorem je_callV (C : Cx p s m args meth c G own cc nL rt) {Cn : String} {T : u_T} {N ci index j nA : Nat} {V : Nat → Value} (hM : MetS l G y bytes maxL ret fr lo mc ms (.ref (G.2.1 + j) :: As) σ sz o σ' sz') (he : σ j = some (.inr (ci, V))) (hc : vwCl[ci]? = some (Cn, T, N)) (hd : je_hd y nA) (hy : y.cls = Cn) (hw : GoodIn lw_all (wsV own index Cn y (ws_ y bytes maxL ret))) (hn2 : As.length = nA) (hR : fr + 1 ≤ R.frames ∧ 8 + (maxL + 11) + lo ≤ R.locals) (hf : cells + mc ≤ R.cells ∧ slots + ms ≤ R.slots) (hrm : (rest.map fun v => v.category).sum ≤ 8) (d : decode cc pc = .ok (.invokevirtual index, 3)) (n : Nat) (hn : pc + 3 = n) (kk : Js p l e R s m args below meth c G nL Q σ' sz' (cells + mc) (slots + ms) n L (o.toList ++ rest)) : Js p l e R s m args below meth c G nL Q σ sz cells slots pc L (As.reverse ++ .ref (G.2.1 + j) :: rest) :=
  je_call (fun H locs ls hW hS hl => va_runV (C := Cn) (As := As) (rest := rest) ⟨C.1, C.2.1, C.2.2.1, C.2.2.2.2.1, C.2.2.2.1⟩ hM (cwV nA C.2.2.2.1 hw rfl rfl rfl ⟨hy, hd⟩ hR) ⟨je_blind, by
    obtain ⟨r0, h1, cell, q1, q2, q3, -⟩ := hW.2 j _ he
    exact ⟨cell, q1, by rw [q3]; rfl, by rw [q2]; exact (C.2.2.2.2.2.2.2.1.1.1 ci _ hc).2.1⟩, fun U hU hW2 => ⟨rfl, by rw [hU]; exact hW, je_K.moved hW2.alike hW2 C.2.2.2.2.2.2.2.1, je_O.at (by rw [hU]; exact hS) hW2 C.2.2.2.2.2.2.2.2⟩⟩ rfl hn2 hl.1 rfl (lv_room hrm) d hf) n hn kk
theorem je_callS (C : Cx p s m args meth c G own cc nL rt) {index nA : Nat} (hM : MetS l G y bytes maxL ret fr lo mc ms As σ sz o σ' sz') (hd : je_hd y nA) (hw : GoodIn lw_all (va_wsS own index y (ws_ y bytes maxL ret))) (hn2 : As.length = nA) (hR : fr + 1 ≤ R.frames ∧ 8 + (maxL + 11) + lo ≤ R.locals) (hf : cells + mc ≤ R.cells ∧ slots + ms ≤ R.slots) (hrm : (rest.map fun v => v.category).sum ≤ 8) (d : decode cc pc = .ok (.invokestatic index, 3)) (n : Nat) (hn : pc + 3 = n) (kk : Js p l e R s m args below meth c G nL Q σ' sz' (cells + mc) (slots + ms) n L (o.toList ++ rest)) : Js p l e R s m args below meth c G nL Q σ sz cells slots pc L (As.reverse ++ rest) :=
  je_call (fun H locs ls hW hS hl => va_runS (As := As) (rest := rest) ⟨C.1, C.2.1, C.2.2.1, C.2.2.2.2.1, C.2.2.2.1⟩ hM (va_cwS nA C.2.2.2.1 hw rfl rfl rfl hd hR) ⟨je_blind, fun U hU hW2 => ⟨rfl, by rw [hU]; exact hW, je_K.moved hW2.alike hW2 C.2.2.2.2.2.2.2.1, je_O.at (by rw [hU]; exact hS) hW2 C.2.2.2.2.2.2.2.2⟩⟩ rfl hn2 hl.1 rfl (lv_room hrm) d hf) n hn kk

theorem je_callSt (C : Cx p s m args meth c G own cc nL rt) {index i nA : Nat} (hi : i < 3) (hM : MetS l G y bytes maxL ret fr lo mc ms (.ref (G.2.2.2.1 i) :: As) σ sz o σ' sz') (hd : je_hd y nA) (hy : y.cls = "java/lang/String") (hw : GoodIn lw_all (wsV own index "java/lang/String" y (ws_ y bytes maxL ret))) (hn2 : As.length = nA) (hR : fr + 1 ≤ R.frames ∧ 8 + (maxL + 11) + lo ≤ R.locals) (hf : cells + mc ≤ R.cells ∧ slots + ms ≤ R.slots) (hrm : (rest.map fun v => v.category).sum ≤ 8) (d : decode cc pc = .ok (.invokevirtual index, 3)) (n : Nat) (hn : pc + 3 = n) (kk : Js p l e R s m args below meth c G nL Q σ' sz' (cells + mc) (slots + ms) n L (o.toList ++ rest)) : Js p l e R s m args below meth c G nL Q σ sz cells slots pc L (As.reverse ++ .ref (G.2.2.2.1 i) :: rest) :=
  je_call (fun H locs ls hW hS hl => va_runV (C := "java/lang/String") (As := As) (rest := rest) ⟨C.1, C.2.1, C.2.2.1, C.2.2.2.2.1, C.2.2.2.1⟩ hM (cwV nA C.2.2.2.1 hw rfl rfl rfl ⟨hy, hd⟩ hR) ⟨je_blind, vk_recv C.2.2.2.2.2.2.2.2.1 hi hS, fun U hU hW2 => ⟨rfl, by rw [hU]; exact hW, je_K.moved hW2.alike hW2 C.2.2.2.2.2.2.2.1, je_O.at (by rw [hU]; exact hS) hW2 C.2.2.2.2.2.2.2.2⟩⟩ rfl hn2 hl.1 rfl (lv_room hrm) d hf) n hn kk
theorem je_callSti (C : Cx p s m args meth c G own cc nL rt) {index i nA : Nat} {v : Int32} (hi : i < 3) (hM : MetS l G y bytes maxL ret fr lo 0 0 (.ref (G.2.2.2.1 i) :: As) σ sz (some (.int v)) σ' sz') (hd : je_hd y nA) (hy : y.cls = "java/lang/String") (hw : GoodIn lw_all (wsV own index "java/lang/String" y (ws_ y bytes maxL ret))) (hn2 : As.length = nA) (hR : fr + 1 ≤ R.frames ∧ 8 + (maxL + 11) + lo ≤ R.locals) (hrm : (rest.map fun v => v.category).sum ≤ 8) (d : decode cc pc = .ok (.invokevirtual index, 3)) (n : Nat) (hn : pc + 3 = n) (hf : cells ≤ R.cells ∧ slots ≤ R.slots) (kk : Js p l e R s m args below meth c G nL Q σ' sz' cells slots n L (.int v :: rest)) : Js p l e R s m args below meth c G nL Q σ sz cells slots pc L (As.reverse ++ .ref (G.2.2.2.1 i) :: rest) := je_callSt C hi hM hd hy hw hn2 hR hf hrm d n hn kk
theorem je_callVN (C : Cx p s m args meth c G own cc nL rt) {Cn host : String} {T : u_T} {N ci index j nA : Nat} {V : Nat → Value} (hM : MetS l G y bytes maxL ret fr lo mc ms (.ref (G.2.1 + j) :: As) σ sz o σ' sz') (he : σ j = some (.inr (ci, V))) (hc : vwCl[ci]? = some (Cn, T, N)) (hd : je_hd y nA) (hy : y.cls = Cn) (hw : (Cond.methodLinkNest own index y host ∈ lw_tbl ∧ Cond.initialized y.cls ∈ lw_all) ∧ Cond.code y bytes maxL ret ∈ lw_all ∧ Cond.instanceMethod y ∈ lw_all ∧ Cond.selects Cn y y ∈ lw_all) (hn2 : As.length = nA) (hR : fr + 1 ≤ R.frames ∧ 8 + (maxL + 11) + lo ≤ R.locals) (hf : cells + mc ≤ R.cells ∧ slots + ms ≤ R.slots) (hrm : (rest.map fun v => v.category).sum ≤ 8) (d : decode cc pc = .ok (.invokevirtual index, 3)) (n : Nat) (hn : pc + 3 = n) (kk : Js p l e R s m args below meth c G nL Q σ' sz' (cells + mc) (slots + ms) n L (o.toList ++ rest)) : Js p l e R s m args below meth c G nL Q σ sz cells slots pc L (As.reverse ++ .ref (G.2.1 + j) :: rest) :=
  je_call (fun H locs ls hW hS hl => va_runVN (C := Cn) (host := host) (As := As) (rest := rest) ⟨C.1, C.2.1, C.2.2.1, C.2.2.2.2.1, C.2.2.2.1⟩ hM ⟨va_cnB nA C.2.2.2.1 (lw_meth hw.2.1) rfl rfl rfl (C.2.2.2.2.2.2.2.1.2.1 _ (nw_in hw.1.1 rfl)) (C.2.2.2.1 _ hw.1.2) hd hR, C.2.2.2.1 _ hw.2.2.1, C.2.2.2.1 _ hw.2.2.2⟩ ⟨je_blind, by
    obtain ⟨r0, h1, cell, q1, q2, q3, -⟩ := hW.2 j _ he
    exact ⟨cell, q1, by rw [q3]; rfl, by rw [q2]; exact (C.2.2.2.2.2.2.2.1.1.1 ci _ hc).2.1⟩, fun U hU hW2 => ⟨rfl, by rw [hU]; exact hW, je_K.moved hW2.alike hW2 C.2.2.2.2.2.2.2.1, je_O.at (by rw [hU]; exact hS) hW2 C.2.2.2.2.2.2.2.2⟩⟩ rfl hn2 hl.1 rfl (lv_room hrm) d hf) n hn kk
theorem je_callSN (C : Cx p s m args meth c G own cc nL rt) {host : String} {index nA : Nat} (hM : MetS l G y bytes maxL ret fr lo mc ms As σ sz o σ' sz') (hd : je_hd y nA) (hw : (Cond.methodLinkNest own index y host ∈ lw_tbl ∧ Cond.initialized y.cls ∈ lw_all) ∧ Cond.code y bytes maxL ret ∈ lw_all ∧ Cond.static y ∈ lw_all) (hn2 : As.length = nA) (hR : fr + 1 ≤ R.frames ∧ 8 + (maxL + 11) + lo ≤ R.locals) (hf : cells + mc ≤ R.cells ∧ slots + ms ≤ R.slots) (hrm : (rest.map fun v => v.category).sum ≤ 8) (d : decode cc pc = .ok (.invokestatic index, 3)) (n : Nat) (hn : pc + 3 = n) (kk : Js p l e R s m args below meth c G nL Q σ' sz' (cells + mc) (slots + ms) n L (o.toList ++ rest)) : Js p l e R s m args below meth c G nL Q σ sz cells slots pc L (As.reverse ++ rest) :=
  je_call (fun H locs ls hW hS hl => va_runSN (host := host) (As := As) (rest := rest) ⟨C.1, C.2.1, C.2.2.1, C.2.2.2.2.1, C.2.2.2.1⟩ hM ⟨va_cnB nA C.2.2.2.1 (lw_meth hw.2.1) rfl rfl rfl (C.2.2.2.2.2.2.2.1.2.1 _ (nw_in hw.1.1 rfl)) (C.2.2.2.1 _ hw.1.2) hd hR, C.2.2.2.1 _ hw.2.2, trivial⟩ ⟨je_blind, fun U hU hW2 => ⟨rfl, by rw [hU]; exact hW, je_K.moved hW2.alike hW2 C.2.2.2.2.2.2.2.1, je_O.at (by rw [hU]; exact hS) hW2 C.2.2.2.2.2.2.2.2⟩⟩ rfl hn2 hl.1 rfl (lv_room hrm) d hf) n hn kk
theorem je_callVNi (C : Cx p s m args meth c G own cc nL rt) {Cn host : String} {T : u_T} {N ci index j nA : Nat} {V : Nat → Value} {v : Int32} (hM : MetS l G y bytes maxL ret fr lo 0 0 (.ref (G.2.1 + j) :: As) σ sz (some (.int v)) σ' sz') (he : σ j = some (.inr (ci, V))) (hc : vwCl[ci]? = some (Cn, T, N)) (hd : je_hd y nA) (hy : y.cls = Cn) (hw : (Cond.methodLinkNest own index y host ∈ lw_tbl ∧ Cond.initialized y.cls ∈ lw_all) ∧ Cond.code y bytes maxL ret ∈ lw_all ∧ Cond.instanceMethod y ∈ lw_all ∧ Cond.selects Cn y y ∈ lw_all) (hn2 : As.length = nA) (hR : fr + 1 ≤ R.frames ∧ 8 + (maxL + 11) + lo ≤ R.locals) (hrm : (rest.map fun v => v.category).sum ≤ 8) (d : decode cc pc = .ok (.invokevirtual index, 3)) (n : Nat) (hn : pc + 3 = n) (hf : cells ≤ R.cells ∧ slots ≤ R.slots) (kk : Js p l e R s m args below meth c G nL Q σ' sz' cells slots n L (.int v :: rest)) : Js p l e R s m args below meth c G nL Q σ sz cells slots pc L (As.reverse ++ .ref (G.2.1 + j) :: rest) := je_callVN C hM he hc hd hy hw hn2 hR hf hrm d n hn kk
theorem je_callSNi (C : Cx p s m args meth c G own cc nL rt) {host : String} {index nA : Nat} {v : Int32} (hM : MetS l G y bytes maxL ret fr lo 0 0 As σ sz (some (.int v)) σ' sz') (hd : je_hd y nA) (hw : (Cond.methodLinkNest own index y host ∈ lw_tbl ∧ Cond.initialized y.cls ∈ lw_all) ∧ Cond.code y bytes maxL ret ∈ lw_all ∧ Cond.static y ∈ lw_all) (hn2 : As.length = nA) (hR : fr + 1 ≤ R.frames ∧ 8 + (maxL + 11) + lo ≤ R.locals) (hrm : (rest.map fun v => v.category).sum ≤ 8) (d : decode cc pc = .ok (.invokestatic index, 3)) (n : Nat) (hn : pc + 3 = n) (hf : cells ≤ R.cells ∧ slots ≤ R.slots) (kk : Js p l e R s m args below meth c G nL Q σ' sz' cells slots n L (.int v :: rest)) : Js p l e R s m args below meth c G nL Q σ sz cells slots pc L (As.reverse ++ rest) := je_callSN C hM hd hw hn2 hR hf hrm d n hn kk
theorem je_callVNl (C : Cx p s m args meth c G own cc nL rt) {Cn host : String} {T : u_T} {N ci index j nA : Nat} {V : Nat → Value} {v : Int64} (hM : MetS l G y bytes maxL ret fr lo 0 0 (.ref (G.2.1 + j) :: As) σ sz (some (.long v)) σ' sz') (he : σ j = some (.inr (ci, V))) (hc : vwCl[ci]? = some (Cn, T, N)) (hd : je_hd y nA) (hy : y.cls = Cn) (hw : (Cond.methodLinkNest own index y host ∈ lw_tbl ∧ Cond.initialized y.cls ∈ lw_all) ∧ Cond.code y bytes maxL ret ∈ lw_all ∧ Cond.instanceMethod y ∈ lw_all ∧ Cond.selects Cn y y ∈ lw_all) (hn2 : As.length = nA) (hR : fr + 1 ≤ R.frames ∧ 8 + (maxL + 11) + lo ≤ R.locals) (hrm : (rest.map fun v => v.category).sum ≤ 8) (d : decode cc pc = .ok (.invokevirtual index, 3)) (n : Nat) (hn : pc + 3 = n) (hf : cells ≤ R.cells ∧ slots ≤ R.slots) (kk : Js p l e R s m args below meth c G nL Q σ' sz' cells slots n L (.long v :: rest)) : Js p l e R s m args below meth c G nL Q σ sz cells slots pc L (As.reverse ++ .ref (G.2.1 + j) :: rest) := je_callVN C hM he hc hd hy hw hn2 hR hf hrm d n hn kk
theorem je_callSNl (C : Cx p s m args meth c G own cc nL rt) {host : String} {index nA : Nat} {v : Int64} (hM : MetS l G y bytes maxL ret fr lo 0 0 As σ sz (some (.long v)) σ' sz') (hd : je_hd y nA) (hw : (Cond.methodLinkNest own index y host ∈ lw_tbl ∧ Cond.initialized y.cls ∈ lw_all) ∧ Cond.code y bytes maxL ret ∈ lw_all ∧ Cond.static y ∈ lw_all) (hn2 : As.length = nA) (hR : fr + 1 ≤ R.frames ∧ 8 + (maxL + 11) + lo ≤ R.locals) (hrm : (rest.map fun v => v.category).sum ≤ 8) (d : decode cc pc = .ok (.invokestatic index, 3)) (n : Nat) (hn : pc + 3 = n) (hf : cells ≤ R.cells ∧ slots ≤ R.slots) (kk : Js p l e R s m args below meth c G nL Q σ' sz' cells slots n L (.long v :: rest)) : Js p l e R s m args below meth c G nL Q σ sz cells slots pc L (As.reverse ++ rest) := je_callSN C hM hd hw hn2 hR hf hrm d n hn kk
theorem je_callVNv (C : Cx p s m args meth c G own cc nL rt) {Cn host : String} {T : u_T} {N ci index j nA : Nat} {V : Nat → Value} (hM : MetS l G y bytes maxL ret fr lo 0 0 (.ref (G.2.1 + j) :: As) σ sz none σ' sz') (he : σ j = some (.inr (ci, V))) (hc : vwCl[ci]? = some (Cn, T, N)) (hd : je_hd y nA) (hy : y.cls = Cn) (hw : (Cond.methodLinkNest own index y host ∈ lw_tbl ∧ Cond.initialized y.cls ∈ lw_all) ∧ Cond.code y bytes maxL ret ∈ lw_all ∧ Cond.instanceMethod y ∈ lw_all ∧ Cond.selects Cn y y ∈ lw_all) (hn2 : As.length = nA) (hR : fr + 1 ≤ R.frames ∧ 8 + (maxL + 11) + lo ≤ R.locals) (hrm : (rest.map fun v => v.category).sum ≤ 8) (d : decode cc pc = .ok (.invokevirtual index, 3)) (n : Nat) (hn : pc + 3 = n) (hf : cells ≤ R.cells ∧ slots ≤ R.slots) (kk : Js p l e R s m args below meth c G nL Q σ' sz' cells slots n L rest) : Js p l e R s m args below meth c G nL Q σ sz cells slots pc L (As.reverse ++ .ref (G.2.1 + j) :: rest) := je_callVN C hM he hc hd hy hw hn2 hR hf hrm d n hn kk
theorem je_callSNv (C : Cx p s m args meth c G own cc nL rt) {host : String} {index nA : Nat} (hM : MetS l G y bytes maxL ret fr lo 0 0 As σ sz none σ' sz') (hd : je_hd y nA) (hw : (Cond.methodLinkNest own index y host ∈ lw_tbl ∧ Cond.initialized y.cls ∈ lw_all) ∧ Cond.code y bytes maxL ret ∈ lw_all ∧ Cond.static y ∈ lw_all) (hn2 : As.length = nA) (hR : fr + 1 ≤ R.frames ∧ 8 + (maxL + 11) + lo ≤ R.locals) (hrm : (rest.map fun v => v.category).sum ≤ 8) (d : decode cc pc = .ok (.invokestatic index, 3)) (n : Nat) (hn : pc + 3 = n) (hf : cells ≤ R.cells ∧ slots ≤ R.slots) (kk : Js p l e R s m args below meth c G nL Q σ' sz' cells slots n L rest) : Js p l e R s m args below meth c G nL Q σ sz cells slots pc L (As.reverse ++ rest) := je_callSN C hM hd hw hn2 hR hf hrm d n hn kk
theorem je_callVi (C : Cx p s m args meth c G own cc nL rt) {Cn : String} {T : u_T} {N ci index j nA : Nat} {V : Nat → Value} {v : Int32} (hM : MetS l G y bytes maxL ret fr lo 0 0 (.ref (G.2.1 + j) :: As) σ sz (some (.int v)) σ' sz') (he : σ j = some (.inr (ci, V))) (hc : vwCl[ci]? = some (Cn, T, N)) (hd : je_hd y nA) (hy : y.cls = Cn) (hw : GoodIn lw_all (wsV own index Cn y (ws_ y bytes maxL ret))) (hn2 : As.length = nA) (hR : fr + 1 ≤ R.frames ∧ 8 + (maxL + 11) + lo ≤ R.locals) (hrm : (rest.map fun v => v.category).sum ≤ 8) (d : decode cc pc = .ok (.invokevirtual index, 3)) (n : Nat) (hn : pc + 3 = n) (hf : cells ≤ R.cells ∧ slots ≤ R.slots) (kk : Js p l e R s m args below meth c G nL Q σ' sz' cells slots n L (.int v :: rest)) : Js p l e R s m args below meth c G nL Q σ sz cells slots pc L (As.reverse ++ .ref (G.2.1 + j) :: rest) := je_callV C hM he hc hd hy hw hn2 hR hf hrm d n hn kk
theorem je_callSi (C : Cx p s m args meth c G own cc nL rt) {index nA : Nat} {v : Int32} (hM : MetS l G y bytes maxL ret fr lo 0 0 As σ sz (some (.int v)) σ' sz') (hd : je_hd y nA) (hw : GoodIn lw_all (va_wsS own index y (ws_ y bytes maxL ret))) (hn2 : As.length = nA) (hR : fr + 1 ≤ R.frames ∧ 8 + (maxL + 11) + lo ≤ R.locals) (hrm : (rest.map fun v => v.category).sum ≤ 8) (d : decode cc pc = .ok (.invokestatic index, 3)) (n : Nat) (hn : pc + 3 = n) (hf : cells ≤ R.cells ∧ slots ≤ R.slots) (kk : Js p l e R s m args below meth c G nL Q σ' sz' cells slots n L (.int v :: rest)) : Js p l e R s m args below meth c G nL Q σ sz cells slots pc L (As.reverse ++ rest) := je_callS C hM hd hw hn2 hR hf hrm d n hn kk
theorem je_callVl (C : Cx p s m args meth c G own cc nL rt) {Cn : String} {T : u_T} {N ci index j nA : Nat} {V : Nat → Value} {v : Int64} (hM : MetS l G y bytes maxL ret fr lo 0 0 (.ref (G.2.1 + j) :: As) σ sz (some (.long v)) σ' sz') (he : σ j = some (.inr (ci, V))) (hc : vwCl[ci]? = some (Cn, T, N)) (hd : je_hd y nA) (hy : y.cls = Cn) (hw : GoodIn lw_all (wsV own index Cn y (ws_ y bytes maxL ret))) (hn2 : As.length = nA) (hR : fr + 1 ≤ R.frames ∧ 8 + (maxL + 11) + lo ≤ R.locals) (hrm : (rest.map fun v => v.category).sum ≤ 8) (d : decode cc pc = .ok (.invokevirtual index, 3)) (n : Nat) (hn : pc + 3 = n) (hf : cells ≤ R.cells ∧ slots ≤ R.slots) (kk : Js p l e R s m args below meth c G nL Q σ' sz' cells slots n L (.long v :: rest)) : Js p l e R s m args below meth c G nL Q σ sz cells slots pc L (As.reverse ++ .ref (G.2.1 + j) :: rest) := je_callV C hM he hc hd hy hw hn2 hR hf hrm d n hn kk
theorem je_callSl (C : Cx p s m args meth c G own cc nL rt) {index nA : Nat} {v : Int64} (hM : MetS l G y bytes maxL ret fr lo 0 0 As σ sz (some (.long v)) σ' sz') (hd : je_hd y nA) (hw : GoodIn lw_all (va_wsS own index y (ws_ y bytes maxL ret))) (hn2 : As.length = nA) (hR : fr + 1 ≤ R.frames ∧ 8 + (maxL + 11) + lo ≤ R.locals) (hrm : (rest.map fun v => v.category).sum ≤ 8) (d : decode cc pc = .ok (.invokestatic index, 3)) (n : Nat) (hn : pc + 3 = n) (hf : cells ≤ R.cells ∧ slots ≤ R.slots) (kk : Js p l e R s m args below meth c G nL Q σ' sz' cells slots n L (.long v :: rest)) : Js p l e R s m args below meth c G nL Q σ sz cells slots pc L (As.reverse ++ rest) := je_callS C hM hd hw hn2 hR hf hrm d n hn kk
theorem je_callVv (C : Cx p s m args meth c G own cc nL rt) {Cn : String} {T : u_T} {N ci index j nA : Nat} {V : Nat → Value} (hM : MetS l G y bytes maxL ret fr lo 0 0 (.ref (G.2.1 + j) :: As) σ sz none σ' sz') (he : σ j = some (.inr (ci, V))) (hc : vwCl[ci]? = some (Cn, T, N)) (hd : je_hd y nA) (hy : y.cls = Cn) (hw : GoodIn lw_all (wsV own index Cn y (ws_ y bytes maxL ret))) (hn2 : As.length = nA) (hR : fr + 1 ≤ R.frames ∧ 8 + (maxL + 11) + lo ≤ R.locals) (hrm : (rest.map fun v => v.category).sum ≤ 8) (d : decode cc pc = .ok (.invokevirtual index, 3)) (n : Nat) (hn : pc + 3 = n) (hf : cells ≤ R.cells ∧ slots ≤ R.slots) (kk : Js p l e R s m args below meth c G nL Q σ' sz' cells slots n L rest) : Js p l e R s m args below meth c G nL Q σ sz cells slots pc L (As.reverse ++ .ref (G.2.1 + j) :: rest) := je_callV C hM he hc hd hy hw hn2 hR hf hrm d n hn kk
theorem je_callSv (C : Cx p s m args meth c G own cc nL rt) {index nA : Nat} (hM : MetS l G y bytes maxL ret fr lo 0 0 As σ sz none σ' sz') (hd : je_hd y nA) (hw : GoodIn lw_all (va_wsS own index y (ws_ y bytes maxL ret))) (hn2 : As.length = nA) (hR : fr + 1 ≤ R.frames ∧ 8 + (maxL + 11) + lo ≤ R.locals) (hrm : (rest.map fun v => v.category).sum ≤ 8) (d : decode cc pc = .ok (.invokestatic index, 3)) (n : Nat) (hn : pc + 3 = n) (hf : cells ≤ R.cells ∧ slots ≤ R.slots) (kk : Js p l e R s m args below meth c G nL Q σ' sz' cells slots n L rest) : Js p l e R s m args below meth c G nL Q σ sz cells slots pc L (As.reverse ++ rest) := je_callS C hM hd hw hn2 hR hf hrm d n hn kk
theorem je_mmax (C : Cx p s m args meth c G own cc nL rt) {x y : Int32} {index : Nat} (hR : 1 ≤ R.frames ∧ 8 + 15 ≤ R.locals) (hrm : (st.map fun v => v.category).sum ≤ 8) (hq : Cond.methodLink own index Lib.Math.max.name ∈ lw_all ∧ Cond.static Lib.Math.max.name ∈ lw_all ∧ Cond.initialized "java/lang/Math" ∈ lw_all ∧ Cond.code Lib.Math.max.name Lib.Math.max.code 2 (some .int) ∈ lw_all) (d : decode cc pc = .ok (.invokestatic index, 3)) (n : Nat) (hn : pc + 3 = n) (hf : cells ≤ R.cells ∧ slots ≤ R.slots) (k : Js p l e R s m args below meth c G nL Q σ sz cells slots n L (.int (if x < y then y else x) :: st)) : Js p l e R s m args below meth c G nL Q σ sz cells slots pc L (.int y :: .int x :: st) := by
  subst hn
  exact fun H locs ls hW hS hl => va_mmax C.1 C.2.1 (C.2.2.1.trans hl.1.symm) C.2.2.2.2.1 (C.2.2.2.1 _ hq.1) (C.2.2.2.1 _ hq.2.1) (C.2.2.2.1 _ hq.2.2.1) (C.2.2.2.1 _ hq.2.2.2) hR.1 (by omega) hf.1 hf.2 d (k H locs ls hW hS hl)
theorem je_mmin (C : Cx p s m args meth c G own cc nL rt) {x y : Int32} {index : Nat} (hR : 1 ≤ R.frames ∧ 8 + 15 ≤ R.locals) (hrm : (st.map fun v => v.category).sum ≤ 8) (hq : Cond.methodLink own index Lib.Math.min.name ∈ lw_all ∧ Cond.static Lib.Math.min.name ∈ lw_all ∧ Cond.initialized "java/lang/Math" ∈ lw_all ∧ Cond.code Lib.Math.min.name Lib.Math.min.code 2 (some .int) ∈ lw_all) (d : decode cc pc = .ok (.invokestatic index, 3)) (n : Nat) (hn : pc + 3 = n) (hf : cells ≤ R.cells ∧ slots ≤ R.slots) (k : Js p l e R s m args below meth c G nL Q σ sz cells slots n L (.int (if y < x then y else x) :: st)) : Js p l e R s m args below meth c G nL Q σ sz cells slots pc L (.int y :: .int x :: st) := by
  subst hn
  exact fun H locs ls hW hS hl => va_mmin C.1 C.2.1 (C.2.2.1.trans hl.1.symm) C.2.2.2.2.1 (C.2.2.2.1 _ hq.1) (C.2.2.2.1 _ hq.2.1) (C.2.2.2.1 _ hq.2.2.1) (C.2.2.2.1 _ hq.2.2.2) hR.1 (by omega) hf.1 hf.2 d (k H locs ls hW hS hl)
theorem je_mmax_long (C : Cx p s m args meth c G own cc nL rt) {x y : Int64} {index : Nat} (hR : 1 ≤ R.frames ∧ 8 + 15 ≤ R.locals) (hrm : (st.map fun v => v.category).sum ≤ 8) (hq : Cond.methodLink own index Lib.MathLoose.max_long.x ∈ lw_all ∧ Cond.static Lib.MathLoose.max_long.x ∈ lw_all ∧ Cond.initialized "java/lang/Math" ∈ lw_all ∧ Cond.code Lib.MathLoose.max_long.x Lib.MathLoose.max_long.code 4 (some .long) ∈ lw_all) (d : decode cc pc = .ok (.invokestatic index, 3)) (n : Nat) (hn : pc + 3 = n) (hf : cells ≤ R.cells ∧ slots ≤ R.slots) (k : Js p l e R s m args below meth c G nL Q σ sz cells slots n L (.long (if y < x then x else y) :: st)) : Js p l e R s m args below meth c G nL Q σ sz cells slots pc L (.long y :: .long x :: st) := by
  subst hn
  exact fun H locs ls hW hS hl => va_mmax_long C.1 C.2.1 (C.2.2.1.trans hl.1.symm) C.2.2.2.2.1 (C.2.2.2.1 _ hq.1) (C.2.2.2.1 _ hq.2.1) (C.2.2.2.1 _ hq.2.2.1) (C.2.2.2.1 _ hq.2.2.2) hR.1 (by omega) hf.1 hf.2 d (k H locs ls hW hS hl)
theorem je_mabs_long (C : Cx p s m args meth c G own cc nL rt) {x : Int64} {index : Nat} (hR : 1 ≤ R.frames ∧ 8 + 15 ≤ R.locals) (hrm : (st.map fun v => v.category).sum ≤ 8) (hq : Cond.methodLink own index Lib.MathLoose.abs_long.x ∈ lw_all ∧ Cond.static Lib.MathLoose.abs_long.x ∈ lw_all ∧ Cond.initialized "java/lang/Math" ∈ lw_all ∧ Cond.code Lib.MathLoose.abs_long.x Lib.MathLoose.abs_long.code 2 (some .long) ∈ lw_all) (d : decode cc pc = .ok (.invokestatic index, 3)) (n : Nat) (hn : pc + 3 = n) (hf : cells ≤ R.cells ∧ slots ≤ R.slots) (k : Js p l e R s m args below meth c G nL Q σ sz cells slots n L (.long (if 0 < x then x else -x) :: st)) : Js p l e R s m args below meth c G nL Q σ sz cells slots pc L (.long x :: st) := by
  subst hn
  exact fun H locs ls hW hS hl => va_mabs_long C.1 C.2.1 (C.2.2.1.trans hl.1.symm) C.2.2.2.2.1 (C.2.2.2.1 _ hq.1) (C.2.2.2.1 _ hq.2.1) (C.2.2.2.1 _ hq.2.2.1) (C.2.2.2.1 _ hq.2.2.2) hR.1 (by omega) hf.1 hf.2 d (k H locs ls hW hS hl)
end JE
/-- a contract out of a walk -/
theorem je_met {l : Launch} {G : je_G} {y : MethodName} {cc : ByteArray} {nL : Nat} {ret : Option FieldType} {fr lo mc ms : Nat} {av : List Value} {σ σ' : Nat → Option je_E} {sz sz' : Nat} {o : Option Value} (own : String) (hcls : y.cls = own) (hy : plainName y.cls = true) (hn : (lg_sl av).length ≤ nL) (L0 : List (Nat × Value)) (hL0 : lv_args 0 av = L0)
    (body : ∀ (p : Program) (e : Env) (s : State) (m : MethodId) (args : Array Value) (below : List Frame) (meth : Method) (c : Code), Cx p s m args meth c G own cc nL ret → Js p l e ({ frames := fr, cells := mc, slots := ms, locals := lo }) s m args below meth c G nL (MQ below (je_Q G o σ' sz') args s mc ms (je_A G)) σ sz 0 0 0 L0 []) : MetS l G y cc nL ret fr lo mc ms av σ sz o σ' sz' := by
  refine Met.ofW (cc := cc) (maxL := nL) (ret := ret) hy rfl ?_
  intro p e s m args below meth c s₁ B hml hv
  obtain ⟨rfl, hW, hK, hO⟩ := hv
  have hts := atoms_spec (ws := ws_ y cc nL ret) B.pre
  have hts : ∀ w ∈ lw_all, w.before _ s = true := fun w h => hts w (List.mem_cons_of_mem _ h)
  have hown : s.vm.findClass own = some m.cls := by rw [← hcls]; exact findClass_of_methodNamed B.named
  have hl := lv_entry av (n := nL) hn
  rw [lg_entry_eq]
  rw [hL0] at hl
  exact body p e s m _ below meth c ⟨B.exec, B.bytes, hml, hts, hown, B.returns, B.notSynchronized, hK, hO⟩ s.heap [] _ hW va_S.rf hl

