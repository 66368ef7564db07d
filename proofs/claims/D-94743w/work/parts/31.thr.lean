/-! OUR OWN: methods that may throw a Fault: contracts, rows. Printed by gen/mkthr.py -/
set_option maxRecDepth 100000
/-- store, next cell, budget used -/
abbrev hS : Type := (Nat → Option je_E) × Nat × Nat
abbrev hA : Type := (Nat × hS) ⊕ (Option Value × hS)
def DC : Nat := 900
def xQc (G : je_G) : hA → Array Value → State → Outcome → State → Prop
  | .inr z => je_Q G z.1 z.2.1 (G.2.1 + z.2.2.1)
  | .inl _ => fun _ _ _ _ => False
def xXC (G : je_G) : hA → String → Addr → State → State → Prop
  | .inl z => fun E a st u => E = "MinistryDesks$Fault" ∧ a = G.2.1 + z.1 ∧ Wd G z.2.1 (G.2.1 + z.2.2.1) u.heap ∧ va_F (je_A G) st u
  | .inr _ => fun _ _ _ _ => False
def hAc : hA → Nat
  | .inl z => z.2.2.2
  | .inr z => z.2.2.2
/-- a contract of a method that may throw: from the store t it ends as a says -/
def MetX (l : Launch) (G : je_G) (y : MethodName) (cc : ByteArray) (nL : Nat) (rt : Option FieldType) (fr lo : Nat) (av : List Value) (t : hS) (a : hA) : Prop :=
  vy_Met l y (ws_ y cc nL rt) ({ frames := fr, cells := DC - t.2.2, slots := 64 * (DC - t.2.2), locals := lo }) (je_P G t.1 (G.2.1 + t.2.1) av) (xQc G a) (xXC G a) (hAc a - t.2.2) (64 * (hAc a - t.2.2)) (je_A G)
/-- the end of a method that may throw -/
abbrev xMQ (below : List Frame) (G : je_G) (a : hA) (args : Array Value) (s : State) (c0 : Nat) : State → Prop := vy_MQ below (xQc G a) (xXC G a) args s (hAc a - c0) (64 * (hAc a - c0)) (je_A G)
def xI (z : (Nat × hS) ⊕ (Int32 × hS)) : hA := match z with
  | .inl q => .inl q
  | .inr w => .inr (some (.int w.1), w.2)
def xV (z : (Nat × hS) ⊕ (Unit × hS)) : hA := match z with
  | .inl q => .inl q
  | .inr w => .inr (none, w.2)
def xO (z : (Nat × hS) ⊕ (Option Nat × hS)) : hA := match z with
  | .inl q => .inl q
  | .inr w => .inr (some (va_rf w.1), w.2)
section JT
variable {p : Program} {l : Launch} {e : Env} {R : Room} {s : State} {m : MethodId} {args : Array Value} {below : List Frame} {meth : Method} {c : Code} {Q : State → Prop} {G : je_G} {own : String} {cc : ByteArray} {nL : Nat} {rt : Option FieldType} {σ : Nat → Option je_E} {sz cells slots pc : Nat} {L L' : List (Nat × Value)} {st : List Value}
variable {o : Option Value} {t9 : hS} {c0 : Nat}
theorem jx_ret {σ2 : Nat → Option je_E} {sz2 : Nat} (hc : c0 + cells = t9.2.2) (hsl : slots ≤ 64 * cells) (k : Js p l e R s m args below meth c G nL (MQ below (je_Q G o t9.1 (G.2.1 + t9.2.1)) args s cells (64 * cells) (je_A G)) σ2 sz2 cells (64 * cells) pc L st) : Js p l e R s m args below meth c G nL (xMQ below G (.inr (o, t9)) args s c0) σ2 sz2 cells slots pc L st := by
  have e : hAc (.inr (o, t9)) - c0 = cells := by show t9.2.2 - c0 = cells; omega
  unfold xMQ
  rw [e]
  exact fun H locs ls hW hS hl => W.widen (Nat.le_refl _) hsl (vy_ret (k H locs ls hW hS hl))
/-- a Fault thrown here, at cell j -/
theorem jx_athrow (C : Cx p s m args meth c G own cc nL rt) {ci j : Nat} {Vj : Nat → Value} {T : u_T} {N : Nat} (hnt : ∀ x ∈ c.exceptionTable.toList, False) (he : t9.1 j = some (.inr (ci, Vj))) (hcc : vwCl[ci]? = some ("MinistryDesks$Fault", T, N)) (hc : c0 + cells = t9.2.2) (hsl : slots ≤ 64 * cells) (d : decode cc pc = .ok (.athrow, 1)) : Js p l e R s m args below meth c G nL (xMQ below G (.inl (j, t9)) args s c0) (t9.1) (G.2.1 + t9.2.1) cells slots pc L (.ref (G.2.1 + j) :: st) := by
  have e : hAc (.inl (j, t9)) - c0 = cells := by show t9.2.2 - c0 = cells; omega
  unfold xMQ
  rw [e]
  intro H locs ls hW hS hl
  obtain ⟨r0, h1, cell, q1, q2, q3, -⟩ := hW.2 j _ he
  have hr : r0 = ("MinistryDesks$Fault", T, N) := Option.some.inj (h1.symm.trans hcc)
  subst hr
  refine vy_athrow C.1 C.2.1 d (vy_out (E := "MinistryDesks$Fault") (ce := cell) (fun x hx => absurd hx (fun h => hnt x h)) C.2.2.2.2.2.2.1 q1 q3 (by rw [q2]; exact (C.2.2.2.2.2.2.2.1.1.1 ci _ hcc).2.1) (fun u hu hal => ⟨rfl, rfl, by rw [hu]; exact hW, hS.F hu⟩) hS.2.2 (Nat.le_refl _) hsl)
theorem jx_callV (C : Cx p s m args meth c G own cc nL rt) {y : MethodName} {bytes : ByteArray} {ret : Option FieldType} {fr lo maxL : Nat} {As rest : List Value} {Cn : String} {T : u_T} {N ci index j nA : Nat} {Vj : Nat → Value} {t : hS} {a a9 : hA} (hM : MetX l G y bytes maxL ret fr lo (.ref (G.2.1 + j) :: As) t a) (he : t.1 j = some (.inr (ci, Vj))) (hcc : vwCl[ci]? = some (Cn, T, N)) (hd : je_hd y nA) (hy : y.cls = Cn) (hw : GoodIn lw_all (wsV own index Cn y (ws_ y bytes maxL ret))) (hn2 : As.length = nA) (hR : fr + 1 ≤ R.frames ∧ 8 + (maxL + 11) + lo ≤ R.locals) (hRc : R.cells = DC - c0 ∧ R.slots = 64 * (DC - c0)) (hc : c0 + cells = t.2.2 ∧ t.2.2 ≤ DC) (hsl : slots ≤ 64 * cells) (hrm : (rest.map fun v => v.category).sum ≤ 8) (hnt : ∀ x ∈ c.exceptionTable.toList, False) (d : decode cc pc = .ok (.invokevirtual index, 3)) (n : Nat) (hn : pc + 3 = n)
    (hca : t.2.2 ≤ hAc a) (kx : ∀ z, a = .inl z → a9 = .inl z) (kk : ∀ z, a = .inr z → ∀ cells2, c0 + cells2 = z.2.2.2 → Js p l e R s m args below meth c G nL (xMQ below G a9 args s c0) (z.2.1) (G.2.1 + z.2.2.1) cells2 (64 * cells2) n L (z.1.toList ++ rest)) : Js p l e R s m args below meth c G nL (xMQ below G a9 args s c0) (t.1) (G.2.1 + t.2.1) cells slots pc L (As.reverse ++ .ref (G.2.1 + j) :: rest) := by
  subst hn
  intro H locs ls hW hS hl
  refine W.widen (Nat.le_refl _) hsl ?_
  have hf : cells + (DC - t.2.2) ≤ R.cells ∧ 64 * cells + 64 * (DC - t.2.2) ≤ R.slots := by
    rw [hRc.1, hRc.2]
    omega
  have hr : vy_Run p l e R s m args below meth c H locs cells (64 * cells) (hAc a - t.2.2) (64 * (hAc a - t.2.2)) (F0 m pc ls (As.reverse ++ .ref (G.2.1 + j) :: rest)) rest (xQc G a (Value.ref (G.2.1 + j) :: As).toArray) (xXC G a) (je_A G) := vy_runV (C := Cn) (As := As) (rest := rest) ⟨C.1, C.2.1, C.2.2.1, C.2.2.2.2.1, C.2.2.2.1⟩ hM (cwV nA C.2.2.2.1 hw rfl rfl rfl ⟨hy, hd⟩ hR) ⟨je_blind, by
    obtain ⟨r0, h1, cell, q1, q2, q3, -⟩ := hW.2 j _ he
    exact ⟨cell, q1, by rw [q3]; rfl, by rw [q2]; exact (C.2.2.2.2.2.2.2.1.1.1 ci _ hcc).2.1⟩, fun U hU hW2 => ⟨rfl, by rw [hU]; exact hW, je_K.moved hW2.alike hW2 C.2.2.2.2.2.2.2.1, je_O.at (by rw [hU]; exact hS) hW2 C.2.2.2.2.2.2.2.2⟩⟩ rfl hn2 hl.1 rfl (lv_room hrm) d hf
  intro T0 hT X0
  have e1 : cells + (hAc a - t.2.2) = hAc a - c0 := by omega
  rcases hr T0 hT X0 with ⟨v, st₀, u, T', L2, h0, X', hL, eh, ev, hq, stp⟩ | ⟨q, st₀, u, T', L2, E, ce, h0, X', hL, eh, ev, hx, hce, hcv, hcl, stp⟩
  · cases a with
    | inl z => exact hq.elim
    | inr z =>
      obtain ⟨hv, hW', hz, hk⟩ := hq
      cases hv
      rw [h0] at hz hk
      have hz9 : cells + (z.2.2.2 - t.2.2) = z.2.2.2 - c0 := e1
      have ec : c0 + (cells + (z.2.2.2 - t.2.2)) = z.2.2.2 := by have : t.2.2 ≤ z.2.2.2 := hca; omega
      have es : 64 * cells + 64 * (z.2.2.2 - t.2.2) = 64 * (cells + (z.2.2.2 - t.2.2)) := by omega
      have X2 : Stand p l e R s m args below meth c T' (locs ++ L2) (cells + (z.2.2.2 - t.2.2)) (64 * (cells + (z.2.2.2 - t.2.2))) := by rw [← es]; exact X'
      obtain ⟨t2, a1, b1⟩ := kk z rfl _ ec T'.heap (locs ++ L2) ls (by rw [eh]; exact hW') ⟨Nat.le_trans hS.1 (by rw [eh]; exact hz), fun q h1 h2 => by rw [eh, hk q (Nat.lt_of_lt_of_le h1 hS.1) h2]; exact hS.2.1 q h1 h2, fun q hq => by
        rcases List.mem_append.mp hq with h | h
        · exact hS.2.2 q h
        · exact hL q h⟩ hl T' rfl X2
      exact ⟨t2, stp t2 a1, b1⟩
  · cases a with
    | inr z => exact hx.elim
    | inl z =>
      obtain ⟨rfl, rfl, hW', hz, hk⟩ := hx
      rw [h0] at hz hk
      have h9 := kx z rfl
      subst h9
      have hS' : va_S (je_A G) s.heap T'.heap (locs ++ L2) := ⟨Nat.le_trans hS.1 (by rw [eh]; exact hz), fun q h1 h2 => by rw [eh, hk q (Nat.lt_of_lt_of_le h1 hS.1) h2]; exact hS.2.1 q h1 h2, fun q hq => by
        rcases List.mem_append.mp hq with h | h
        · exact hS.2.2 q h
        · exact hL q h⟩
      have es : 64 * cells + 64 * (hAc (.inl z) - t.2.2) = 64 * (hAc (.inl z) - c0) := by rw [← e1]; omega
      obtain ⟨t2, a1, b1⟩ := vy_out (E := "MinistryDesks$Fault") (ce := ce) (q := G.2.1 + z.1) (pc := pc) (ls := ls) (rest := rest) (Qc := xQc G (.inl z)) (XC := xXC G (.inl z)) (free := je_A G) (mc := hAc (.inl z) - c0) (ms := 64 * (hAc (.inl z) - c0)) (fun x hx => absurd hx (fun h => hnt x h)) C.2.2.2.2.2.2.1 (by rw [eh]; exact hce) hcv hcl (fun w hw hal => ⟨rfl, rfl, by rw [hw, eh]; exact hW', hS'.F hw⟩) hS'.2.2 (Nat.le_of_eq e1) (Nat.le_of_eq es) T' rfl X'
      exact ⟨t2, stp.trans a1, b1⟩
theorem jx_callVN (C : Cx p s m args meth c G own cc nL rt) {y : MethodName} {bytes : ByteArray} {ret : Option FieldType} {fr lo maxL : Nat} {As rest : List Value} {Cn : String} {host : String} {T : u_T} {N ci index j nA : Nat} {Vj : Nat → Value} {t : hS} {a a9 : hA} (hM : MetX l G y bytes maxL ret fr lo (.ref (G.2.1 + j) :: As) t a) (he : t.1 j = some (.inr (ci, Vj))) (hcc : vwCl[ci]? = some (Cn, T, N)) (hd : je_hd y nA) (hy : y.cls = Cn) (hw : (Cond.methodLinkNest own index y host ∈ lw_tbl ∧ Cond.initialized y.cls ∈ lw_all) ∧ Cond.code y bytes maxL ret ∈ lw_all ∧ Cond.instanceMethod y ∈ lw_all ∧ Cond.selects Cn y y ∈ lw_all) (hn2 : As.length = nA) (hR : fr + 1 ≤ R.frames ∧ 8 + (maxL + 11) + lo ≤ R.locals) (hRc : R.cells = DC - c0 ∧ R.slots = 64 * (DC - c0)) (hc : c0 + cells = t.2.2 ∧ t.2.2 ≤ DC) (hsl : slots ≤ 64 * cells) (hrm : (rest.map fun v => v.category).sum ≤ 8) (hnt : ∀ x ∈ c.exceptionTable.toList, False) (d : decode cc pc = .ok (.invokevirtual index, 3)) (n : Nat) (hn : pc + 3 = n)
    (hca : t.2.2 ≤ hAc a) (kx : ∀ z, a = .inl z → a9 = .inl z) (kk : ∀ z, a = .inr z → ∀ cells2, c0 + cells2 = z.2.2.2 → Js p l e R s m args below meth c G nL (xMQ below G a9 args s c0) (z.2.1) (G.2.1 + z.2.2.1) cells2 (64 * cells2) n L (z.1.toList ++ rest)) : Js p l e R s m args below meth c G nL (xMQ below G a9 args s c0) (t.1) (G.2.1 + t.2.1) cells slots pc L (As.reverse ++ .ref (G.2.1 + j) :: rest) := by
  subst hn
  intro H locs ls hW hS hl
  refine W.widen (Nat.le_refl _) hsl ?_
  have hf : cells + (DC - t.2.2) ≤ R.cells ∧ 64 * cells + 64 * (DC - t.2.2) ≤ R.slots := by
    rw [hRc.1, hRc.2]
    omega
  have hr : vy_Run p l e R s m args below meth c H locs cells (64 * cells) (hAc a - t.2.2) (64 * (hAc a - t.2.2)) (F0 m pc ls (As.reverse ++ .ref (G.2.1 + j) :: rest)) rest (xQc G a (Value.ref (G.2.1 + j) :: As).toArray) (xXC G a) (je_A G) := vy_runVN (C := Cn) (host := host) (As := As) (rest := rest) ⟨C.1, C.2.1, C.2.2.1, C.2.2.2.2.1, C.2.2.2.1⟩ hM ⟨va_cnB nA C.2.2.2.1 (lw_meth hw.2.1) rfl rfl rfl (C.2.2.2.2.2.2.2.1.2.1 _ (nw_in hw.1.1 rfl)) (C.2.2.2.1 _ hw.1.2) hd hR, C.2.2.2.1 _ hw.2.2.1, C.2.2.2.1 _ hw.2.2.2⟩ ⟨je_blind, by
    obtain ⟨r0, h1, cell, q1, q2, q3, -⟩ := hW.2 j _ he
    exact ⟨cell, q1, by rw [q3]; rfl, by rw [q2]; exact (C.2.2.2.2.2.2.2.1.1.1 ci _ hcc).2.1⟩, fun U hU hW2 => ⟨rfl, by rw [hU]; exact hW, je_K.moved hW2.alike hW2 C.2.2.2.2.2.2.2.1, je_O.at (by rw [hU]; exact hS) hW2 C.2.2.2.2.2.2.2.2⟩⟩ rfl hn2 hl.1 rfl (lv_room hrm) d hf
  intro T0 hT X0
  have e1 : cells + (hAc a - t.2.2) = hAc a - c0 := by omega
  rcases hr T0 hT X0 with ⟨v, st₀, u, T', L2, h0, X', hL, eh, ev, hq, stp⟩ | ⟨q, st₀, u, T', L2, E, ce, h0, X', hL, eh, ev, hx, hce, hcv, hcl, stp⟩
  · cases a with
    | inl z => exact hq.elim
    | inr z =>
      obtain ⟨hv, hW', hz, hk⟩ := hq
      cases hv
      rw [h0] at hz hk
      have hz9 : cells + (z.2.2.2 - t.2.2) = z.2.2.2 - c0 := e1
      have ec : c0 + (cells + (z.2.2.2 - t.2.2)) = z.2.2.2 := by have : t.2.2 ≤ z.2.2.2 := hca; omega
      have es : 64 * cells + 64 * (z.2.2.2 - t.2.2) = 64 * (cells + (z.2.2.2 - t.2.2)) := by omega
      have X2 : Stand p l e R s m args below meth c T' (locs ++ L2) (cells + (z.2.2.2 - t.2.2)) (64 * (cells + (z.2.2.2 - t.2.2))) := by rw [← es]; exact X'
      obtain ⟨t2, a1, b1⟩ := kk z rfl _ ec T'.heap (locs ++ L2) ls (by rw [eh]; exact hW') ⟨Nat.le_trans hS.1 (by rw [eh]; exact hz), fun q h1 h2 => by rw [eh, hk q (Nat.lt_of_lt_of_le h1 hS.1) h2]; exact hS.2.1 q h1 h2, fun q hq => by
        rcases List.mem_append.mp hq with h | h
        · exact hS.2.2 q h
        · exact hL q h⟩ hl T' rfl X2
      exact ⟨t2, stp t2 a1, b1⟩
  · cases a with
    | inr z => exact hx.elim
    | inl z =>
      obtain ⟨rfl, rfl, hW', hz, hk⟩ := hx
      rw [h0] at hz hk
      have h9 := kx z rfl
      subst h9
      have hS' : va_S (je_A G) s.heap T'.heap (locs ++ L2) := ⟨Nat.le_trans hS.1 (by rw [eh]; exact hz), fun q h1 h2 => by rw [eh, hk q (Nat.lt_of_lt_of_le h1 hS.1) h2]; exact hS.2.1 q h1 h2, fun q hq => by
        rcases List.mem_append.mp hq with h | h
        · exact hS.2.2 q h
        · exact hL q h⟩
      have es : 64 * cells + 64 * (hAc (.inl z) - t.2.2) = 64 * (hAc (.inl z) - c0) := by rw [← e1]; omega
      obtain ⟨t2, a1, b1⟩ := vy_out (E := "MinistryDesks$Fault") (ce := ce) (q := G.2.1 + z.1) (pc := pc) (ls := ls) (rest := rest) (Qc := xQc G (.inl z)) (XC := xXC G (.inl z)) (free := je_A G) (mc := hAc (.inl z) - c0) (ms := 64 * (hAc (.inl z) - c0)) (fun x hx => absurd hx (fun h => hnt x h)) C.2.2.2.2.2.2.1 (by rw [eh]; exact hce) hcv hcl (fun w hw hal => ⟨rfl, rfl, by rw [hw, eh]; exact hW', hS'.F hw⟩) hS'.2.2 (Nat.le_of_eq e1) (Nat.le_of_eq es) T' rfl X'
      exact ⟨t2, stp.trans a1, b1⟩
end JT
/-- a contract out of a walk, of a method that may throw -/
theorem jx_met {l : Launch} {G : je_G} {y : MethodName} {cc : ByteArray} {nL : Nat} {ret : Option FieldType} {fr lo : Nat} {av : List Value} {t : hS} {a : hA} (own : String) (hcls : y.cls = own) (hy : plainName y.cls = true) (hn : (lg_sl av).length ≤ nL) (L0 : List (Nat × Value)) (hL0 : lv_args 0 av = L0)
    (body : ∀ (p : Program) (e : Env) (s : State) (m : MethodId) (args : Array Value) (below : List Frame) (meth : Method) (c : Code), Cx p s m args meth c G own cc nL ret → (∀ x ∈ c.exceptionTable.toList, False) → Js p l e ({ frames := fr, cells := DC - t.2.2, slots := 64 * (DC - t.2.2), locals := lo }) s m args below meth c G nL (xMQ below G a args s t.2.2) t.1 (G.2.1 + t.2.1) 0 0 0 L0 []) : MetX l G y cc nL ret fr lo av t a := by
  refine vy_ofW (cc := cc) (maxL := nL) (ret := ret) hy rfl ?_
  intro p e s m args below meth c s₁ B hml hnt hv
  obtain ⟨rfl, hW, hK, hO⟩ := hv
  have hts := atoms_spec (ws := ws_ y cc nL ret) B.pre
  have hts : ∀ w ∈ lw_all, w.before _ s = true := fun w h => hts w (List.mem_cons_of_mem _ h)
  have hown : s.vm.findClass own = some m.cls := by rw [← hcls]; exact findClass_of_methodNamed B.named
  have hl := lv_entry av (n := nL) hn
  rw [lg_entry_eq]
  rw [hL0] at hl
  exact body p e s m _ below meth c ⟨B.exec, B.bytes, hml, hts, hown, B.returns, B.notSynchronized, hK, hO⟩ hnt s.heap [] _ hW va_S.rf hl

