/-! OUR OWN: the words of programs over the whole store. Printed by gen/mkhp.py -/
set_option maxRecDepth 100000
abbrev hT : Type := (Nat → Option je_E) × Nat
def h_up (t : hT) (j : Nat) (x : je_E) : hT := (je_up t.1 j x, t.2)
def h_nw (t : hT) (x : je_E) : hT := (je_up t.1 t.2 x, t.2 + 1)
def x_up (t : hS) (j : Nat) (x : je_E) : hS := (je_up t.1 j x, t.2)
def x_nw (t : hS) (x : je_E) : hS := (je_up t.1 t.2.1 x, t.2.1 + 1, t.2.2 + 1)
def x_of (q : hT) (c : Nat) : hS := (q.1, q.2, c)
def h_of (t : hS) : hT := (t.1, t.2.1)
section HP
variable {X : Type} {r : X}
/-- an object of class number ci -/
def p_ob (σ : Nat → Option je_E) (j ci : Nat) (K : (Nat → Value) → Option X) : Option X := match σ j with
  | some (.inr (c, V)) => if c = ci then K V else none
  | _ => none
theorem p_ob_inv {σ : Nat → Option je_E} {j ci : Nat} {K : (Nat → Value) → Option X} (h : p_ob σ j ci K = some r) : ∃ V, σ j = some (.inr (ci, V)) ∧ K V = some r := by
  unfold p_ob at h
  split at h
  · rename_i c V e
    split at h
    · rename_i q
      subst q
      exact ⟨V, e, h⟩
    · cases h
  · cases h
/-- an item of a list -/
def p_it (σ : Nat → Option je_E) (j : Nat) (K : Nat → Option X) : Option X := match σ j with
  | some (.inr (c, _)) => if 6 ≤ c ∧ c ≤ 11 then K c else none
  | _ => none
theorem p_it_inv {σ : Nat → Option je_E} {j : Nat} {K : Nat → Option X} (h : p_it σ j K = some r) : ∃ c V, σ j = some (.inr (c, V)) ∧ (6 ≤ c ∧ c ≤ 11) ∧ K c = some r := by
  unfold p_it at h
  split at h
  · rename_i c V e
    split at h
    · rename_i q
      exact ⟨c, V, e, q, h⟩
    · cases h
  · cases h
def p_vi (v : Value) (K : Int32 → Option X) : Option X := match v with
  | .int x => K x
  | _ => none
theorem p_vi_inv {v : Value} {K : Int32 → Option X} (h : p_vi v K = some r) : ∃ x, v = .int x ∧ K x = some r := by
  unfold p_vi at h
  split at h
  · exact ⟨_, rfl, h⟩
  · cases h
def p_vr (v : Value) (K : Option Nat → Option X) : Option X := match v with
  | .ref a => K (some a)
  | .null => K none
  | _ => none
theorem p_vr_inv {v : Value} {K : Option Nat → Option X} (h : p_vr v K = some r) : ∃ x, v = va_rf x ∧ K x = some r := by
  unfold p_vr at h
  split at h
  · exact ⟨some _, rfl, h⟩
  · exact ⟨none, rfl, h⟩
  · cases h
/-- a cell of ours -/
def p_at (G : je_G) (x : Option Nat) (K : Nat → Option X) : Option X := match x with
  | some a => if G.2.1 ≤ a then K (a - G.2.1) else none
  | none => none
theorem p_at_inv {G : je_G} {x : Option Nat} {K : Nat → Option X} (h : p_at G x K = some r) : ∃ j, x = some (G.2.1 + j) ∧ K j = some r := by
  unfold p_at at h
  split at h
  · split at h
    · rename_i a q
      exact ⟨a - G.2.1, by rw [Nat.add_sub_cancel' q], h⟩
    · cases h
  · cases h
/-- an array of references -/
def p_aO (G : je_G) (σ : Nat → Option je_E) (j : Nat) (K : Nat → (Nat → Option Nat) → Option X) : Option X := match σ j with
  | some (.inl (c, n, .inr (.inr (.inr (.inr f))))) => if c = G.2.2.1 4 then K n f else none
  | _ => none
theorem p_aO_inv {G : je_G} {σ : Nat → Option je_E} {j : Nat} {K : Nat → (Nat → Option Nat) → Option X} (h : p_aO G σ j K = some r) : ∃ n f, σ j = some (.inl (G.2.2.1 4, n, .inr (.inr (.inr (.inr f))))) ∧ K n f = some r := by
  unfold p_aO at h
  split at h
  · rename_i c n f e
    split at h
    · rename_i q
      subst q
      exact ⟨n, f, e, h⟩
    · cases h
  · cases h
/-- an array of bytes -/
def p_aB (G : je_G) (σ : Nat → Option je_E) (j : Nat) (K : Nat → (Nat → Int32) → Option X) : Option X := match σ j with
  | some (.inl (c, n, .inl f)) => if c = G.2.2.1 3 then K n f else none
  | _ => none
theorem p_aB_inv {G : je_G} {σ : Nat → Option je_E} {j : Nat} {K : Nat → (Nat → Int32) → Option X} (h : p_aB G σ j K = some r) : ∃ n f, σ j = some (.inl (G.2.2.1 3, n, .inl f)) ∧ K n f = some r := by
  unfold p_aB at h
  split at h
  · rename_i c n f e
    split at h
    · rename_i q
      subst q
      exact ⟨n, f, e, h⟩
    · cases h
  · cases h
/-- an array of ints -/
def p_aI (G : je_G) (σ : Nat → Option je_E) (j : Nat) (K : Nat → (Nat → Int32) → Option X) : Option X := match σ j with
  | some (.inl (c, n, .inl f)) => if c = G.2.2.1 0 then K n f else none
  | _ => none
theorem p_aI_inv {G : je_G} {σ : Nat → Option je_E} {j : Nat} {K : Nat → (Nat → Int32) → Option X} (h : p_aI G σ j K = some r) : ∃ n f, σ j = some (.inl (G.2.2.1 0, n, .inl f)) ∧ K n f = some r := by
  unfold p_aI at h
  split at h
  · rename_i c n f e
    split at h
    · rename_i q
      subst q
      exact ⟨n, f, e, h⟩
    · cases h
  · cases h
/-- the length of an array of references, or of the JDK's empty one -/
def p_al (G : je_G) (σ : Nat → Option je_E) (x : Option Nat) (K : Nat → Option X) : Option X := if x = some (G.2.2.2.1 6) then K 0 else p_at G x fun j => p_aO G σ j fun n _ => K n
theorem p_al_inv {G : je_G} {σ : Nat → Option je_E} {x : Option Nat} {K : Nat → Option X} (h : p_al G σ x K = some r) : ∃ n, ((x = some (G.2.2.2.1 6) ∧ n = 0) ∨ ∃ j f, x = some (G.2.1 + j) ∧ σ j = some (.inl (G.2.2.1 4, n, .inr (.inr (.inr (.inr f)))))) ∧ K n = some r := by
  unfold p_al at h
  split at h
  · rename_i q
    exact ⟨0, Or.inl ⟨q, rfl⟩, h⟩
  · obtain ⟨j, hx, h⟩ := p_at_inv h
    obtain ⟨n, f, he, h⟩ := p_aO_inv h
    exact ⟨n, Or.inr ⟨j, f, hx, he⟩, h⟩
/-- a length to be made -/
def p_sm (x : Int32) (n : Nat) (K : Option X) : Option X := if ¬ x < 0 ∧ x.toNatClampNeg ≤ n then K else none
theorem p_sm_inv {x : Int32} {n : Nat} {K : Option X} (h : p_sm x n K = some r) : ¬ x < 0 ∧ x.toNatClampNeg ≤ n ∧ K = some r := by
  unfold p_sm at h
  split at h
  · rename_i q
    exact ⟨q.1, q.2, h⟩
  · cases h
/-- a fact that the program asks for -/
def p_pr (c : Prop) [Decidable c] (K : Option X) : Option X := if c then K else none
theorem p_pr_inv {c : Prop} [Decidable c] {K : Option X} (h : p_pr c K = some r) : c ∧ K = some r := by
  unfold p_pr at h
  split at h
  · rename_i q
    exact ⟨q, h⟩
  · cases h
/-- a call that may throw: the budget used grows, and stays within -/
def p_ex {α Y : Type} (c : Nat) (x : Option ((Nat × hS) ⊕ (α × hS))) (K : α × hS → Option ((Nat × hS) ⊕ Y)) : Option ((Nat × hS) ⊕ Y) := match x with
  | some (.inr a) => if c ≤ a.2.2.2 ∧ a.2.2.2 ≤ DC then K a else none
  | some (.inl z) => if c ≤ z.2.2.2 then some (.inl z) else none
  | none => none
theorem p_ex_inv {α Y : Type} {c : Nat} {x : Option ((Nat × hS) ⊕ (α × hS))} {K : α × hS → Option ((Nat × hS) ⊕ Y)} {r9 : (Nat × hS) ⊕ Y} (h : p_ex c x K = some r9) : (∃ z, x = some (.inl z) ∧ c ≤ z.2.2.2 ∧ .inl z = r9) ∨ ∃ a, x = some (.inr a) ∧ c ≤ a.2.2.2 ∧ a.2.2.2 ≤ DC ∧ K a = some r9 := by
  unfold p_ex at h
  split at h
  · split at h
    · rename_i a q
      exact Or.inr ⟨_, rfl, q.1, q.2, h⟩
    · cases h
  · split at h
    · rename_i z q
      cases h
      exact Or.inl ⟨_, rfl, q, rfl⟩
    · cases h
  · cases h
theorem jx_f0 {c0 c u v : Nat} (e : v = u) (h : c0 + c = u ∧ u ≤ DC) : c0 + c = v ∧ v ≤ DC := by rw [e]; exact h
theorem jx_f1 {c0 c u k : Nat} (h : c0 + c = u ∧ u ≤ DC) (hb : u + k ≤ DC) : c + k ≤ DC - c0 := by have := h.1; omega
theorem jx_f2 {c0 c u k n : Nat} (h : c0 + c = u ∧ u ≤ DC) (hb : u + k ≤ DC) (hn : n ≤ 64 * k) : 64 * c + n ≤ 64 * (DC - c0) := by have := h.1; omega
theorem jx_f3 {c k n : Nat} (hn : n ≤ 64 * k) : 64 * c + n ≤ 64 * (c + k) := by omega
theorem jx_f30 {c n : Nat} (hn : n ≤ 0) : 64 * c + n ≤ 64 * c := by omega
theorem jx_f4 {c0 c u v k : Nat} (e : v = u + k) (h : c0 + c = u ∧ u ≤ DC) (hb : u + k ≤ DC) : c0 + (c + k) = v ∧ v ≤ DC := by have := h.1; omega
theorem jx_f5 {c0 c u : Nat} (h : c0 + c = u ∧ u ≤ DC) : c ≤ DC - c0 := by have := h.1; have := h.2; omega
theorem jx_f6 {c0 c u : Nat} (h : c0 + c = u ∧ u ≤ DC) : 64 * c ≤ 64 * (DC - c0) := by have := h.1; have := h.2; omega
theorem jx_f7 {c0 c u v : Nat} (e : v = u) (h : c0 + c = u) (hb : u ≤ DC) : c0 + c = v ∧ v ≤ DC := by rw [e]; exact ⟨h, hb⟩
theorem jx_f8 {c0 c u v k : Nat} (e : v = u + k) (h : c0 + c = u ∧ u ≤ DC) (hb : u + k ≤ DC) : c0 + (c + k) = v ∧ v ≤ DC := jx_f4 e h hb
theorem jx_f80 {c0 c u v k : Nat} (e : v = u + k) (h : c0 + c = u ∧ u ≤ DC) (_hb : u ≤ DC) (hk : k = 0 := by rfl) : c0 + c = v ∧ v ≤ DC := by subst hk; rw [e]; exact h
end HP
section HL
variable {p : Program} {l : Launch} {e : Env} {R : Room} {s : State} {m : MethodId} {args : Array Value} {below : List Frame} {meth : Method} {c : Code} {Q : State → Prop} {G : je_G} {own : String} {cc : ByteArray} {nL : Nat} {rt : Option FieldType} {σ : Nat → Option je_E} {sz cells slots pc : Nat} {L L' : List (Nat × Value)} {st : List Value}
variable {X : Type} {r : X}
theorem je_ltr {x : Nat} {K : Nat → Option X} (h : p_lt x K = some r) (k : ∀ v, K v = some r → Js p l e R s m args below meth c G nL Q σ sz cells slots pc L (.ref (G.2.1 + v) :: st)) : Js p l e R s m args below meth c G nL Q σ sz cells slots pc L (.ref (G.2.1 + x) :: st) := k x h
theorem je_ltq {x : Option Nat} {K : Option Nat → Option X} (h : p_lt x K = some r) (k : ∀ v, K v = some r → Js p l e R s m args below meth c G nL Q σ sz cells slots pc L (va_rf v :: st)) : Js p l e R s m args below meth c G nL Q σ sz cells slots pc L (va_rf x :: st) := k x h
theorem jh_lt {t0 : hT} {K : hT → Option X} (h : p_lt t0 K = some r) (k : ∀ t, K t = some r → Js p l e R s m args below meth c G nL Q (t.1) (G.2.1 + t.2) cells slots pc L st) : Js p l e R s m args below meth c G nL Q (t0.1) (G.2.1 + t0.2) cells slots pc L st := k t0 h
theorem jx_lt {t0 : hS} {K : hS → Option X} (h : p_lt t0 K = some r) (k : ∀ t, t.2.2 = t0.2.2 → K t = some r → Js p l e R s m args below meth c G nL Q (t.1) (G.2.1 + t.2.1) cells slots pc L st) : Js p l e R s m args below meth c G nL Q (t0.1) (G.2.1 + t0.2.1) cells slots pc L st := k t0 rfl h
theorem je_alenX (C : Cx p s m args meth c G own cc nL rt) {x : Option Nat} {n0 : Nat} (hx : (x = some (G.2.2.2.1 6) ∧ n0 = 0) ∨ ∃ j f, x = some (G.2.1 + j) ∧ σ j = some (.inl (G.2.2.1 4, n0, .inr (.inr (.inr (.inr f)))))) (d : decode cc pc = .ok (.arraylength, 1)) (n : Nat) (hn : pc + 1 = n) (kk : Js p l e R s m args below meth c G nL Q σ sz cells slots n L (.int (Int32.ofNat n0) :: st)) : Js p l e R s m args below meth c G nL Q σ sz cells slots pc L (va_rf x :: st) := by
  rcases hx with ⟨rfl, rfl⟩ | ⟨j, f, rfl, he⟩
  · exact je_alenE C d n hn kk
  · exact je_alenO C he d n hn kk
theorem je_aretA {rn : FieldType} (C : Cx p s m args meth c G own cc nL (some (.array rn))) {x : Option Nat} {σ2 : Nat → Option je_E} {sz2 : Nat} (d : decode cc pc = .ok (.areturn, 1)) : Js p l e R s m args below meth c G nL (MQ below (je_Q G (some (va_rf x)) σ2 sz2) args s cells slots (je_A G)) σ2 sz2 cells slots pc L ([va_rf x]) := fun H locs ls hW hS hl => W.aret (v := va_rf x) C.1 C.2.1 C.2.2.2.2.2.1 (Or.inr ⟨_, rfl⟩) (by cases x with | none => exact Or.inl rfl | some a => exact Or.inr ⟨a, rfl⟩) (fun t ht hW2 => ⟨rfl, by rw [ht]; exact hW, hS.F ht⟩) hS.2.2 d (hlocks := C.2.2.2.2.2.2.1)
theorem je_refnar {nm : String} {x : Option Nat} : narrow (.object nm) (va_rf x) = va_rf x := by cases x <;> rfl
theorem je_reffit {nm : String} {x : Option Nat} : fits (.object nm) (va_rf x) = true := by cases x <;> rfl
theorem je_refnarA {ty : FieldType} {x : Option Nat} : narrow (.array ty) (va_rf x) = va_rf x := by cases x <;> rfl
theorem je_reffitA {ty : FieldType} {x : Option Nat} : fits (.array ty) (va_rf x) = true := by cases x <;> rfl
theorem je_booln {v : Int32} (h : v = 0 ∨ v = 1) : fits .boolean (.int v) = true := by rcases h with h | h <;> subst h <;> rfl
theorem je_getU (C : Cx p s m args meth c G own cc nL rt) {ref Cn : String} {T : u_T} {N ci index j k : Nat} {V : Nat → Value} (he : σ j = some (.inr (ci, V))) (hc : vwCl[ci]? = some (Cn, T, N)) (hin : ∀ w ∈ u_ws Cn T N, w ∈ lw_all) (hk : k < N) (hq : Cond.fieldLink own index ref (T k).2.1 (T k).2.2.1 ∈ lw_all) (hsame : Cond.sameField ref (T k).1 (T k).2.1 (T k).2.2.1 ∈ lw_all) (d : decode cc pc = .ok (.getfield index, 3)) (n : Nat) (hn : pc + 3 = n) {v : Value} (hv : V k = v) (kk : Js p l e R s m args below meth c G nL Q σ sz cells slots n L (v :: st)) : Js p l e R s m args below meth c G nL Q σ sz cells slots pc L (.ref (G.2.1 + j) :: st) := by
  subst hn; subst hv
  intro H locs ls hW hS hl
  obtain ⟨r0, h1, cell, q1, q2, q3, q4⟩ := hW.2 j _ he
  have hr : r0 = (Cn, T, N) := Option.some.inj (h1.symm.trans hc)
  subst hr
  obtain ⟨hSl, hfc, kC, hkC, hkind⟩ := C.2.2.2.2.2.2.2.1.1.1 ci _ hc
  obtain ⟨cf, kf, fi, f, hi, hsl⟩ := hSl k hk
  have hi2 := u_same (C.2.2.2.1 _ hsame) _ hi
  refine W.getf C.1 C.2.1 C.2.2.2.2.1 (C.2.2.2.1 _ hq) hi2 (u_facts hfc hkC (u_lays C.2.2.2.1 hin hk) hi).1 q1 (by rw [q3]; exact fun h => by cases h) (v := V k) ?_ rfl rfl d (kk H locs ls hW hS hl)
  rw [hsl, q4 k hk]
theorem je_putU (C : Cx p s m args meth c G own cc nL rt) {ref Cn : String} {T : u_T} {N ci index j k : Nat} {V : Nat → Value} (he : σ j = some (.inr (ci, V))) (hc : vwCl[ci]? = some (Cn, T, N)) (hin : ∀ w ∈ u_ws Cn T N, w ∈ lw_all) (ty0 : Nat → FieldType) (hty : ∀ k, k < N → parseFieldDescriptor (T k).2.2.1 = some (ty0 k)) (hnm : ∀ a, a < N → ∀ b, b < N → a ≠ b → (T a).2.1 ≠ (T b).2.1) (hk : k < N) (hq : Cond.fieldLink own index ref (T k).2.1 (T k).2.2.1 ∈ lw_all) (hsame : Cond.sameField ref (T k).1 (T k).2.1 (T k).2.2.1 ∈ lw_all) (hfin : (T k).2.2.2 = false) {v : Value} (hn1 : narrow (ty0 k) v = v) (hfit : fits (ty0 k) v = true) (d : decode cc pc = .ok (.putfield index, 3)) (n : Nat) (hn : pc + 3 = n) (kk : Js p l e R s m args below meth c G nL Q (je_up σ j (.inr (ci, updV V k v))) sz cells slots n L st) : Js p l e R s m args below meth c G nL Q σ sz cells slots pc L (v :: .ref (G.2.1 + j) :: st) := by
  subst hn
  intro H locs ls hW hS hl
  have hap := je_ap C hin ty0 hty hnm hc
  obtain ⟨r0, h1, cell, q1, q2, q3, q4⟩ := hW.2 j _ he
  have hr : r0 = (Cn, T, N) := Option.some.inj (h1.symm.trans hc)
  subst hr
  obtain ⟨hSl, hfc, kC, hkC, hkind⟩ := C.2.2.2.2.2.2.2.1.1.1 ci _ hc
  obtain ⟨cf, kf, fi, f, hi, hsl⟩ := hSl k hk
  have hlay := C.2.2.2.1 _ (hin _ (u_in_lay hk))
  unfold u_lay at hlay
  rw [if_neg (by rw [hfin]; decide)] at hlay
  have hst := (u_facts hfc hkC (u_lays C.2.2.2.1 hin hk) hi).1
  have h6 := u_store hfc hkC hkind hlay hi (hty k hk) hn1 hfit
  have hi2 := u_same (C.2.2.2.1 _ hsame) _ hi
  refine W.putK C.1 C.2.1 (f := f) ⟨C.2.2.2.2.1, C.2.2.2.1 _ hq, ⟨_, _, _, hi2⟩, hst⟩ (by rw [q2]; exact h6) q1 q3 (by rw [hsl]; exact k2_hasslot (q4 k hk)) rfl rfl d fun H' e1 e2 e3 => ?_
  rw [hsl] at e1 ⊢
  exact kk H' _ ls (hW.put ⟨_, hc, _, e1, q2, q3, t_set q4 hap hk v⟩ e2 e3) (hS.put e2 e3 (Nat.le_add_right _ _)) hl
end HL
