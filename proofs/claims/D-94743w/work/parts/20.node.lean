/-! OUR OWN: sums: their objects answer what their knots say. Printed by gen/mknode.py -/
set_option maxRecDepth 100000
/-- one knot of a sum: 0 a number, 1 a name, 2 not, 3 and/or, 4 a comparison, 5 arithmetic -/
def jn_1 (F : Nat) (q : Nat × Int64) (z : List Int64 × kp_K) : Option (List Int64 × kp_K) :=
  if q.1 = 0 then some (q.2 :: z.1, z.2)
  else if q.1 = 1 then some (z.2.2.1 10 q.2.toInt32.toNatClampNeg :: z.1, z.2)
  else match z.1 with
  | [] => none
  | y :: r1 =>
    if q.1 = 2 then some ((if lg_cmp y 0 = 0 then 1 else 0) :: r1, z.2)
    else match r1 with
    | [] => none
    | x :: r2 =>
      if q.1 = 3 then (match pX20_of q.2.toInt32 x y with | some v => some (v :: r2, z.2) | none => none)
      else if q.1 = 4 then (match pX18_of q.2.toInt32 x y with | some v => some (v :: r2, z.2) | none => none)
      else (match pX17_of q.2.toInt32 z.2 x y with | some p => some (p.1 :: r2, p.2) | none => none)
def jn_go (l : List (Nat × Int64)) (z : List Int64 × kp_K) : Option (List Int64 × kp_K) := match l with
  | [] => some z
  | q :: l => match jn_1 0 q z with
    | some z => jn_go l z
    | none => none
theorem jn_go_app (l1 l2 : List (Nat × Int64)) (z : List Int64 × kp_K) : jn_go (l1 ++ l2) z = match jn_go l1 z with | some z => jn_go l2 z | none => none := by
  induction l1 generalizing z with
  | nil => rfl
  | cons q l ih =>
    show (match jn_1 0 q z with | some z => jn_go (l ++ l2) z | none => none) = _
    rw [jn_go]
    cases jn_1 0 q z with
    | none => rfl
    | some z => exact ih z
/-- a sum's value, by the scene's names; the scene's error -/
def jn_val (hu : hd_T) (a : Nat) (κ : kp_K) : Option (Int64 × kp_K) := match hu.2.2.2.2.2 a with
  | [] => none
  | q :: l => match jn_go (q :: l) ([], κ) with
    | some ([v], κ2) => some (v, κ2)
    | _ => none
section NF
variable {p : Program} {l : Launch} {e : Env} {R : Room} {s : State} {m : MethodId} {args : Array Value} {below : List Frame} {meth : Method} {c : Code} {Q : State → Prop} {G : je_G} {own : String} {cc : ByteArray} {nL : Nat} {rt : Option FieldType} {σ : Nat → Option je_E} {sz cells slots pc : Nat} {L L' : List (Nat × Value)} {st : List Value}
variable {σ' : Nat → Option je_E} {sz' mc ms fr lo maxL : Nat} {x y : MethodName} {bytes : ByteArray} {ret : Option FieldType} {As rest : List Value} {o : Option Value}
theorem je_call5 {st0 : List Value} (hr : ∀ (H : Heap) (locs : List Loc) (ls : Array Slot), Wd G σ sz H → va_S (je_A G) s.heap H locs → lv_has ls nL L → va_Run5 p l e R s m args below meth c H locs cells slots mc ms (F0 m pc ls st0) rest (je_Q G o σ' sz' #[]) (je_A G)) (n : Nat) (hn : pc + 5 = n) (kk : Js p l e R s m args below meth c G nL Q σ' sz' (cells + mc) (slots + ms) n L (o.toList ++ rest)) : Js p l e R s m args below meth c G nL Q σ sz cells slots pc L st0 := by
  subst hn
  intro H locs ls hW hS hl T hT X0
  obtain ⟨v, st₀, t, T', L2, h0, X', hL, e1, e2, ⟨hv, hW', hz, hk⟩, stp⟩ := hr H locs ls hW hS hl T hT X0
  cases hv
  rw [h0] at hz hk
  obtain ⟨t2, a1, b1⟩ := kk T'.heap (locs ++ L2) ls (by rw [e1]; exact hW') ⟨Nat.le_trans hS.1 (by rw [e1]; exact hz), fun q h1 h2 => by rw [e1, hk q (Nat.lt_of_lt_of_le h1 hS.1) h2]; exact hS.2.1 q h1 h2, fun q hq => by
    rcases List.mem_append.mp hq with h | h
    · exact hS.2.2 q h
    · exact hL q h⟩ hl T' rfl X'
  exact ⟨t2, stp t2 a1, b1⟩
theorem lw_F {Cn : String} {index : Nat} (h1 : Cond.methodLink own index x ∈ lw_all) (h2 : Cond.selects Cn x y ∈ lw_all) (h3 : Cond.instanceMethod y ∈ lw_all) (h4 : Cond.initialized y.cls ∈ lw_all) (h5 : Cond.code y bytes maxL ret ∈ lw_all) : GoodIn lw_all (va_wsF own index Cn x y (ws_ y bytes maxL ret)) := by
  refine lw_app ?_ (lw_meth h5)
  intro w hw
  simp only [List.mem_cons, List.not_mem_nil, or_false] at hw
  rcases hw with e | e | e | e
  · rw [e]; exact h1
  · rw [e]; exact h2
  · rw [e]; exact h3
  · rw [e]; exact h4
theorem lw_A {Cn owner : String} {index : Nat} (h1 : Cond.methodLink own index x ∈ lw_all) (h0 : Cond.sameMethod x.cls owner x.name x.desc ∈ lw_all) (h2 : Cond.selects Cn x y ∈ lw_all) (h3 : Cond.instanceMethod y ∈ lw_all) (h4 : Cond.initialized y.cls ∈ lw_all) (h5 : Cond.code y bytes maxL ret ∈ lw_all) : GoodIn lw_all (va_wsU own index Cn owner x y (ws_ y bytes maxL ret)) := by
  refine lw_app ?_ (lw_meth h5)
  intro w hw
  simp only [List.mem_cons, List.not_mem_nil, or_false] at hw
  rcases hw with e | e | e | e | e
  · rw [e]; exact h1
  · rw [e]; exact h0
  · rw [e]; exact h2
  · rw [e]; exact h3
  · rw [e]; exact h4
theorem je_callF (C : Cx p s m args meth c G own cc nL rt) {Cn : String} {T : u_T} {N ci index count j nA : Nat} {V : Nat → Value} (hM : MetS l G y bytes maxL ret fr lo mc ms (.ref (G.2.1 + j) :: As) σ sz o σ' sz') (he : σ j = some (.inr (ci, V))) (hc : vwCl[ci]? = some (Cn, T, N)) (hF : va_Fw Cn x y s) (hd : je_hd x nA) (hw : GoodIn lw_all (va_wsF own index Cn x y (ws_ y bytes maxL ret))) (hn2 : As.length = nA) (hR : fr + 1 ≤ R.frames ∧ 8 + (maxL + 11) + lo ≤ R.locals) (hf : cells + mc ≤ R.cells ∧ slots + ms ≤ R.slots) (hrm : (rest.map fun v => v.category).sum ≤ 8) (d : decode cc pc = .ok (.invokeinterface index count, 5)) (n : Nat) (hn : pc + 5 = n) (kk : Js p l e R s m args below meth c G nL Q σ' sz' (cells + mc) (slots + ms) n L (o.toList ++ rest)) : Js p l e R s m args below meth c G nL Q σ sz cells slots pc L (As.reverse ++ .ref (G.2.1 + j) :: rest) :=
  je_call5 (fun H locs ls hW hS hl => va_runF (C := Cn) (x := x) (As := As) (rest := rest) (C.2.2.2.2.2.2.2.1.1.1 ci _ hc).2 ⟨C.1, C.2.1, C.2.2.1, C.2.2.2.2.1, C.2.2.2.1⟩ hM (va_cwF nA C.2.2.2.1 hw rfl rfl rfl hF hd hR) ⟨je_blind, by
    obtain ⟨r0, h1, cell, q1, q2, q3, -⟩ := hW.2 j _ he
    have hr : r0 = (Cn, T, N) := Option.some.inj (h1.symm.trans hc)
    exact ⟨cell, q1, by rw [q3]; rfl, by rw [q2]; exact (C.2.2.2.2.2.2.2.1.1.1 ci _ hc).2.1⟩, fun U hU hW2 => ⟨rfl, by rw [hU]; exact hW, je_K.moved hW2.alike hW2 C.2.2.2.2.2.2.2.1, je_O.at (by rw [hU]; exact hS) hW2 C.2.2.2.2.2.2.2.2⟩⟩ rfl hn2 hl.1 rfl (lv_room hrm) d hf) n hn kk
theorem je_callA (C : Cx p s m args meth c G own cc nL rt) {Cn owner : String} {T : u_T} {N ci index j nA : Nat} {V : Nat → Value} (hM : MetS l G y bytes maxL ret fr lo mc ms (.ref (G.2.1 + j) :: As) σ sz o σ' sz') (he : σ j = some (.inr (ci, V))) (hc : vwCl[ci]? = some (Cn, T, N)) (hz : Cond.declares ⟨owner, x.name, x.desc⟩ ∈ lw_tbl) (hd : owner ≠ "java/lang/invoke/MethodHandle" ∧ owner ≠ "java/lang/invoke/VarHandle" ∧ (parseMethodDescriptor x.desc).map (fun d => d.parameters.length) = some nA) (hw : GoodIn lw_all (va_wsU own index Cn owner x y (ws_ y bytes maxL ret))) (hn2 : As.length = nA) (hR : fr + 1 ≤ R.frames ∧ 8 + (maxL + 11) + lo ≤ R.locals) (hf : cells + mc ≤ R.cells ∧ slots + ms ≤ R.slots) (hrm : (rest.map fun v => v.category).sum ≤ 8) (d : decode cc pc = .ok (.invokevirtual index, 3)) (n : Nat) (hn : pc + 3 = n) (kk : Js p l e R s m args below meth c G nL Q σ' sz' (cells + mc) (slots + ms) n L (o.toList ++ rest)) : Js p l e R s m args below meth c G nL Q σ sz cells slots pc L (As.reverse ++ .ref (G.2.1 + j) :: rest) :=
  je_call (fun H locs ls hW hS hl => va_runU (C := Cn) (x := x) (owner := owner) (As := As) (rest := rest) ⟨C.1, C.2.1, C.2.2.1, C.2.2.2.2.1, C.2.2.2.1⟩ hM (va_cwA nA C.2.2.2.1 hw rfl rfl rfl (C.2.2.2.2.2.2.2.1.2.1 _ (nw_in hz rfl)) hd hR) ⟨je_blind, by
    obtain ⟨r0, h1, cell, q1, q2, q3, -⟩ := hW.2 j _ he
    exact ⟨cell, q1, by rw [q3]; rfl, by rw [q2]; exact (C.2.2.2.2.2.2.2.1.1.1 ci _ hc).2.1⟩, fun U hU hW2 => ⟨rfl, by rw [hU]; exact hW, je_K.moved hW2.alike hW2 C.2.2.2.2.2.2.2.1, je_O.at (by rw [hU]; exact hS) hW2 C.2.2.2.2.2.2.2.2⟩⟩ rfl hn2 hl.1 rfl (lv_room hrm) d hf) n hn kk
end NF
/-- the sum at a, of depth n, answers v from κ on -/
def jn_C (G : je_G) (dyn : Nat → Option je_E) (n a : Nat) (κ : kp_K) (v : Int64) (κ2 : kp_K) : Prop := ∀ (l : Launch) (sz : Nat),
  (∃ V : Nat → Value, dynAt G dyn a (.inr (12, V)) ∧ MetS l G yX15_value cX15_value 2 (some .long) (4 + n) (100 + 40 * n) 0 0 [.ref (G.2.1 + a), .ref (G.2.1 + 9)] (en2 G κ dyn) sz (some (.long v)) (en2 G κ2 dyn) sz) ∨
  (∃ V : Nat → Value, dynAt G dyn a (.inr (13, V)) ∧ MetS l G yX14_value cX14_value 2 (some .long) (4 + n) (100 + 40 * n) 0 0 [.ref (G.2.1 + a), .ref (G.2.1 + 9)] (en2 G κ dyn) sz (some (.long v)) (en2 G κ2 dyn) sz) ∨
  (∃ V : Nat → Value, dynAt G dyn a (.inr (14, V)) ∧ MetS l G yX19_value cX19_value 2 (some .long) (4 + n) (100 + 40 * n) 0 0 [.ref (G.2.1 + a), .ref (G.2.1 + 9)] (en2 G κ dyn) sz (some (.long v)) (en2 G κ2 dyn) sz) ∨
  (∃ (ci : Nat) (V : Nat → Value), (ci = 15 ∨ ci = 16 ∨ ci = 17) ∧ dynAt G dyn a (.inr (ci, V)) ∧ MetS l G yX16_value cX16_value 4 (some .long) (4 + n) (100 + 40 * n) 0 0 [.ref (G.2.1 + a), .ref (G.2.1 + 9)] (en2 G κ dyn) sz (some (.long v)) (en2 G κ2 dyn) sz)
theorem hd_jn : je_hd jn_x 1 := ⟨by decide +kernel, by decide +kernel, by decide +kernel⟩
section NG
variable {p : Program} {l : Launch} {e : Env} {R : Room} {s : State} {m : MethodId} {args : Array Value} {below : List Frame} {meth : Method} {c : Code} {Q : State → Prop} {G : je_G} {own : String} {cc : ByteArray} {nL : Nat} {rt : Option FieldType} {sz cells slots pc : Nat} {L L' : List (Nat × Value)} {st : List Value}
variable {κ κ2 : kp_K} {dyn : Nat → Option je_E} {hb : Nat} {hu : hd_T} {v : Int64} {rest : List Value}
theorem jn_call (C : Cx p s m args meth c G own cc nL rt) {a dd index count : Nat} (hC : jn_C G dyn dd a κ v κ2) (hq : Cond.methodLink own index jn_x ∈ lw_all) (hR : 4 + dd + 1 ≤ R.frames ∧ 8 + (4 + 11) + (100 + 40 * dd) ≤ R.locals) (hrm : (rest.map fun v => v.category).sum ≤ 8) (d : decode cc pc = .ok (.invokeinterface index count, 5)) (n : Nat) (hn : pc + 5 = n) (hf : cells ≤ R.cells ∧ slots ≤ R.slots) (kk : Js p l e R s m args below meth c G nL Q (en2 G κ2 dyn) sz cells slots n L (.long v :: rest)) : Js p l e R s m args below meth c G nL Q (en2 G κ dyn) sz cells slots pc L (.ref (G.2.1 + 9) :: .ref (G.2.1 + a) :: rest) := by
  rcases hC l sz with ⟨V, hv, hM⟩ | ⟨V, hv, hM⟩ | ⟨V, hv, hM⟩ | ⟨ci, V, hci, hv, hM⟩
  · exact je_callF (As := [.ref (G.2.1 + 9)]) (rest := rest) C hM (hv κ) rfl (C.2.2.2.2.2.2.2.1.2.2.1) hd_jn (lw_F hq q1198 q1200 q191 q1202) rfl ⟨hR.1, by have := hR.2; omega⟩ hf hrm d n hn kk
  · exact je_callF (As := [.ref (G.2.1 + 9)]) (rest := rest) C hM (hv κ) rfl (C.2.2.2.2.2.2.2.1.2.2.2.1) hd_jn (lw_F hq q1204 q1206 q190 q1208) rfl ⟨hR.1, by have := hR.2; omega⟩ hf hrm d n hn kk
  · exact je_callF (As := [.ref (G.2.1 + 9)]) (rest := rest) C hM (hv κ) rfl (C.2.2.2.2.2.2.2.1.2.2.2.2.1) hd_jn (lw_F hq q1210 q1212 q195 q1214) rfl ⟨hR.1, by have := hR.2; omega⟩ hf hrm d n hn kk
  · rcases hci with h | h | h <;> subst h
    · exact je_callF (As := [.ref (G.2.1 + 9)]) (rest := rest) C hM (hv κ) rfl (C.2.2.2.2.2.2.2.1.2.2.2.2.2.1) hd_jn (lw_F hq q1187 q1189 q192 q1191) rfl ⟨hR.1, by have := hR.2; omega⟩ hf hrm d n hn kk
    · exact je_callF (As := [.ref (G.2.1 + 9)]) (rest := rest) C hM (hv κ) rfl (C.2.2.2.2.2.2.2.1.2.2.2.2.2.2.1) hd_jn (lw_F hq q1195 q1189 q192 q1191) rfl ⟨hR.1, by have := hR.2; omega⟩ hf hrm d n hn kk
    · exact je_callF (As := [.ref (G.2.1 + 9)]) (rest := rest) C hM (hv κ) rfl (C.2.2.2.2.2.2.2.1.2.2.2.2.2.2.2) hd_jn (lw_F hq q1218 q1189 q192 q1191) rfl ⟨hR.1, by have := hR.2; omega⟩ hf hrm d n hn kk
end NG
def jn_of : MethodName := ⟨"MinistryDesks$Two", "of", "(LMinistryDesks$Scene;JJ)J"⟩
set_option maxHeartbeats 4000000 in
theorem jn_m12 {l : Launch} {G : je_G} {κ : kp_K} {dyn : Nat → Option je_E} {sz a n : Nat} {V : Nat → Value} {v : Int64} (hv : dynAt G dyn a (.inr (12, V))) (h0 : V 0 = .long v) : MetS l G yX15_value cX15_value 2 (some .long) (4 + n) (100 + 40 * n) 0 0 [.ref (G.2.1 + a), .ref (G.2.1 + 9)] (en2 G κ dyn) sz (some (.long v)) (en2 G κ dyn) sz := by
  refine je_met "MinistryDesks$Constant" rfl (by decide +kernel) (Nat.le_of_ble_eq_true rfl) [(0, .ref (G.2.1 + a)), (1, .ref (G.2.1 + 9))] rfl (fun p e s m args below meth c C => ?_)
  refine je_aload_n C dX15_value_0 1 rfl 0 rfl ?_
  refine je_get (k := 0) C (hv κ) rfl in_X15 (by decide) q1085 rfl dX15_value_1 4 rfl h0 ?_
  exact je_lret C dX15_value_4
set_option maxHeartbeats 4000000 in
theorem jn_m13 {l : Launch} {G : je_G} {κ : kp_K} {dyn : Nat → Option je_E} {sz a n k : Nat} {V : Nat → Value} (hv : dynAt G dyn a (.inr (13, V))) (hk : k < 6) (h0 : V 0 = .int (Int32.ofNat k)) : MetS l G yX14_value cX14_value 2 (some .long) (4 + n) (100 + 40 * n) 0 0 [.ref (G.2.1 + a), .ref (G.2.1 + 9)] (en2 G κ dyn) sz (some (.long (κ.2.1 10 (Int32.ofNat k).toNatClampNeg))) (en2 G κ dyn) sz := by
  refine je_met "MinistryDesks$Name" rfl (by decide +kernel) (Nat.le_of_ble_eq_true rfl) [(0, .ref (G.2.1 + a)), (1, .ref (G.2.1 + 9))] rfl (fun p e s m args below meth c C => ?_)
  refine je_aload_n C dX14_value_0 1 rfl 1 rfl ?_
  refine jk_getRN (k := 0) (z := 0) C kd9 rfl in_X3 10 rfl (by decide) q310 rfl dX14_value_1 4 rfl ?_
  refine je_aload_n C dX14_value_4 5 rfl 0 rfl ?_
  refine je_get (k := 0) C (hv κ) rfl in_X14 (by decide) q1075 rfl dX14_value_5 8 rfl h0 ?_
  refine jk_lald (K := some ()) (r := ()) C kd10 dX14_value_8 9 rfl (by
    have h9 : vp_in (Int32.ofNat k) 6 := vp_in_nI hk (by omega)
    unfold p_ck
    rw [if_neg h9]) (fun _ => ?_)
  exact je_lret C dX14_value_9
set_option maxHeartbeats 4000000 in
theorem jn_m14 {l : Launch} {G : je_G} {κ κ2 : kp_K} {dyn : Nat → Option je_E} {sz a n c0 : Nat} {V : Nat → Value} {v : Int64} (hv : dynAt G dyn a (.inr (14, V))) (h0 : V 0 = .ref (G.2.1 + c0)) (hC : jn_C G dyn n c0 κ v κ2) : MetS l G yX19_value cX19_value 2 (some .long) (4 + (n + 1)) (100 + 40 * (n + 1)) 0 0 [.ref (G.2.1 + a), .ref (G.2.1 + 9)] (en2 G κ dyn) sz (some (.long (if lg_cmp v 0 = 0 then 1 else 0))) (en2 G κ2 dyn) sz := by
  refine je_met "MinistryDesks$Not" rfl (by decide +kernel) (Nat.le_of_ble_eq_true rfl) [(0, .ref (G.2.1 + a)), (1, .ref (G.2.1 + 9))] rfl (fun p e s m args below meth c C => ?_)
  refine je_aload_n C dX19_value_0 1 rfl 0 rfl ?_
  refine je_get (k := 0) C (hv κ) rfl in_X19 (by decide) q1126 rfl dX19_value_1 4 rfl h0 ?_
  refine je_aload_n C dX19_value_4 5 rfl 1 rfl ?_
  refine jn_call (rest := []) C hC q1216 ⟨(show 4 + n + 1 ≤ 4 + (n + 1) from by omega), (show 8 + (4 + 11) + (100 + 40 * n) ≤ 100 + 40 * (n + 1) from by omega)⟩ (Nat.le_of_ble_eq_true rfl) dX19_value_5 10 rfl ⟨Nat.le_refl _, Nat.le_refl _⟩ ?_
  refine je_lconst C (0) dX19_value_10 11 rfl rfl ?_
  refine je_lcmp C dX19_value_11 12 rfl ?_
  refine je_if_ne (A := if lg_cmp v 0 = 0 then none else some ()) (B := if lg_cmp v 0 = 0 then some () else none) (r := ()) C 19 dX19_value_12 15 rfl rfl (by split <;> rfl) (fun h => ?_) (fun h => ?_)
  · have h1 : ¬ lg_cmp v 0 = 0 := fun q => by rw [if_pos q] at h; cases h
    refine je_lconst C (0) dX19_value_19 20 rfl rfl ?_
    rw [if_neg h1]
    exact je_lret C dX19_value_20
  have h1 : lg_cmp v 0 = 0 := by
    by_cases q : lg_cmp v 0 = 0
    · exact q
    · rw [if_neg q] at h; cases h
  refine je_lconst C (1) dX19_value_15 16 rfl rfl ?_
  refine je_goto C 20 dX19_value_16 rfl ?_
  rw [if_pos h1]
  exact je_lret C dX19_value_20
theorem hdO15 : "MinistryDesks$Two" ≠ "java/lang/invoke/MethodHandle" ∧ "MinistryDesks$Two" ≠ "java/lang/invoke/VarHandle" ∧ (parseMethodDescriptor jn_of.desc).map (fun d => d.parameters.length) = some 3 := ⟨by decide +kernel, by decide +kernel, by decide +kernel⟩
set_option maxHeartbeats 4000000 in
theorem jn_m15 {l : Launch} {G : je_G} {κ κ2 κ3 κ4 : kp_K} {dyn : Nat → Option je_E} {sz a n c1 c2 : Nat} {V : Nat → Value} {sg : Int32} {x y v : Int64} (hv : dynAt G dyn a (.inr (15, V))) (h0 : V 0 = .ref (G.2.1 + c1)) (h1 : V 1 = .ref (G.2.1 + c2)) (h2 : V 2 = .int sg) (hA : jn_C G dyn n c1 κ x κ2) (hB : jn_C G dyn n c2 κ2 y κ3) (hO : pX20_of sg x y = some v) : MetS l G yX16_value cX16_value 4 (some .long) (4 + (n + 1)) (100 + 40 * (n + 1)) 0 0 [.ref (G.2.1 + a), .ref (G.2.1 + 9)] (en2 G κ dyn) sz (some (.long v)) (en2 G κ3 dyn) sz := by
  refine je_met "MinistryDesks$Two" rfl (by decide +kernel) (Nat.le_of_ble_eq_true rfl) [(0, .ref (G.2.1 + a)), (1, .ref (G.2.1 + 9))] rfl (fun p e s m args below meth c C => ?_)
  refine je_aload_n C dX16_value_0 1 rfl 0 rfl ?_
  refine je_get (k := 0) C (hv κ) rfl in_X20 (by decide) q1099 rfl dX16_value_1 4 rfl h0 ?_
  refine je_aload_n C dX16_value_4 5 rfl 1 rfl ?_
  refine jn_call (rest := []) C hA q1193 ⟨(show 4 + n + 1 ≤ 4 + (n + 1) from by omega), (show 8 + (4 + 11) + (100 + 40 * n) ≤ 100 + 40 * (n + 1) from by omega)⟩ (Nat.le_of_ble_eq_true rfl) dX16_value_5 10 rfl ⟨Nat.le_refl _, Nat.le_refl _⟩ ?_
  refine je_lstore_n C dX16_value_10 11 rfl (Nat.le_of_ble_eq_true rfl) [(2, .long x), (0, .ref (G.2.1 + a)), (1, .ref (G.2.1 + 9))] rfl ?_
  refine je_aload_n C dX16_value_11 12 rfl 1 rfl ?_
  refine je_aload_n C dX16_value_12 13 rfl 2 rfl ?_
  refine je_lload_n C dX16_value_13 14 rfl 0 rfl ?_
  refine je_aload_n C dX16_value_14 15 rfl 1 rfl ?_
  refine je_get (k := 1) C (hv κ2) rfl in_X20 (by decide) q1100 rfl dX16_value_15 18 rfl h1 ?_
  refine je_aload_n C dX16_value_18 19 rfl 2 rfl ?_
  refine jn_call (rest := [.long x, .ref (G.2.1 + 9), .ref (G.2.1 + a)]) C hB q1193 ⟨(show 4 + n + 1 ≤ 4 + (n + 1) from by omega), (show 8 + (4 + 11) + (100 + 40 * n) ≤ 100 + 40 * (n + 1) from by omega)⟩ (Nat.le_of_ble_eq_true rfl) dX16_value_19 24 rfl ⟨Nat.le_refl _, Nat.le_refl _⟩ ?_
  refine je_callA (x := jn_of) (owner := "MinistryDesks$Two") (As := [.ref (G.2.1 + 9), .long x, .long y]) (rest := []) C (metX20_of hv h2 hO) (hv κ3) rfl q1221 hdO15 (lw_A q1220 q1222 q1223 q1224 q196 q1225) rfl ⟨(show 0 + 1 ≤ 4 + (n + 1) from by omega), (show 8 + (6 + 11) + 0 ≤ 100 + 40 * (n + 1) from by omega)⟩ ⟨Nat.le_refl _, Nat.le_refl _⟩ (Nat.le_of_ble_eq_true rfl) dX16_value_24 27 rfl ?_
  exact je_lret C dX16_value_27
theorem hdO16 : "MinistryDesks$Two" ≠ "java/lang/invoke/MethodHandle" ∧ "MinistryDesks$Two" ≠ "java/lang/invoke/VarHandle" ∧ (parseMethodDescriptor jn_of.desc).map (fun d => d.parameters.length) = some 3 := ⟨by decide +kernel, by decide +kernel, by decide +kernel⟩
set_option maxHeartbeats 4000000 in
theorem jn_m16 {l : Launch} {G : je_G} {κ κ2 κ3 κ4 : kp_K} {dyn : Nat → Option je_E} {sz a n c1 c2 : Nat} {V : Nat → Value} {sg : Int32} {x y v : Int64} (hv : dynAt G dyn a (.inr (16, V))) (h0 : V 0 = .ref (G.2.1 + c1)) (h1 : V 1 = .ref (G.2.1 + c2)) (h2 : V 2 = .int sg) (hA : jn_C G dyn n c1 κ x κ2) (hB : jn_C G dyn n c2 κ2 y κ3) (hO : pX18_of sg x y = some v) : MetS l G yX16_value cX16_value 4 (some .long) (4 + (n + 1)) (100 + 40 * (n + 1)) 0 0 [.ref (G.2.1 + a), .ref (G.2.1 + 9)] (en2 G κ dyn) sz (some (.long v)) (en2 G κ3 dyn) sz := by
  refine je_met "MinistryDesks$Two" rfl (by decide +kernel) (Nat.le_of_ble_eq_true rfl) [(0, .ref (G.2.1 + a)), (1, .ref (G.2.1 + 9))] rfl (fun p e s m args below meth c C => ?_)
  refine je_aload_n C dX16_value_0 1 rfl 0 rfl ?_
  refine je_get (k := 0) C (hv κ) rfl in_X18 (by decide) q1099 rfl dX16_value_1 4 rfl h0 ?_
  refine je_aload_n C dX16_value_4 5 rfl 1 rfl ?_
  refine jn_call (rest := []) C hA q1193 ⟨(show 4 + n + 1 ≤ 4 + (n + 1) from by omega), (show 8 + (4 + 11) + (100 + 40 * n) ≤ 100 + 40 * (n + 1) from by omega)⟩ (Nat.le_of_ble_eq_true rfl) dX16_value_5 10 rfl ⟨Nat.le_refl _, Nat.le_refl _⟩ ?_
  refine je_lstore_n C dX16_value_10 11 rfl (Nat.le_of_ble_eq_true rfl) [(2, .long x), (0, .ref (G.2.1 + a)), (1, .ref (G.2.1 + 9))] rfl ?_
  refine je_aload_n C dX16_value_11 12 rfl 1 rfl ?_
  refine je_aload_n C dX16_value_12 13 rfl 2 rfl ?_
  refine je_lload_n C dX16_value_13 14 rfl 0 rfl ?_
  refine je_aload_n C dX16_value_14 15 rfl 1 rfl ?_
  refine je_get (k := 1) C (hv κ2) rfl in_X18 (by decide) q1100 rfl dX16_value_15 18 rfl h1 ?_
  refine je_aload_n C dX16_value_18 19 rfl 2 rfl ?_
  refine jn_call (rest := [.long x, .ref (G.2.1 + 9), .ref (G.2.1 + a)]) C hB q1193 ⟨(show 4 + n + 1 ≤ 4 + (n + 1) from by omega), (show 8 + (4 + 11) + (100 + 40 * n) ≤ 100 + 40 * (n + 1) from by omega)⟩ (Nat.le_of_ble_eq_true rfl) dX16_value_19 24 rfl ⟨Nat.le_refl _, Nat.le_refl _⟩ ?_
  refine je_callA (x := jn_of) (owner := "MinistryDesks$Two") (As := [.ref (G.2.1 + 9), .long x, .long y]) (rest := []) C (metX18_of hv h2 hO) (hv κ3) rfl q1221 hdO16 (lw_A q1220 q1222 q1226 q1227 q194 q1228) rfl ⟨(show 0 + 1 ≤ 4 + (n + 1) from by omega), (show 8 + (7 + 11) + 0 ≤ 100 + 40 * (n + 1) from by omega)⟩ ⟨Nat.le_refl _, Nat.le_refl _⟩ (Nat.le_of_ble_eq_true rfl) dX16_value_24 27 rfl ?_
  exact je_lret C dX16_value_27
theorem hdO17 : "MinistryDesks$Two" ≠ "java/lang/invoke/MethodHandle" ∧ "MinistryDesks$Two" ≠ "java/lang/invoke/VarHandle" ∧ (parseMethodDescriptor jn_of.desc).map (fun d => d.parameters.length) = some 3 := ⟨by decide +kernel, by decide +kernel, by decide +kernel⟩
set_option maxHeartbeats 4000000 in
theorem jn_m17 {l : Launch} {G : je_G} {κ κ2 κ3 κ4 : kp_K} {dyn : Nat → Option je_E} {sz a n c1 c2 : Nat} {V : Nat → Value} {sg : Int32} {x y v : Int64} (hv : dynAt G dyn a (.inr (17, V))) (h0 : V 0 = .ref (G.2.1 + c1)) (h1 : V 1 = .ref (G.2.1 + c2)) (h2 : V 2 = .int sg) (hA : jn_C G dyn n c1 κ x κ2) (hB : jn_C G dyn n c2 κ2 y κ3) (hO : pX17_of sg κ3 x y = some (v, κ4)) : MetS l G yX16_value cX16_value 4 (some .long) (4 + (n + 1)) (100 + 40 * (n + 1)) 0 0 [.ref (G.2.1 + a), .ref (G.2.1 + 9)] (en2 G κ dyn) sz (some (.long v)) (en2 G κ4 dyn) sz := by
  refine je_met "MinistryDesks$Two" rfl (by decide +kernel) (Nat.le_of_ble_eq_true rfl) [(0, .ref (G.2.1 + a)), (1, .ref (G.2.1 + 9))] rfl (fun p e s m args below meth c C => ?_)
  refine je_aload_n C dX16_value_0 1 rfl 0 rfl ?_
  refine je_get (k := 0) C (hv κ) rfl in_X17 (by decide) q1099 rfl dX16_value_1 4 rfl h0 ?_
  refine je_aload_n C dX16_value_4 5 rfl 1 rfl ?_
  refine jn_call (rest := []) C hA q1193 ⟨(show 4 + n + 1 ≤ 4 + (n + 1) from by omega), (show 8 + (4 + 11) + (100 + 40 * n) ≤ 100 + 40 * (n + 1) from by omega)⟩ (Nat.le_of_ble_eq_true rfl) dX16_value_5 10 rfl ⟨Nat.le_refl _, Nat.le_refl _⟩ ?_
  refine je_lstore_n C dX16_value_10 11 rfl (Nat.le_of_ble_eq_true rfl) [(2, .long x), (0, .ref (G.2.1 + a)), (1, .ref (G.2.1 + 9))] rfl ?_
  refine je_aload_n C dX16_value_11 12 rfl 1 rfl ?_
  refine je_aload_n C dX16_value_12 13 rfl 2 rfl ?_
  refine je_lload_n C dX16_value_13 14 rfl 0 rfl ?_
  refine je_aload_n C dX16_value_14 15 rfl 1 rfl ?_
  refine je_get (k := 1) C (hv κ2) rfl in_X17 (by decide) q1100 rfl dX16_value_15 18 rfl h1 ?_
  refine je_aload_n C dX16_value_18 19 rfl 2 rfl ?_
  refine jn_call (rest := [.long x, .ref (G.2.1 + 9), .ref (G.2.1 + a)]) C hB q1193 ⟨(show 4 + n + 1 ≤ 4 + (n + 1) from by omega), (show 8 + (4 + 11) + (100 + 40 * n) ≤ 100 + 40 * (n + 1) from by omega)⟩ (Nat.le_of_ble_eq_true rfl) dX16_value_19 24 rfl ⟨Nat.le_refl _, Nat.le_refl _⟩ ?_
  refine je_callA (x := jn_of) (owner := "MinistryDesks$Two") (As := [.ref (G.2.1 + 9), .long x, .long y]) (rest := []) C (metX17_of hv h2 hO) (hv κ3) rfl q1221 hdO17 (lw_A q1220 q1222 q1229 q1230 q193 q1231) rfl ⟨(show 2 + 1 ≤ 4 + (n + 1) from by omega), (show 8 + (6 + 11) + 45 ≤ 100 + 40 * (n + 1) from by omega)⟩ ⟨Nat.le_refl _, Nat.le_refl _⟩ (Nat.le_of_ble_eq_true rfl) dX16_value_24 27 rfl ?_
  exact je_lret C dX16_value_27
/-- a sum answers what its knots say -/
theorem jn_all {G : je_G} {dyn : Nat → Option je_E} : ∀ (n a : Nat) (l : List (Nat × Int64)), NodeAt G dyn n a l → ∀ (κ : kp_K) (st : List Int64) (z : List Int64 × kp_K), jn_go l (st, κ) = some z → ∃ v κ2, z = (v :: st, κ2) ∧ jn_C G dyn n a κ v κ2 := by
  intro n
  induction n with
  | zero => intro a l h; exact h.elim
  | succ n ih =>
    intro a l h κ st z hz
    rcases h with ⟨V, v, hv, h0, rfl⟩ | ⟨V, k, hv, hk, h0, rfl⟩ | ⟨V, c0, l1, hv, h0, hN, rfl⟩ | ⟨V, ci, c1, c2, sg, l1, l2, hci, hv, h0, h1, h2, hN1, hN2, rfl⟩
    · cases hz
      exact ⟨v, κ, rfl, fun l sz => Or.inl ⟨V, hv, jn_m12 hv h0⟩⟩
    · cases hz
      refine ⟨_, κ, rfl, fun l sz => Or.inr (Or.inl ⟨V, hv, ?_⟩)⟩
      have e : (Int64.ofNat k).toInt32 = Int32.ofNat k := lN_i k
      show MetS _ _ _ _ _ _ _ _ _ _ _ _ _ (some (.long (κ.2.1 10 (Int64.ofNat k).toInt32.toNatClampNeg))) _ _
      rw [e]
      exact jn_m13 hv hk h0
    · rw [jn_go_app] at hz
      cases h1 : jn_go l1 (st, κ) with
      | none => rw [h1] at hz; cases hz
      | some z1 =>
        rw [h1] at hz
        obtain ⟨v1, κ1, rfl, hC⟩ := ih c0 l1 hN κ st z1 h1
        cases hz
        exact ⟨_, κ1, rfl, fun l sz => Or.inr (Or.inr (Or.inl ⟨V, hv, jn_m14 hv h0 hC⟩))⟩
    · rw [jn_go_app, jn_go_app] at hz
      cases g1 : jn_go l1 (st, κ) with
      | none => rw [g1] at hz; cases hz
      | some z1 =>
        rw [g1] at hz
        obtain ⟨x, κ1, rfl, hA⟩ := ih c1 l1 hN1 κ st z1 g1
        cases g2 : jn_go l2 (x :: st, κ1) with
        | none => simp only [g2] at hz; cases hz
        | some z2 =>
          simp only [g2] at hz
          obtain ⟨y, κ3, rfl, hB⟩ := ih c2 l2 hN2 κ1 (x :: st) z2 g2
          have e : sg.toInt64.toInt32 = sg := by simp
          rcases hci with h | h | h <;> subst h
          · simp only [jn_go, jn_1, e] at hz
            cases hO : pX20_of sg x y with
            | none => rw [hO] at hz; cases hz
            | some v =>
              rw [hO] at hz
              cases hz
              exact ⟨v, κ3, rfl, fun l sz => Or.inr (Or.inr (Or.inr ⟨15, V, Or.inl rfl, hv, jn_m15 (κ4 := κ3) hv h0 h1 h2 hA hB hO⟩))⟩
          · simp only [jn_go, jn_1, e] at hz
            cases hO : pX18_of sg x y with
            | none => rw [hO] at hz; cases hz
            | some v =>
              rw [hO] at hz
              cases hz
              exact ⟨v, κ3, rfl, fun l sz => Or.inr (Or.inr (Or.inr ⟨16, V, Or.inr (Or.inl rfl), hv, jn_m16 (κ4 := κ3) hv h0 h1 h2 hA hB hO⟩))⟩
          · simp only [jn_go, jn_1, e] at hz
            cases hO : pX17_of sg κ3 x y with
            | none => rw [hO] at hz; cases hz
            | some p =>
              obtain ⟨v, κ4⟩ := p
              rw [hO] at hz
              cases hz
              exact ⟨v, κ4, rfl, fun l sz => Or.inr (Or.inr (Or.inr ⟨17, V, Or.inr (Or.inr rfl), hv, jn_m17 hv h0 h1 h2 hA hB hO⟩))⟩
section HN
variable {p : Program} {l : Launch} {e : Env} {R : Room} {s : State} {m : MethodId} {args : Array Value} {below : List Frame} {meth : Method} {c : Code} {Q : State → Prop} {G : je_G} {own : String} {cc : ByteArray} {nL : Nat} {rt : Option FieldType} {sz cells slots pc : Nat} {L L' : List (Nat × Value)} {st : List Value}
variable {κ : kp_K} {dyn : Nat → Option je_E} {hb : Nat} {hu : hd_T}
theorem jn_row {a index : Nat} {rest : List Value} {r9 : Int64 × kp_K} (C : Cx p s m args meth c G own cc nL rt) (hH : HouseRep G dyn hb hu) {x : Option Nat} (he : x = some a) (hg : jn_val hu a κ = some r9) (hq : Cond.methodLink own index jn_x ∈ lw_all) (hR : 200 + 1 ≤ R.frames ∧ 8 + (3 + 11) + 5900 ≤ R.locals) (hrm : (rest.map fun v => v.category).sum ≤ 8) (d : decode cc pc = .ok (.invokeinterface index 2, 5)) (n : Nat) (hn : pc + 5 = n) (hf : cells ≤ R.cells ∧ slots ≤ R.slots) (kk : Js p l e R s m args below meth c G nL Q (en2 G r9.2 dyn) sz cells slots n L (.long r9.1 :: rest)) : Js p l e R s m args below meth c G nL Q (en2 G κ dyn) sz cells slots pc L (.ref (G.2.1 + 9) :: va_rf (Option.map (fun q => G.2.1 + q) x) :: rest) := by
  subst he
  unfold jn_val at hg
  cases hl : hu.2.2.2.2.2 a with
  | nil => rw [hl] at hg; cases hg
  | cons q l1 =>
    rw [hl] at hg
    obtain ⟨dd, hdd, hN⟩ := hH.2.2.2 a (by rw [hl]; exact List.cons_ne_nil _ _)
    rw [hl] at hN
    cases hz : jn_go (q :: l1) ([], κ) with
    | none => simp only [hz] at hg; cases hg
    | some z =>
      obtain ⟨v, κ2, rfl, hC⟩ := jn_all dd a _ hN κ [] z hz
      simp only [hz] at hg
      cases hg
      exact jn_call (rest := rest) C hC hq ⟨by have := hR.1; omega, by have := hR.2; omega⟩ hrm d n hn hf kk
end HN
