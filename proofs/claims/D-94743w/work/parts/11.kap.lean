/-! OUR OWN: the static region (which cell stands at base + j), its contents, rows over them. Printed by gen/mkkap.py -/
set_option maxRecDepth 100000
/-- contents: ints (fields and elements), longs, references -/
abbrev kp_K : Type := (Nat → Nat → Int32) × (Nat → Nat → Int64) × (Nat → Nat → Option Nat)
def fsX1_x : List (Nat × Nat) := [(1, 1), (0, 0), (0, 0), (0, 0), (2, 0), (1, 9), (1, 11), (1, 12), (1, 13), (1, 27), (1, 41), (0, 0), (1, 55), (1, 56), (1, 57), (1, 58), (1, 59), (1, 60), (0, 0), (0, 0), (1, 61), (1, 62), (1, 63), (1, 64), (1, 65), (0, 0), (0, 0), (0, 0)]
def fsX3_scene : List (Nat × Nat) := [(1, 10), (0, 0)]
def fsX4_plain : List (Nat × Nat) := [(2, 0), (0, 0), (0, 0), (0, 0), (0, 0), (0, 0), (0, 0)]
def fsX4_change : List (Nat × Nat) := [(2, 0), (0, 0), (0, 0), (0, 0), (0, 0), (0, 0), (0, 0)]
def fsX5_truth : List (Nat × Nat) := [(2, 0), (0, 0), (1, 14), (1, 15), (1, 16), (1, 17), (1, 18), (1, 19), (1, 20), (1, 21), (1, 22), (1, 23), (1, 24), (0, 0), (1, 25), (1, 26), (0, 0), (1, 0)]
def fsX5_trial : List (Nat × Nat) := [(2, 0), (0, 0), (1, 28), (1, 29), (1, 30), (1, 31), (1, 32), (1, 33), (1, 34), (1, 35), (1, 36), (1, 37), (1, 38), (0, 0), (1, 39), (1, 40), (0, 0), (1, 0)]
def fsX5_image : List (Nat × Nat) := [(2, 0), (0, 0), (1, 42), (1, 43), (1, 44), (1, 45), (1, 46), (1, 47), (1, 48), (1, 49), (1, 50), (1, 51), (1, 52), (0, 0), (1, 53), (1, 54), (0, 0), (1, 0)]
def fsX6_m : List (Nat × Nat) := [(0, 0), (1, 67), (0, 0), (1, 68), (1, 69), (1, 70), (1, 71), (1, 72), (1, 73), (1, 74), (1, 75), (1, 76), (1, 77), (1, 78), (1, 79), (1, 80), (1, 81), (1, 82), (1, 83), (1, 84), (1, 85), (1, 86), (1, 87), (1, 88), (0, 0), (0, 0), (0, 0), (0, 0), (0, 0), (0, 0), (0, 0), (0, 0), (0, 0), (0, 0), (0, 0), (0, 0), (0, 0), (0, 0), (0, 0), (0, 0), (1, 89), (1, 90), (0, 0), (1, 91), (1, 92), (1, 93), (1, 94), (1, 95), (1, 96), (1, 97), (1, 98), (1, 99), (1, 100), (1, 101), (1, 102), (1, 103), (1, 104), (0, 0), (1, 105), (0, 0), (1, 106), (1, 107), (1, 108), (1, 109), (0, 0), (1, 110), (0, 0), (0, 0), (0, 0), (1, 111), (1, 112), (0, 0), (0, 0), (1, 113), (1, 114), (1, 115)]
def KD : List (Option ((Nat × Nat) ⊕ (Nat × List (Nat × Nat)))) := [some (.inr (0, fsX1_x)), some (.inl (3, 900)), none, none, none, none, none, none, none, some (.inr (3, fsX3_scene)), some (.inl (1, 6)), some (.inr (4, fsX4_plain)), some (.inr (4, fsX4_change)), some (.inr (2, fsX5_truth)), some (.inl (0, 4)), some (.inl (0, 4)), some (.inl (0, 4)), some (.inl (2, 4)), some (.inl (0, 28)), some (.inl (0, 28)), some (.inl (0, 28)), some (.inl (0, 4)), some (.inl (0, 4)), some (.inl (0, 28)), some (.inl (0, 28)), some (.inl (0, 16)), some (.inl (0, 900)), some (.inr (2, fsX5_trial)), some (.inl (0, 4)), some (.inl (0, 4)), some (.inl (0, 4)), some (.inl (2, 4)), some (.inl (0, 28)), some (.inl (0, 28)), some (.inl (0, 28)), some (.inl (0, 4)), some (.inl (0, 4)), some (.inl (0, 28)), some (.inl (0, 28)), some (.inl (0, 16)), some (.inl (0, 900)), some (.inr (2, fsX5_image)), some (.inl (0, 4)), some (.inl (0, 4)), some (.inl (0, 4)), some (.inl (2, 4)), some (.inl (0, 28)), some (.inl (0, 28)), some (.inl (0, 28)), some (.inl (0, 4)), some (.inl (0, 4)), some (.inl (0, 28)), some (.inl (0, 28)), some (.inl (0, 16)), some (.inl (0, 900)), some (.inl (0, 100)), some (.inl (0, 100)), some (.inl (0, 100)), some (.inl (0, 700)), some (.inl (0, 25856)), some (.inl (0, 16)), some (.inl (2, 16)), some (.inl (0, 19208)), some (.inl (0, 24)), some (.inl (0, 24)), some (.inl (2, 24)), some (.inr (1, fsX6_m)), some (.inl (0, 900)), some (.inl (0, 16)), some (.inl (0, 8)), some (.inl (0, 8)), some (.inl (0, 8)), some (.inl (0, 14)), some (.inl (0, 14)), some (.inl (0, 32)), some (.inl (0, 32)), some (.inl (0, 32)), some (.inl (0, 32)), some (.inl (0, 32)), some (.inl (0, 32)), some (.inl (0, 32)), some (.inl (0, 32)), some (.inl (0, 8)), some (.inl (0, 8)), some (.inl (0, 8)), some (.inl (0, 12)), some (.inl (0, 12)), some (.inl (0, 128)), some (.inl (0, 128)), some (.inl (1, 6)), some (.inl (1, 64)), some (.inl (0, 3)), some (.inl (0, 12)), some (.inl (0, 84)), some (.inl (0, 84)), some (.inl (0, 84)), some (.inl (0, 12)), some (.inl (0, 12)), some (.inl (2, 12)), some (.inl (0, 48)), some (.inl (0, 3)), some (.inl (0, 1920)), some (.inl (0, 1920)), some (.inl (0, 1920)), some (.inl (0, 1920)), some (.inl (0, 4)), some (.inl (0, 4)), some (.inl (0, 4)), some (.inl (1, 4352)), some (.inl (0, 16)), some (.inl (0, 16)), some (.inl (0, 16)), some (.inl (0, 19208)), some (.inl (0, 24)), some (.inl (0, 24)), some (.inl (2, 24)), some (.inl (1, 1))]
def je_fv (b : Nat) (κ : kp_K) (j k : Nat) : Option (Nat × Nat) → Value
  | some (0, _) => .int (κ.1 j k)
  | some (1, q) => .ref (b + q)
  | some (2, _) => va_rf ((κ.2.2 j k).map (fun q => b + q))
  | _ => .null
def je_kd (G : je_G) (κ : kp_K) (j : Nat) : (Nat × Nat) ⊕ (Nat × List (Nat × Nat)) → je_E
  | .inl (t, n) => if t = 1 then .inl (G.2.2.1 t, n, .inr (.inl (κ.2.1 j))) else .inl (G.2.2.1 t, n, .inl (κ.1 j))
  | .inr (ci, fs) => .inr (ci, fun k => je_fv G.2.1 κ j k fs[k]?)
/-- the store: the static region with contents κ, and beside it dyn -/
def en2 (G : je_G) (κ : kp_K) (dyn : Nat → Option je_E) (j : Nat) : Option je_E := match KD[j]? with
  | some (some d) => some (je_kd G κ j d)
  | _ => dyn j
/-- an int written (a field, an element), a long, a reference -/
def s_i (κ : kp_K) (j i : Nat) (v : Int32) : kp_K := (fun q => if q = j then upd (κ.1 j) i v else κ.1 q, κ.2)
def s_l (κ : kp_K) (j i : Nat) (v : Int64) : kp_K := (κ.1, fun q => if q = j then vp_updL (κ.2.1 j) i v else κ.2.1 q, κ.2.2)
def s_r (κ : kp_K) (j i : Nat) (v : Option Nat) : kp_K := (κ.1, κ.2.1, fun q => if q = j then va_up (κ.2.2 j) i v else κ.2.2 q)
section KE
variable {G : je_G} {κ : kp_K} {dyn : Nat → Option je_E} {j : Nat}
theorem en2_at {d : (Nat × Nat) ⊕ (Nat × List (Nat × Nat))} (h : KD[j]? = some (some d)) : en2 G κ dyn j = some (je_kd G κ j d) := by
  unfold en2
  rw [h]
theorem en2_up {κ' : kp_K} {x : je_E} {d : (Nat × Nat) ⊕ (Nat × List (Nat × Nat))} (h : KD[j]? = some (some d)) (hx : je_kd G κ' j d = x) (ho : ∀ q, q ≠ j → κ'.1 q = κ.1 q ∧ κ'.2.1 q = κ.2.1 q ∧ κ'.2.2 q = κ.2.2 q) : je_up (en2 G κ dyn) j x = en2 G κ' dyn := by
  funext q
  unfold je_up
  by_cases hq : q = j
  · subst hq
    rw [if_pos rfl, en2_at h, hx]
  · rw [if_neg hq]
    obtain ⟨h1, h2, h3⟩ := ho q hq
    unfold en2
    split
    · rename_i d2 _
      congr 1
      cases d2 with
      | inl t =>
        obtain ⟨t, n⟩ := t
        simp only [je_kd, h1, h2]
      | inr o =>
        obtain ⟨ci, fs⟩ := o
        simp only [je_kd]
        congr 2
        funext k
        simp only [je_fv, h1, h3]
    · rfl
theorem si_o {i : Nat} {v : Int32} : ∀ q, q ≠ j → (s_i κ j i v).1 q = κ.1 q ∧ (s_i κ j i v).2.1 q = κ.2.1 q ∧ (s_i κ j i v).2.2 q = κ.2.2 q := fun q hq => ⟨if_neg hq, rfl, rfl⟩
theorem sl_o {i : Nat} {v : Int64} : ∀ q, q ≠ j → (s_l κ j i v).1 q = κ.1 q ∧ (s_l κ j i v).2.1 q = κ.2.1 q ∧ (s_l κ j i v).2.2 q = κ.2.2 q := fun q hq => ⟨rfl, if_neg hq, rfl⟩
theorem sr_o {i : Nat} {v : Option Nat} : ∀ q, q ≠ j → (s_r κ j i v).1 q = κ.1 q ∧ (s_r κ j i v).2.1 q = κ.2.1 q ∧ (s_r κ j i v).2.2 q = κ.2.2 q := fun q hq => ⟨rfl, rfl, if_neg hq⟩
theorem en2_si {t n i : Nat} {v : Int32} (h : KD[j]? = some (some (.inl (t, n)))) (ht : t ≠ 1) : je_up (en2 G κ dyn) j (.inl (G.2.2.1 t, n, .inl (upd (κ.1 j) i v))) = en2 G (s_i κ j i v) dyn :=
  en2_up h (by simp only [je_kd, if_neg ht, s_i, if_pos]) si_o
theorem en2_sl {n i : Nat} {v : Int64} (h : KD[j]? = some (some (.inl (1, n)))) : je_up (en2 G κ dyn) j (.inl (G.2.2.1 1, n, .inr (.inl (vp_updL (κ.2.1 j) i v)))) = en2 G (s_l κ j i v) dyn :=
  en2_up h (by simp only [je_kd, if_pos, s_l]) sl_o
theorem en2_sf {ci k z : Nat} {fs : List (Nat × Nat)} {v : Int32} (h : KD[j]? = some (some (.inr (ci, fs)))) (hf : fs[k]? = some (0, z)) : je_up (en2 G κ dyn) j (.inr (ci, updV (fun k => je_fv G.2.1 κ j k fs[k]?) k (.int v))) = en2 G (s_i κ j k v) dyn := by
  refine en2_up h ?_ si_o
  simp only [je_kd]
  congr 2
  funext q
  unfold updV
  by_cases hq : q = k
  · subst hq
    rw [if_pos rfl, hf]
    simp [je_fv, s_i, upd]
  · rw [if_neg hq]
    unfold je_fv
    split <;> simp_all [s_i, upd]
theorem en2_srf {ci k z : Nat} {fs : List (Nat × Nat)} {v : Option Nat} (h : KD[j]? = some (some (.inr (ci, fs)))) (hf : fs[k]? = some (2, z)) : je_up (en2 G κ dyn) j (.inr (ci, updV (fun k => je_fv G.2.1 κ j k fs[k]?) k (va_rf (v.map (fun q => G.2.1 + q))))) = en2 G (s_r κ j k v) dyn := by
  refine en2_up h ?_ sr_o
  simp only [je_kd]
  congr 2
  funext q
  unfold updV
  by_cases hq : q = k
  · subst hq
    rw [if_pos rfl, hf]
    simp [je_fv, s_r, va_up]
  · rw [if_neg hq]
    unfold je_fv
    split <;> simp_all [s_r, va_up]
end KE
/-- a run of elements copied -/
def s_c (κ : kp_K) (j0 j1 sp dp n : Nat) : kp_K := (fun q => if q = j1 then va_cpy (κ.1 j0) (κ.1 j1) sp dp n else κ.1 q, κ.2)
theorem en2_sc {G : je_G} {κ : kp_K} {dyn : Nat → Option je_E} {j0 j1 t n sp dp m : Nat} (h : KD[j1]? = some (some (.inl (t, n)))) (ht : t ≠ 1) : je_up (en2 G κ dyn) j1 (.inl (G.2.2.1 t, n, .inl (va_cpy (κ.1 j0) (κ.1 j1) sp dp m))) = en2 G (s_c κ j0 j1 sp dp m) dyn :=
  en2_up h (by simp only [je_kd, if_neg ht, s_c, if_pos]) (fun q hq => ⟨if_neg hq, rfl, rfl⟩)
def p_hs {X : Type} (x : Option Nat) (hb : Nat) (K : Option X) : Option X := if x = some hb then K else none
def p_ch {X : Type} (x : Option Nat) (K : Nat → Option X) : Option X := match x with
  | some a => if a = 11 ∨ a = 12 then K a else none
  | none => none
def p_so {X : Type} (x : Option Nat) (K : Nat → Option X) : Option X := match x with
  | some a => K a
  | none => none
/-- a boolean array at a cell that is a variable: its length -/
def zLen (j : Nat) : Option Nat := match KD[j]? with
  | some (some (.inl (2, n))) => some n
  | _ => none
def p_zn {X : Type} (x : Option Nat) (K : Nat → Nat → Option X) : Option X := match x with
  | some a => match zLen a with
    | some n => K a n
    | none => none
  | none => none
theorem p_hs_inv {X : Type} {r : X} {x : Option Nat} {hb : Nat} {K : Option X} (h : p_hs x hb K = some r) : x = some hb ∧ K = some r := by
  unfold p_hs at h
  split at h
  · rename_i q
    exact ⟨q, h⟩
  · cases h
theorem p_ch_inv {X : Type} {r : X} {x : Option Nat} {K : Nat → Option X} (h : p_ch x K = some r) : ∃ a, x = some a ∧ (a = 11 ∨ a = 12) ∧ K a = some r := by
  unfold p_ch at h
  split at h
  · split at h
    · rename_i a q
      exact ⟨a, rfl, q, h⟩
    · cases h
  · cases h
theorem p_so_inv {X : Type} {r : X} {x : Option Nat} {K : Nat → Option X} (h : p_so x K = some r) : ∃ a, x = some a ∧ K a = some r := by
  cases x with
  | none => cases h
  | some a => exact ⟨a, rfl, h⟩
theorem zLen_inv {j n : Nat} (h : zLen j = some n) : KD[j]? = some (some (.inl (2, n))) := by
  unfold zLen at h
  split at h
  · rename_i q
    cases h
    exact q
  · cases h
theorem p_zn_inv {X : Type} {r : X} {x : Option Nat} {K : Nat → Nat → Option X} (h : p_zn x K = some r) : ∃ a n, x = some a ∧ KD[a]? = some (some (.inl (2, n))) ∧ K a n = some r := by
  unfold p_zn at h
  split at h
  · split at h
    · rename_i n q
      exact ⟨_, n, rfl, zLen_inv q, h⟩
    · cases h
  · cases h
section JK
variable {p : Program} {l : Launch} {e : Env} {R : Room} {s : State} {m : MethodId} {args : Array Value} {below : List Frame} {meth : Method} {c : Code} {Q : State → Prop} {G : je_G} {own : String} {cc : ByteArray} {nL : Nat} {rt : Option FieldType} {sz cells slots pc : Nat} {L L' : List (Nat × Value)} {st : List Value}
variable {κ : kp_K} {dyn : Nat → Option je_E} {X : Type} {r : X}
theorem jk_lt {κ0 : kp_K} {K : kp_K → Option X} (h : p_lt κ0 K = some r) (k : ∀ κ, K κ = some r → Js p l e R s m args below meth c G nL Q (en2 G κ dyn) sz cells slots pc L st) : Js p l e R s m args below meth c G nL Q (en2 G κ0 dyn) sz cells slots pc L st := k κ0 h
theorem jk_getI (C : Cx p s m args meth c G own cc nL rt) {ref Cn : String} {T : u_T} {N ci index j k z : Nat} {fs : List (Nat × Nat)} (hkd : KD[j]? = some (some (.inr (ci, fs)))) (hc : vwCl[ci]? = some (Cn, T, N)) (hin : ∀ w ∈ u_ws Cn T N, w ∈ lw_all) (hf : fs[k]? = some (0, z)) (hk : k < N) (hq : Cond.fieldLink own index ref (T k).2.1 (T k).2.2.1 ∈ lw_all) (hsame : (T k).1 = ref) (d : decode cc pc = .ok (.getfield index, 3)) (n : Nat) (hn : pc + 3 = n) (kk : Js p l e R s m args below meth c G nL Q (en2 G κ dyn) sz cells slots n L (.int (κ.1 j k) :: st)) : Js p l e R s m args below meth c G nL Q (en2 G κ dyn) sz cells slots pc L (.ref (G.2.1 + j) :: st) :=
  je_get C (en2_at hkd) hc hin hk hq hsame d n hn (v := .int (κ.1 j k)) (by simp only [hf, je_fv]) kk
theorem jk_getR (C : Cx p s m args meth c G own cc nL rt) {ref Cn : String} {T : u_T} {N ci index j k z : Nat} {fs : List (Nat × Nat)} (hkd : KD[j]? = some (some (.inr (ci, fs)))) (hc : vwCl[ci]? = some (Cn, T, N)) (hin : ∀ w ∈ u_ws Cn T N, w ∈ lw_all) (q : Nat) (hf : fs[k]? = some (1, q)) (hk : k < N) (hq : Cond.fieldLink own index ref (T k).2.1 (T k).2.2.1 ∈ lw_all) (hsame : (T k).1 = ref) (d : decode cc pc = .ok (.getfield index, 3)) (n : Nat) (hn : pc + 3 = n) (kk : Js p l e R s m args below meth c G nL Q (en2 G κ dyn) sz cells slots n L (.ref (G.2.1 + q) :: st)) : Js p l e R s m args below meth c G nL Q (en2 G κ dyn) sz cells slots pc L (.ref (G.2.1 + j) :: st) :=
  je_get C (en2_at hkd) hc hin hk hq hsame d n hn (v := .ref (G.2.1 + q)) (by simp only [hf, je_fv]) kk
theorem jk_putI (C : Cx p s m args meth c G own cc nL rt) {ref Cn : String} {T : u_T} {N ci index j k z : Nat} {fs : List (Nat × Nat)} (hkd : KD[j]? = some (some (.inr (ci, fs)))) (hc : vwCl[ci]? = some (Cn, T, N)) (hin : ∀ w ∈ u_ws Cn T N, w ∈ lw_all) (ty0 : Nat → FieldType) (hty : ∀ k, k < N → parseFieldDescriptor (T k).2.2.1 = some (ty0 k)) (hnm : ∀ a, a < N → ∀ b, b < N → a ≠ b → (T a).2.1 ≠ (T b).2.1) (hf : fs[k]? = some (0, z)) (hk : k < N) (hq : Cond.fieldLink own index ref (T k).2.1 (T k).2.2.1 ∈ lw_all) (hsame : (T k).1 = ref) (hfin : (T k).2.2.2 = false) (hint : ty0 k = .int) {v : Int32} (d : decode cc pc = .ok (.putfield index, 3)) (n : Nat) (hn : pc + 3 = n) (kk : Js p l e R s m args below meth c G nL Q (en2 G (s_i κ j k v) dyn) sz cells slots n L st) : Js p l e R s m args below meth c G nL Q (en2 G κ dyn) sz cells slots pc L (.int v :: .ref (G.2.1 + j) :: st) :=
  je_put C (en2_at hkd) hc hin ty0 hty hnm hk hq hsame hfin (by rw [hint]; rfl) (by rw [hint]; rfl) d n hn (by rw [en2_sf hkd hf]; exact kk)
theorem jk_putZ (C : Cx p s m args meth c G own cc nL rt) {ref Cn : String} {T : u_T} {N ci index j k z : Nat} {fs : List (Nat × Nat)} (hkd : KD[j]? = some (some (.inr (ci, fs)))) (hc : vwCl[ci]? = some (Cn, T, N)) (hin : ∀ w ∈ u_ws Cn T N, w ∈ lw_all) (ty0 : Nat → FieldType) (hty : ∀ k, k < N → parseFieldDescriptor (T k).2.2.1 = some (ty0 k)) (hnm : ∀ a, a < N → ∀ b, b < N → a ≠ b → (T a).2.1 ≠ (T b).2.1) (hf : fs[k]? = some (0, z)) (hk : k < N) (hq : Cond.fieldLink own index ref (T k).2.1 (T k).2.2.1 ∈ lw_all) (hsame : (T k).1 = ref) (hfin : (T k).2.2.2 = false) (hint : ty0 k = .boolean) {v : Int32} (hz : v = 0 ∨ v = 1) (d : decode cc pc = .ok (.putfield index, 3)) (n : Nat) (hn : pc + 3 = n) (kk : Js p l e R s m args below meth c G nL Q (en2 G (s_i κ j k v) dyn) sz cells slots n L st) : Js p l e R s m args below meth c G nL Q (en2 G κ dyn) sz cells slots pc L (.int v :: .ref (G.2.1 + j) :: st) :=
  je_put C (en2_at hkd) hc hin ty0 hty hnm hk hq hsame hfin (by rw [hint]; exact je_nar hz) (by rw [hint]; rcases hz with h | h <;> subst h <;> rfl) d n hn (by rw [en2_sf hkd hf]; exact kk)
theorem jk_getO (C : Cx p s m args meth c G own cc nL rt) {ref Cn : String} {T : u_T} {N ci index j k z : Nat} {fs : List (Nat × Nat)} (hkd : KD[j]? = some (some (.inr (ci, fs)))) (hc : vwCl[ci]? = some (Cn, T, N)) (hin : ∀ w ∈ u_ws Cn T N, w ∈ lw_all) (hf : fs[k]? = some (2, z)) (hk : k < N) (hq : Cond.fieldLink own index ref (T k).2.1 (T k).2.2.1 ∈ lw_all) (hsame : (T k).1 = ref) (d : decode cc pc = .ok (.getfield index, 3)) (n : Nat) (hn : pc + 3 = n) (kk : Js p l e R s m args below meth c G nL Q (en2 G κ dyn) sz cells slots n L (va_rf (Option.map (fun q => G.2.1 + q) (κ.2.2 j k)) :: st)) : Js p l e R s m args below meth c G nL Q (en2 G κ dyn) sz cells slots pc L (.ref (G.2.1 + j) :: st) :=
  je_get C (en2_at hkd) hc hin hk hq hsame d n hn (v := va_rf (Option.map (fun q => G.2.1 + q) (κ.2.2 j k))) (by simp only [hf, je_fv]) kk
theorem jk_putO (C : Cx p s m args meth c G own cc nL rt) {ref Cn : String} {T : u_T} {N ci index j k z : Nat} {fs : List (Nat × Nat)} (hkd : KD[j]? = some (some (.inr (ci, fs)))) (hc : vwCl[ci]? = some (Cn, T, N)) (hin : ∀ w ∈ u_ws Cn T N, w ∈ lw_all) (ty0 : Nat → FieldType) (hty : ∀ k, k < N → parseFieldDescriptor (T k).2.2.1 = some (ty0 k)) (hnm : ∀ a, a < N → ∀ b, b < N → a ≠ b → (T a).2.1 ≠ (T b).2.1) (hf : fs[k]? = some (2, z)) (hk : k < N) (hq : Cond.fieldLink own index ref (T k).2.1 (T k).2.2.1 ∈ lw_all) (hsame : (T k).1 = ref) (hfin : (T k).2.2.2 = false) (on : String) (hint : ty0 k = .object on) {v : Option Nat} (d : decode cc pc = .ok (.putfield index, 3)) (n : Nat) (hn : pc + 3 = n) (kk : Js p l e R s m args below meth c G nL Q (en2 G (s_r κ j k v) dyn) sz cells slots n L st) : Js p l e R s m args below meth c G nL Q (en2 G κ dyn) sz cells slots pc L (va_rf (Option.map (fun q => G.2.1 + q) v) :: .ref (G.2.1 + j) :: st) :=
  je_put C (en2_at hkd) hc hin ty0 hty hnm hk hq hsame hfin (by rw [hint]; cases v <;> rfl) (by rw [hint]; cases v <;> rfl) d n hn (by rw [en2_srf hkd hf]; exact kk)
theorem jk_getIN (C : Cx p s m args meth c G own cc nL rt) {ref Cn host : String} {T : u_T} {N ci index j k z : Nat} {fs : List (Nat × Nat)} (hkd : KD[j]? = some (some (.inr (ci, fs)))) (hc : vwCl[ci]? = some (Cn, T, N)) (hin : ∀ w ∈ u_ws Cn T N, w ∈ lw_all) (hf : fs[k]? = some (0, z)) (hk : k < N) (hq : Cond.fieldLinkNest own index ref (T k).2.1 (T k).2.2.1 host ∈ lw_tbl) (hsame : (T k).1 = ref) (d : decode cc pc = .ok (.getfield index, 3)) (n : Nat) (hn : pc + 3 = n) (kk : Js p l e R s m args below meth c G nL Q (en2 G κ dyn) sz cells slots n L (.int (κ.1 j k) :: st)) : Js p l e R s m args below meth c G nL Q (en2 G κ dyn) sz cells slots pc L (.ref (G.2.1 + j) :: st) :=
  je_getN C (en2_at hkd) hc hin hk hq hsame d n hn (v := .int (κ.1 j k)) (by simp only [hf, je_fv]) kk
theorem jk_getRN (C : Cx p s m args meth c G own cc nL rt) {ref Cn host : String} {T : u_T} {N ci index j k z : Nat} {fs : List (Nat × Nat)} (hkd : KD[j]? = some (some (.inr (ci, fs)))) (hc : vwCl[ci]? = some (Cn, T, N)) (hin : ∀ w ∈ u_ws Cn T N, w ∈ lw_all) (q : Nat) (hf : fs[k]? = some (1, q)) (hk : k < N) (hq : Cond.fieldLinkNest own index ref (T k).2.1 (T k).2.2.1 host ∈ lw_tbl) (hsame : (T k).1 = ref) (d : decode cc pc = .ok (.getfield index, 3)) (n : Nat) (hn : pc + 3 = n) (kk : Js p l e R s m args below meth c G nL Q (en2 G κ dyn) sz cells slots n L (.ref (G.2.1 + q) :: st)) : Js p l e R s m args below meth c G nL Q (en2 G κ dyn) sz cells slots pc L (.ref (G.2.1 + j) :: st) :=
  je_getN C (en2_at hkd) hc hin hk hq hsame d n hn (v := .ref (G.2.1 + q)) (by simp only [hf, je_fv]) kk
theorem jk_putIN (C : Cx p s m args meth c G own cc nL rt) {ref Cn host : String} {T : u_T} {N ci index j k z : Nat} {fs : List (Nat × Nat)} (hkd : KD[j]? = some (some (.inr (ci, fs)))) (hc : vwCl[ci]? = some (Cn, T, N)) (hin : ∀ w ∈ u_ws Cn T N, w ∈ lw_all) (ty0 : Nat → FieldType) (hty : ∀ k, k < N → parseFieldDescriptor (T k).2.2.1 = some (ty0 k)) (hnm : ∀ a, a < N → ∀ b, b < N → a ≠ b → (T a).2.1 ≠ (T b).2.1) (hf : fs[k]? = some (0, z)) (hk : k < N) (hq : Cond.fieldLinkNest own index ref (T k).2.1 (T k).2.2.1 host ∈ lw_tbl) (hsame : (T k).1 = ref) (hfin : (T k).2.2.2 = false) (hint : ty0 k = .int) {v : Int32} (d : decode cc pc = .ok (.putfield index, 3)) (n : Nat) (hn : pc + 3 = n) (kk : Js p l e R s m args below meth c G nL Q (en2 G (s_i κ j k v) dyn) sz cells slots n L st) : Js p l e R s m args below meth c G nL Q (en2 G κ dyn) sz cells slots pc L (.int v :: .ref (G.2.1 + j) :: st) :=
  je_putN C (en2_at hkd) hc hin ty0 hty hnm hk hq hsame hfin (by rw [hint]; rfl) (by rw [hint]; rfl) d n hn (by rw [en2_sf hkd hf]; exact kk)
theorem jk_putZN (C : Cx p s m args meth c G own cc nL rt) {ref Cn host : String} {T : u_T} {N ci index j k z : Nat} {fs : List (Nat × Nat)} (hkd : KD[j]? = some (some (.inr (ci, fs)))) (hc : vwCl[ci]? = some (Cn, T, N)) (hin : ∀ w ∈ u_ws Cn T N, w ∈ lw_all) (ty0 : Nat → FieldType) (hty : ∀ k, k < N → parseFieldDescriptor (T k).2.2.1 = some (ty0 k)) (hnm : ∀ a, a < N → ∀ b, b < N → a ≠ b → (T a).2.1 ≠ (T b).2.1) (hf : fs[k]? = some (0, z)) (hk : k < N) (hq : Cond.fieldLinkNest own index ref (T k).2.1 (T k).2.2.1 host ∈ lw_tbl) (hsame : (T k).1 = ref) (hfin : (T k).2.2.2 = false) (hint : ty0 k = .boolean) {v : Int32} (hz : v = 0 ∨ v = 1) (d : decode cc pc = .ok (.putfield index, 3)) (n : Nat) (hn : pc + 3 = n) (kk : Js p l e R s m args below meth c G nL Q (en2 G (s_i κ j k v) dyn) sz cells slots n L st) : Js p l e R s m args below meth c G nL Q (en2 G κ dyn) sz cells slots pc L (.int v :: .ref (G.2.1 + j) :: st) :=
  je_putN C (en2_at hkd) hc hin ty0 hty hnm hk hq hsame hfin (by rw [hint]; exact je_nar hz) (by rw [hint]; rcases hz with h | h <;> subst h <;> rfl) d n hn (by rw [en2_sf hkd hf]; exact kk)
theorem jk_getON (C : Cx p s m args meth c G own cc nL rt) {ref Cn host : String} {T : u_T} {N ci index j k z : Nat} {fs : List (Nat × Nat)} (hkd : KD[j]? = some (some (.inr (ci, fs)))) (hc : vwCl[ci]? = some (Cn, T, N)) (hin : ∀ w ∈ u_ws Cn T N, w ∈ lw_all) (hf : fs[k]? = some (2, z)) (hk : k < N) (hq : Cond.fieldLinkNest own index ref (T k).2.1 (T k).2.2.1 host ∈ lw_tbl) (hsame : (T k).1 = ref) (d : decode cc pc = .ok (.getfield index, 3)) (n : Nat) (hn : pc + 3 = n) (kk : Js p l e R s m args below meth c G nL Q (en2 G κ dyn) sz cells slots n L (va_rf (Option.map (fun q => G.2.1 + q) (κ.2.2 j k)) :: st)) : Js p l e R s m args below meth c G nL Q (en2 G κ dyn) sz cells slots pc L (.ref (G.2.1 + j) :: st) :=
  je_getN C (en2_at hkd) hc hin hk hq hsame d n hn (v := va_rf (Option.map (fun q => G.2.1 + q) (κ.2.2 j k))) (by simp only [hf, je_fv]) kk
theorem jk_putON (C : Cx p s m args meth c G own cc nL rt) {ref Cn host : String} {T : u_T} {N ci index j k z : Nat} {fs : List (Nat × Nat)} (hkd : KD[j]? = some (some (.inr (ci, fs)))) (hc : vwCl[ci]? = some (Cn, T, N)) (hin : ∀ w ∈ u_ws Cn T N, w ∈ lw_all) (ty0 : Nat → FieldType) (hty : ∀ k, k < N → parseFieldDescriptor (T k).2.2.1 = some (ty0 k)) (hnm : ∀ a, a < N → ∀ b, b < N → a ≠ b → (T a).2.1 ≠ (T b).2.1) (hf : fs[k]? = some (2, z)) (hk : k < N) (hq : Cond.fieldLinkNest own index ref (T k).2.1 (T k).2.2.1 host ∈ lw_tbl) (hsame : (T k).1 = ref) (hfin : (T k).2.2.2 = false) (on : String) (hint : ty0 k = .object on) {v : Option Nat} (d : decode cc pc = .ok (.putfield index, 3)) (n : Nat) (hn : pc + 3 = n) (kk : Js p l e R s m args below meth c G nL Q (en2 G (s_r κ j k v) dyn) sz cells slots n L st) : Js p l e R s m args below meth c G nL Q (en2 G κ dyn) sz cells slots pc L (va_rf (Option.map (fun q => G.2.1 + q) v) :: .ref (G.2.1 + j) :: st) :=
  je_putN C (en2_at hkd) hc hin ty0 hty hnm hk hq hsame hfin (by rw [hint]; cases v <;> rfl) (by rw [hint]; cases v <;> rfl) d n hn (by rw [en2_srf hkd hf]; exact kk)
theorem je_ifnullM {σ : Nat → Option je_E} (C : Cx p s m args meth c G own cc nL rt) {x : Option Nat} {off : Int} (tgt : Nat) (d : decode cc pc = .ok (.ifnull off, 3)) (n : Nat) (hn : pc + 3 = n) (ht : (pc : Int) + off = (tgt : Int)) {A B : Option X} (h : (if x = none then A else B) = some r) (kt : A = some r → Js p l e R s m args below meth c G nL Q σ sz cells slots tgt L st) (kf : B = some r → Js p l e R s m args below meth c G nL Q σ sz cells slots n L st) : Js p l e R s m args below meth c G nL Q σ sz cells slots pc L (va_rf (Option.map (fun q => G.2.1 + q) x) :: st) := by
  cases x with
  | none => exact je_ifnull (x := none) C tgt d n hn ht h (fun _ h => kt h) kf
  | some a => exact je_ifnull (x := some (G.2.1 + a)) C tgt d n hn ht (A := A) (B := B) (by rw [if_neg (by simp)] at h ⊢; exact h) (fun _ h => kt h) kf
theorem je_ifnonnullM {σ : Nat → Option je_E} (C : Cx p s m args meth c G own cc nL rt) {x : Option Nat} {off : Int} (tgt : Nat) (d : decode cc pc = .ok (.ifnonnull off, 3)) (n : Nat) (hn : pc + 3 = n) (ht : (pc : Int) + off = (tgt : Int)) {A B : Option X} (h : (if x = none then B else A) = some r) (kt : A = some r → Js p l e R s m args below meth c G nL Q σ sz cells slots tgt L st) (kf : B = some r → Js p l e R s m args below meth c G nL Q σ sz cells slots n L st) : Js p l e R s m args below meth c G nL Q σ sz cells slots pc L (va_rf (Option.map (fun q => G.2.1 + q) x) :: st) := by
  cases x with
  | none => exact je_ifnonnull (x := none) C tgt d n hn ht h kt (fun _ h => kf h)
  | some a => exact je_ifnonnull (x := some (G.2.1 + a)) C tgt d n hn ht (A := A) (B := B) (by rw [if_neg (by simp)] at h ⊢; exact h) kt (fun _ h => kf h)
theorem je_nullR {σ : Nat → Option je_E} (C : Cx p s m args meth c G own cc nL rt) (d : decode cc pc = .ok (.aconst_null, 1)) (n : Nat) (hn : pc + 1 = n) (k : Js p l e R s m args below meth c G nL Q σ sz cells slots n L (va_rf (Option.map (fun q => G.2.1 + q) none) :: st)) : Js p l e R s m args below meth c G nL Q σ sz cells slots pc L st := je_null C d n hn k
theorem jk_copyi (C : Cx p s m args meth c G own cc nL rt) {index j0 j1 n0 n1 : Nat} (hk0 : KD[j0]? = some (some (.inl (0, n0)))) (hk1 : KD[j1]? = some (some (.inl (0, n1))))
    (hq : Cond.methodLink own index arraycopyName ∈ lw_all ∧ Cond.native arraycopyName ∈ lw_all ∧ Cond.static arraycopyName ∈ lw_all ∧ Cond.initialized "java/lang/System" ∈ lw_all)
    {sp dp n9 : Int32} (h1 : ¬ sp < 0) (h2 : ¬ dp < 0) (h3 : ¬ n9 < 0) (h4 : sp.toNatClampNeg + n9.toNatClampNeg ≤ n0) (h5 : dp.toNatClampNeg + n9.toNatClampNeg ≤ n1)
    (hframes : 1 ≤ R.frames ∧ 8 + (nativeFrameWords "java/lang/System" "arraycopy" 5 + 11) ≤ R.locals) (hrm : (st.map fun v => v.category).sum ≤ 8) (d : decode cc pc = .ok (.invokestatic index, 3)) (n : Nat) (hn : pc + 3 = n)
    (kk : Js p l e R s m args below meth c G nL Q (en2 G (s_c κ j0 j1 sp.toNatClampNeg dp.toNatClampNeg n9.toNatClampNeg) dyn) sz cells slots n L st) : Js p l e R s m args below meth c G nL Q (en2 G κ dyn) sz cells slots pc L (.int n9 :: .int dp :: .ref (G.2.1 + j1) :: .int sp :: .ref (G.2.1 + j0) :: st) :=
  je_copyi (t := 0) (ty := .int) C ((en2_at hk0).trans rfl) ((en2_at hk1).trans rfl) rfl rfl hq h1 h2 h3 h4 h5 (fun _ _ => rfl) hframes hrm d n hn (by rw [en2_sc hk1 (by decide)]; exact kk)
theorem jk_iald (C : Cx p s m args meth c G own cc nL rt) {j n0 : Nat} {i : Int32} (hkd : KD[j]? = some (some (.inl (0, n0)))) (d : decode cc pc = .ok (.iaload, 1)) (n : Nat) (hn : pc + 1 = n) {K : Option X} (h : p_ck i n0 K = some r) (kk : K = some r → Js p l e R s m args below meth c G nL Q (en2 G κ dyn) sz cells slots n L (.int (κ.1 j i.toNatClampNeg) :: st)) : Js p l e R s m args below meth c G nL Q (en2 G κ dyn) sz cells slots pc L (.int i :: .ref (G.2.1 + j) :: st) :=
  je_iald C (he := (en2_at hkd).trans rfl) (p_ck_inv h).1 d n hn (kk (p_ck_inv h).2)
theorem jk_zald (C : Cx p s m args meth c G own cc nL rt) {j n0 : Nat} {i : Int32} (hkd : KD[j]? = some (some (.inl (2, n0)))) (d : decode cc pc = .ok (.baload, 1)) (n : Nat) (hn : pc + 1 = n) {K : Option X} (h : p_ck i n0 K = some r) (kk : K = some r → Js p l e R s m args below meth c G nL Q (en2 G κ dyn) sz cells slots n L (.int (κ.1 j i.toNatClampNeg) :: st)) : Js p l e R s m args below meth c G nL Q (en2 G κ dyn) sz cells slots pc L (.int i :: .ref (G.2.1 + j) :: st) :=
  je_zald C (he := (en2_at hkd).trans rfl) (p_ck_inv h).1 d n hn (kk (p_ck_inv h).2)
theorem jk_bald (C : Cx p s m args meth c G own cc nL rt) {j n0 : Nat} {i : Int32} (hkd : KD[j]? = some (some (.inl (3, n0)))) (d : decode cc pc = .ok (.baload, 1)) (n : Nat) (hn : pc + 1 = n) {K : Option X} (h : p_ck i n0 K = some r) (kk : K = some r → Js p l e R s m args below meth c G nL Q (en2 G κ dyn) sz cells slots n L (.int (κ.1 j i.toNatClampNeg) :: st)) : Js p l e R s m args below meth c G nL Q (en2 G κ dyn) sz cells slots pc L (.int i :: .ref (G.2.1 + j) :: st) :=
  je_bald C (he := (en2_at hkd).trans rfl) (p_ck_inv h).1 d n hn (kk (p_ck_inv h).2)
theorem jk_lald (C : Cx p s m args meth c G own cc nL rt) {j n0 : Nat} {i : Int32} (hkd : KD[j]? = some (some (.inl (1, n0)))) (d : decode cc pc = .ok (.laload, 1)) (n : Nat) (hn : pc + 1 = n) {K : Option X} (h : p_ck i n0 K = some r) (kk : K = some r → Js p l e R s m args below meth c G nL Q (en2 G κ dyn) sz cells slots n L (.long (κ.2.1 j i.toNatClampNeg) :: st)) : Js p l e R s m args below meth c G nL Q (en2 G κ dyn) sz cells slots pc L (.int i :: .ref (G.2.1 + j) :: st) :=
  je_lald C (he := (en2_at hkd).trans rfl) (p_ck_inv h).1 d n hn (kk (p_ck_inv h).2)
theorem jk_iast (C : Cx p s m args meth c G own cc nL rt) {j n0 : Nat} {i : Int32} {x : Int32} (hkd : KD[j]? = some (some (.inl (0, n0)))) (d : decode cc pc = .ok (.iastore, 1)) (n : Nat) (hn : pc + 1 = n) {K : Option X} (h : p_ck i n0 K = some r) (kk : K = some r → Js p l e R s m args below meth c G nL Q (en2 G (s_i κ j i.toNatClampNeg x) dyn) sz cells slots n L st) : Js p l e R s m args below meth c G nL Q (en2 G κ dyn) sz cells slots pc L (.int x :: .int i :: .ref (G.2.1 + j) :: st) :=
  je_iast C (he := (en2_at hkd).trans rfl) (p_ck_inv h).1 d n hn (by rw [en2_si hkd (by decide)]; exact kk (p_ck_inv h).2)
theorem jk_last (C : Cx p s m args meth c G own cc nL rt) {j n0 : Nat} {i : Int32} {x : Int64} (hkd : KD[j]? = some (some (.inl (1, n0)))) (d : decode cc pc = .ok (.lastore, 1)) (n : Nat) (hn : pc + 1 = n) {K : Option X} (h : p_ck i n0 K = some r) (kk : K = some r → Js p l e R s m args below meth c G nL Q (en2 G (s_l κ j i.toNatClampNeg x) dyn) sz cells slots n L st) : Js p l e R s m args below meth c G nL Q (en2 G κ dyn) sz cells slots pc L (.long x :: .int i :: .ref (G.2.1 + j) :: st) :=
  je_last C (he := (en2_at hkd).trans rfl) (p_ck_inv h).1 d n hn (by rw [en2_sl hkd]; exact kk (p_ck_inv h).2)
theorem jk_bast (C : Cx p s m args meth c G own cc nL rt) {j n0 : Nat} {i : Int32} {x : Int32} (hkd : KD[j]? = some (some (.inl (3, n0)))) (d : decode cc pc = .ok (.bastore, 1)) (n : Nat) (hn : pc + 1 = n) {K : Option X} (h : p_ck i n0 K = some r) (kk : K = some r → Js p l e R s m args below meth c G nL Q (en2 G (s_i κ j i.toNatClampNeg (vp_nar .byte x)) dyn) sz cells slots n L st) : Js p l e R s m args below meth c G nL Q (en2 G κ dyn) sz cells slots pc L (.int x :: .int i :: .ref (G.2.1 + j) :: st) :=
  je_bast C (he := (en2_at hkd).trans rfl) (p_ck_inv h).1 d n hn (by rw [en2_si hkd (by decide)]; exact kk (p_ck_inv h).2)
theorem jk_zast (C : Cx p s m args meth c G own cc nL rt) {j n0 : Nat} {i : Int32} {x : Int32} (hkd : KD[j]? = some (some (.inl (2, n0)))) (d : decode cc pc = .ok (.bastore, 1)) (n : Nat) (hn : pc + 1 = n) (hz : x = 0 ∨ x = 1) {K : Option X} (h : p_ck i n0 K = some r) (kk : K = some r → Js p l e R s m args below meth c G nL Q (en2 G (s_i κ j i.toNatClampNeg x) dyn) sz cells slots n L st) : Js p l e R s m args below meth c G nL Q (en2 G κ dyn) sz cells slots pc L (.int x :: .int i :: .ref (G.2.1 + j) :: st) :=
  je_zast C (he := (en2_at hkd).trans rfl) (p_ck_inv h).1 d n hn (by rw [je_narv hz, en2_si hkd (by decide)]; exact kk (p_ck_inv h).2)
theorem jk_alen (C : Cx p s m args meth c G own cc nL rt) {j n0 : Nat} (hkd : KD[j]? = some (some (.inl (0, n0)))) (d : decode cc pc = .ok (.arraylength, 1)) (n : Nat) (hn : pc + 1 = n) {v : Int32} (hv : Int32.ofNat n0 = v) (kk : Js p l e R s m args below meth c G nL Q (en2 G κ dyn) sz cells slots n L (.int v :: st)) : Js p l e R s m args below meth c G nL Q (en2 G κ dyn) sz cells slots pc L (.ref (G.2.1 + j) :: st) :=
  je_alen C (he := (en2_at hkd).trans rfl) d n hn hv kk
theorem jk_zaldM (C : Cx p s m args meth c G own cc nL rt) {j n0 : Nat} {i : Int32} {x : Option Nat} (he : x = some j) (hkd : KD[j]? = some (some (.inl (2, n0)))) (d : decode cc pc = .ok (.baload, 1)) (n : Nat) (hn : pc + 1 = n) {K : Option X} (h : p_ck i n0 K = some r) (kk : K = some r → Js p l e R s m args below meth c G nL Q (en2 G κ dyn) sz cells slots n L (.int (κ.1 j i.toNatClampNeg) :: st)) : Js p l e R s m args below meth c G nL Q (en2 G κ dyn) sz cells slots pc L (.int i :: va_rf (Option.map (fun q => G.2.1 + q) x) :: st) := by
  subst he
  exact jk_zald C hkd d n hn h kk
/-- an int array at a cell that is a variable: its length -/
def aLen (j : Nat) : Option Nat := match KD[j]? with
  | some (some (.inl (0, n))) => some n
  | _ => none
theorem aLen_inv {j n : Nat} (h : aLen j = some n) : KD[j]? = some (some (.inl (0, n))) := by
  unfold aLen at h
  split at h
  · rename_i q
    cases h
    exact q
  · cases h
end JK
theorem kd0 : KD[0]? = some (some (.inr (0, fsX1_x))) := rfl
theorem kd1 : KD[1]? = some (some (.inl (3, 900))) := rfl
theorem kd9 : KD[9]? = some (some (.inr (3, fsX3_scene))) := rfl
theorem kd10 : KD[10]? = some (some (.inl (1, 6))) := rfl
theorem kd11 : KD[11]? = some (some (.inr (4, fsX4_plain))) := rfl
theorem kd12 : KD[12]? = some (some (.inr (4, fsX4_change))) := rfl
theorem kd13 : KD[13]? = some (some (.inr (2, fsX5_truth))) := rfl
theorem kd14 : KD[14]? = some (some (.inl (0, 4))) := rfl
theorem kd15 : KD[15]? = some (some (.inl (0, 4))) := rfl
theorem kd16 : KD[16]? = some (some (.inl (0, 4))) := rfl
theorem kd17 : KD[17]? = some (some (.inl (2, 4))) := rfl
theorem kd18 : KD[18]? = some (some (.inl (0, 28))) := rfl
theorem kd19 : KD[19]? = some (some (.inl (0, 28))) := rfl
theorem kd20 : KD[20]? = some (some (.inl (0, 28))) := rfl
theorem kd21 : KD[21]? = some (some (.inl (0, 4))) := rfl
theorem kd22 : KD[22]? = some (some (.inl (0, 4))) := rfl
theorem kd23 : KD[23]? = some (some (.inl (0, 28))) := rfl
theorem kd24 : KD[24]? = some (some (.inl (0, 28))) := rfl
theorem kd25 : KD[25]? = some (some (.inl (0, 16))) := rfl
theorem kd26 : KD[26]? = some (some (.inl (0, 900))) := rfl
theorem kd27 : KD[27]? = some (some (.inr (2, fsX5_trial))) := rfl
theorem kd28 : KD[28]? = some (some (.inl (0, 4))) := rfl
theorem kd29 : KD[29]? = some (some (.inl (0, 4))) := rfl
theorem kd30 : KD[30]? = some (some (.inl (0, 4))) := rfl
theorem kd31 : KD[31]? = some (some (.inl (2, 4))) := rfl
theorem kd32 : KD[32]? = some (some (.inl (0, 28))) := rfl
theorem kd33 : KD[33]? = some (some (.inl (0, 28))) := rfl
theorem kd34 : KD[34]? = some (some (.inl (0, 28))) := rfl
theorem kd35 : KD[35]? = some (some (.inl (0, 4))) := rfl
theorem kd36 : KD[36]? = some (some (.inl (0, 4))) := rfl
theorem kd37 : KD[37]? = some (some (.inl (0, 28))) := rfl
theorem kd38 : KD[38]? = some (some (.inl (0, 28))) := rfl
theorem kd39 : KD[39]? = some (some (.inl (0, 16))) := rfl
theorem kd40 : KD[40]? = some (some (.inl (0, 900))) := rfl
theorem kd41 : KD[41]? = some (some (.inr (2, fsX5_image))) := rfl
theorem kd42 : KD[42]? = some (some (.inl (0, 4))) := rfl
theorem kd43 : KD[43]? = some (some (.inl (0, 4))) := rfl
theorem kd44 : KD[44]? = some (some (.inl (0, 4))) := rfl
theorem kd45 : KD[45]? = some (some (.inl (2, 4))) := rfl
theorem kd46 : KD[46]? = some (some (.inl (0, 28))) := rfl
theorem kd47 : KD[47]? = some (some (.inl (0, 28))) := rfl
theorem kd48 : KD[48]? = some (some (.inl (0, 28))) := rfl
theorem kd49 : KD[49]? = some (some (.inl (0, 4))) := rfl
theorem kd50 : KD[50]? = some (some (.inl (0, 4))) := rfl
theorem kd51 : KD[51]? = some (some (.inl (0, 28))) := rfl
theorem kd52 : KD[52]? = some (some (.inl (0, 28))) := rfl
theorem kd53 : KD[53]? = some (some (.inl (0, 16))) := rfl
theorem kd54 : KD[54]? = some (some (.inl (0, 900))) := rfl
theorem kd55 : KD[55]? = some (some (.inl (0, 100))) := rfl
theorem kd56 : KD[56]? = some (some (.inl (0, 100))) := rfl
theorem kd57 : KD[57]? = some (some (.inl (0, 100))) := rfl
theorem kd58 : KD[58]? = some (some (.inl (0, 700))) := rfl
theorem kd59 : KD[59]? = some (some (.inl (0, 25856))) := rfl
theorem kd60 : KD[60]? = some (some (.inl (0, 16))) := rfl
theorem kd61 : KD[61]? = some (some (.inl (2, 16))) := rfl
theorem kd62 : KD[62]? = some (some (.inl (0, 19208))) := rfl
theorem kd63 : KD[63]? = some (some (.inl (0, 24))) := rfl
theorem kd64 : KD[64]? = some (some (.inl (0, 24))) := rfl
theorem kd65 : KD[65]? = some (some (.inl (2, 24))) := rfl
theorem kd66 : KD[66]? = some (some (.inr (1, fsX6_m))) := rfl
theorem kd67 : KD[67]? = some (some (.inl (0, 900))) := rfl
theorem kd68 : KD[68]? = some (some (.inl (0, 16))) := rfl
theorem kd69 : KD[69]? = some (some (.inl (0, 8))) := rfl
theorem kd70 : KD[70]? = some (some (.inl (0, 8))) := rfl
theorem kd71 : KD[71]? = some (some (.inl (0, 8))) := rfl
theorem kd72 : KD[72]? = some (some (.inl (0, 14))) := rfl
theorem kd73 : KD[73]? = some (some (.inl (0, 14))) := rfl
theorem kd74 : KD[74]? = some (some (.inl (0, 32))) := rfl
theorem kd75 : KD[75]? = some (some (.inl (0, 32))) := rfl
theorem kd76 : KD[76]? = some (some (.inl (0, 32))) := rfl
theorem kd77 : KD[77]? = some (some (.inl (0, 32))) := rfl
theorem kd78 : KD[78]? = some (some (.inl (0, 32))) := rfl
theorem kd79 : KD[79]? = some (some (.inl (0, 32))) := rfl
theorem kd80 : KD[80]? = some (some (.inl (0, 32))) := rfl
theorem kd81 : KD[81]? = some (some (.inl (0, 32))) := rfl
theorem kd82 : KD[82]? = some (some (.inl (0, 8))) := rfl
theorem kd83 : KD[83]? = some (some (.inl (0, 8))) := rfl
theorem kd84 : KD[84]? = some (some (.inl (0, 8))) := rfl
theorem kd85 : KD[85]? = some (some (.inl (0, 12))) := rfl
theorem kd86 : KD[86]? = some (some (.inl (0, 12))) := rfl
theorem kd87 : KD[87]? = some (some (.inl (0, 128))) := rfl
theorem kd88 : KD[88]? = some (some (.inl (0, 128))) := rfl
theorem kd89 : KD[89]? = some (some (.inl (1, 6))) := rfl
theorem kd90 : KD[90]? = some (some (.inl (1, 64))) := rfl
theorem kd91 : KD[91]? = some (some (.inl (0, 3))) := rfl
theorem kd92 : KD[92]? = some (some (.inl (0, 12))) := rfl
theorem kd93 : KD[93]? = some (some (.inl (0, 84))) := rfl
theorem kd94 : KD[94]? = some (some (.inl (0, 84))) := rfl
theorem kd95 : KD[95]? = some (some (.inl (0, 84))) := rfl
theorem kd96 : KD[96]? = some (some (.inl (0, 12))) := rfl
theorem kd97 : KD[97]? = some (some (.inl (0, 12))) := rfl
theorem kd98 : KD[98]? = some (some (.inl (2, 12))) := rfl
theorem kd99 : KD[99]? = some (some (.inl (0, 48))) := rfl
theorem kd100 : KD[100]? = some (some (.inl (0, 3))) := rfl
theorem kd101 : KD[101]? = some (some (.inl (0, 1920))) := rfl
theorem kd102 : KD[102]? = some (some (.inl (0, 1920))) := rfl
theorem kd103 : KD[103]? = some (some (.inl (0, 1920))) := rfl
theorem kd104 : KD[104]? = some (some (.inl (0, 1920))) := rfl
theorem kd105 : KD[105]? = some (some (.inl (0, 4))) := rfl
theorem kd106 : KD[106]? = some (some (.inl (0, 4))) := rfl
theorem kd107 : KD[107]? = some (some (.inl (0, 4))) := rfl
theorem kd108 : KD[108]? = some (some (.inl (1, 4352))) := rfl
theorem kd109 : KD[109]? = some (some (.inl (0, 16))) := rfl
theorem kd110 : KD[110]? = some (some (.inl (0, 16))) := rfl
theorem kd111 : KD[111]? = some (some (.inl (0, 16))) := rfl
theorem kd112 : KD[112]? = some (some (.inl (0, 19208))) := rfl
theorem kd113 : KD[113]? = some (some (.inl (0, 24))) := rfl
theorem kd114 : KD[114]? = some (some (.inl (0, 24))) := rfl
theorem kd115 : KD[115]? = some (some (.inl (2, 24))) := rfl
theorem kd116 : KD[116]? = some (some (.inl (1, 1))) := rfl
theorem kr1 {r : Nat} (h : r < 3) : KD[14 + 14 * r]? = some (some (.inl (0, 4))) := by
  match r, h with
  | 0, _ => rfl
  | 1, _ => rfl
  | 2, _ => rfl
  | r + 3, h => exact absurd h (by omega)
theorem kr2 {r : Nat} (h : r < 3) : KD[15 + 14 * r]? = some (some (.inl (0, 4))) := by
  match r, h with
  | 0, _ => rfl
  | 1, _ => rfl
  | 2, _ => rfl
  | r + 3, h => exact absurd h (by omega)
theorem kr3 {r : Nat} (h : r < 3) : KD[16 + 14 * r]? = some (some (.inl (0, 4))) := by
  match r, h with
  | 0, _ => rfl
  | 1, _ => rfl
  | 2, _ => rfl
  | r + 3, h => exact absurd h (by omega)
theorem kr4 {r : Nat} (h : r < 3) : KD[17 + 14 * r]? = some (some (.inl (2, 4))) := by
  match r, h with
  | 0, _ => rfl
  | 1, _ => rfl
  | 2, _ => rfl
  | r + 3, h => exact absurd h (by omega)
theorem kr5 {r : Nat} (h : r < 3) : KD[18 + 14 * r]? = some (some (.inl (0, 28))) := by
  match r, h with
  | 0, _ => rfl
  | 1, _ => rfl
  | 2, _ => rfl
  | r + 3, h => exact absurd h (by omega)
theorem kr6 {r : Nat} (h : r < 3) : KD[19 + 14 * r]? = some (some (.inl (0, 28))) := by
  match r, h with
  | 0, _ => rfl
  | 1, _ => rfl
  | 2, _ => rfl
  | r + 3, h => exact absurd h (by omega)
theorem kr7 {r : Nat} (h : r < 3) : KD[20 + 14 * r]? = some (some (.inl (0, 28))) := by
  match r, h with
  | 0, _ => rfl
  | 1, _ => rfl
  | 2, _ => rfl
  | r + 3, h => exact absurd h (by omega)
theorem kr8 {r : Nat} (h : r < 3) : KD[21 + 14 * r]? = some (some (.inl (0, 4))) := by
  match r, h with
  | 0, _ => rfl
  | 1, _ => rfl
  | 2, _ => rfl
  | r + 3, h => exact absurd h (by omega)
theorem kr9 {r : Nat} (h : r < 3) : KD[22 + 14 * r]? = some (some (.inl (0, 4))) := by
  match r, h with
  | 0, _ => rfl
  | 1, _ => rfl
  | 2, _ => rfl
  | r + 3, h => exact absurd h (by omega)
theorem kr10 {r : Nat} (h : r < 3) : KD[23 + 14 * r]? = some (some (.inl (0, 28))) := by
  match r, h with
  | 0, _ => rfl
  | 1, _ => rfl
  | 2, _ => rfl
  | r + 3, h => exact absurd h (by omega)
theorem kr11 {r : Nat} (h : r < 3) : KD[24 + 14 * r]? = some (some (.inl (0, 28))) := by
  match r, h with
  | 0, _ => rfl
  | 1, _ => rfl
  | 2, _ => rfl
  | r + 3, h => exact absurd h (by omega)
theorem kr12 {r : Nat} (h : r < 3) : KD[25 + 14 * r]? = some (some (.inl (0, 16))) := by
  match r, h with
  | 0, _ => rfl
  | 1, _ => rfl
  | 2, _ => rfl
  | r + 3, h => exact absurd h (by omega)
theorem kr13 {r : Nat} (h : r < 3) : KD[26 + 14 * r]? = some (some (.inl (0, 900))) := by
  match r, h with
  | 0, _ => rfl
  | 1, _ => rfl
  | 2, _ => rfl
  | r + 3, h => exact absurd h (by omega)
def fsRun (r : Nat) : List (Nat × Nat) := [(2, 0), (0, 0), (1, 14 + 14 * r), (1, 15 + 14 * r), (1, 16 + 14 * r), (1, 17 + 14 * r), (1, 18 + 14 * r), (1, 19 + 14 * r), (1, 20 + 14 * r), (1, 21 + 14 * r), (1, 22 + 14 * r), (1, 23 + 14 * r), (1, 24 + 14 * r), (0, 0), (1, 25 + 14 * r), (1, 26 + 14 * r), (0, 0), (1, 0)]
theorem kro {r : Nat} (h : r < 3) : KD[13 + 14 * r]? = some (some (.inr (2, fsRun r))) := by
  match r, h with
  | 0, _ => rfl
  | 1, _ => rfl
  | 2, _ => rfl
  | r + 3, h => exact absurd h (by omega)
theorem kdc {a : Nat} (h : a = 11 ∨ a = 12) : KD[a]? = some (some (.inr (4, fsX4_plain))) := by
  rcases h with h | h <;> subst h <;> rfl
