/-! PURE LAYER: the town (what a text told) as both sides have it -/
set_option maxRecDepth 100000
/-- a sum's value needs stack heights: from height h the list brings height r -/
def hgt : List (Nat × Int64) → Nat → Option Nat
  | [], h => some h
  | q :: l, h => if q.1 = 0 ∨ q.1 = 1 then hgt l (h + 1) else if q.1 = 2 then (if 1 ≤ h then hgt l h else none) else (if 2 ≤ h then hgt l (h - 1) else none)
/-- how the reference has a knot: its sort, its value -/
def cmpS (s : Int64) : Int32 := if s = 0 then 60 else if s = 1 then 256 else if s = 2 then 61 else if s = 3 then 257 else if s = 4 then 258 else 62
def kEnc (q : Nat × Int64) (st vl : Int32) : Prop :=
  (q.1 = 0 ∧ st = 0 ∧ q.2 = vl.toInt64 ∧ 0 ≤ vl ∧ vl ≤ 9999) ∨ (q.1 = 1 ∧ st = 1 ∧ ∃ k : Nat, k < 6 ∧ q.2 = Int64.ofNat k ∧ vl = nI k) ∨ (q.1 = 2 ∧ st = 2 ∧ vl = 260) ∨
  (q.1 = 3 ∧ st = 2 ∧ ((q.2 = 1 ∧ vl = 261) ∨ (q.2 = 0 ∧ vl = 262))) ∨ (q.1 = 4 ∧ st = 2 ∧ (q.2 = 0 ∨ q.2 = 1 ∨ q.2 = 2 ∨ q.2 = 3 ∨ q.2 = 4 ∨ q.2 = 5) ∧ vl = cmpS q.2) ∨ (q.1 = 5 ∧ st = 2 ∧ (vl = 43 ∨ vl = 45 ∨ vl = 42 ∨ vl = 47) ∧ q.2 = vl.toInt64)
/-- a sum of the reference: s its number; o where the system's object stands -/
def SR (hu : hd_T) (κ : kp_K) (s : Nat) (o : Option Nat) : Prop :=
  ∃ a b : Nat, a ≤ b ∧ b ≤ 64 ∧ κ.1 85 s = nI a ∧ κ.1 86 s = nI b ∧ match o with
  | none => a = b
  | some j => a < b ∧ (hu.2.2.2.2.2 j).length = b - a ∧ hgt (hu.2.2.2.2.2 j) 0 = some 1 ∧ ∀ i, i < b - a → kEnc ((hu.2.2.2.2.2 j).getD i (0, 0)) (κ.1 87 (a + i)) (κ.1 88 (a + i))
/-- the town is one that a text can tell -/
def TW (hu : hd_T) : Prop :=
  (hu.2.1 0 ≤ 4 ∧ hu.2.1 1 ≤ 7 ∧ hu.2.1 2 ≤ 16 ∧ hu.2.1 3 ≤ 16 ∧ hu.2.1 4 ≤ 4 ∧ hu.2.1 5 ≤ 4) ∧
  (∀ i, i < hu.2.1 0 → (∃ l : Nat, 1 ≤ l ∧ l ≤ 6 ∧ hu.1 1 i = nI l) ∧ (hu.1 2 i = -1 ∨ ∃ a : Nat, a < hu.2.1 0 ∧ a ≠ i ∧ hu.1 2 i = nI a)) ∧
  (∀ i, i < hu.2.1 1 → ∃ w : Nat, w ≤ 99 ∧ hu.1 11 i = nI w) ∧
  (∀ i, i < hu.2.1 2 → ∃ y d f z : Nat, y ≤ 60 ∧ d < hu.2.1 0 ∧ f < hu.2.1 1 ∧ y ≤ z ∧ z ≤ 99 ∧ hu.1 20 i = nI y ∧ hu.1 21 i = nI d ∧ hu.1 22 i = nI f ∧ hu.1 23 i = nI z) ∧
  (∀ i, i < hu.2.1 3 → ∃ y d f z : Nat, y ≤ 60 ∧ d < hu.2.1 0 ∧ f < hu.2.1 1 ∧ z ≤ 100 ∧ hu.1 30 i = nI y ∧ hu.1 31 i = nI d ∧ hu.1 32 i = nI f ∧ hu.1 33 i = nI z) ∧
  (∀ i, i < hu.2.1 4 → ∃ y d : Nat, y ≤ 60 ∧ d < hu.2.1 0 ∧ hu.1 40 i = nI y ∧ hu.1 41 i = nI d) ∧
  (∃ z : Nat, z ≤ 999 ∧ hu.2.2.2.1 8 = nI z)
/-- the reference's arrays hold the town -/
def MT (hu : hd_T) (κ : kp_K) : Prop :=
  (∀ t, t < 6 → κ.1 68 t = nI (hu.2.1 t)) ∧ κ.1 68 6 = hu.2.2.2.1 8 ∧ κ.1 68 7 = hu.2.2.2.1 9 ∧
  (∀ i, i < hu.2.1 0 → κ.1 69 i = hu.1 0 i ∧ κ.1 70 i = hu.1 1 i ∧ κ.1 71 i = hu.1 2 i) ∧
  (∀ i, i < hu.2.1 1 → κ.1 72 i = hu.1 10 i ∧ κ.1 73 i = hu.1 11 i) ∧
  (∀ i, i < hu.2.1 2 → κ.1 74 i = hu.1 20 i ∧ κ.1 75 i = hu.1 21 i ∧ κ.1 76 i = hu.1 22 i ∧ κ.1 77 i = hu.1 23 i) ∧
  (∀ i, i < hu.2.1 3 → κ.1 78 i = hu.1 30 i ∧ κ.1 79 i = hu.1 31 i ∧ κ.1 80 i = hu.1 32 i ∧ κ.1 81 i = hu.1 33 i) ∧
  (∀ i, i < hu.2.1 4 → κ.1 82 i = hu.1 40 i ∧ κ.1 83 i = hu.1 41 i) ∧
  (∀ i, i < hu.2.1 5 → κ.1 84 i = hu.1 50 i) ∧
  SR hu κ 0 (hu.2.2.1 6) ∧ SR hu κ 1 (hu.2.2.1 7) ∧ (∀ i, i < hu.2.1 5 → (∃ j, hu.2.2.1 (10 + i) = some j) ∧ SR hu κ (2 + i) (hu.2.2.1 (10 + i)))
theorem SR.same {hu : hd_T} {κ κ' : kp_K} {s : Nat} {o : Option Nat} (h : SR hu κ s o) (g : ∀ j i, 85 ≤ j → j ≤ 88 → κ'.1 j i = κ.1 j i) : SR hu κ' s o := by
  obtain ⟨a, b, h1, h2, h3, h4, h5⟩ := h
  refine ⟨a, b, h1, h2, by rw [g 85 s (by omega) (by omega)]; exact h3, by rw [g 86 s (by omega) (by omega)]; exact h4, ?_⟩
  cases o with
  | none => exact h5
  | some j =>
    obtain ⟨c1, c2, c3, c4⟩ := h5
    refine ⟨c1, c2, c3, fun i hi => ?_⟩
    rw [g 87 (a + i) (by omega) (by omega), g 88 (a + i) (by omega) (by omega)]
    exact c4 i hi
theorem MT.same {hu : hd_T} {κ κ' : kp_K} (h : MT hu κ) (g : ∀ j i, 68 ≤ j → j ≤ 88 → κ'.1 j i = κ.1 j i) : MT hu κ' := by
  obtain ⟨h1, h2, h3, h4, h5, h6, h7, h8, h9, ha, hb, hc⟩ := h
  have g' : ∀ j i, 85 ≤ j → j ≤ 88 → κ'.1 j i = κ.1 j i := fun j i a b => g j i (by omega) b
  refine ⟨fun t ht => ?_, ?_, ?_, fun i hi => ?_, fun i hi => ?_, fun i hi => ?_, fun i hi => ?_, fun i hi => ?_, fun i hi => ?_, ha.same g', hb.same g', fun i hi => ⟨(hc i hi).1, (hc i hi).2.same g'⟩⟩
  · rw [g 68 t (by omega) (by omega)]; exact h1 t ht
  · rw [g 68 6 (by omega) (by omega)]; exact h2
  · rw [g 68 7 (by omega) (by omega)]; exact h3
  · rw [g 69 i (by omega) (by omega), g 70 i (by omega) (by omega), g 71 i (by omega) (by omega)]; exact h4 i hi
  · rw [g 72 i (by omega) (by omega), g 73 i (by omega) (by omega)]; exact h5 i hi
  · rw [g 74 i (by omega) (by omega), g 75 i (by omega) (by omega), g 76 i (by omega) (by omega), g 77 i (by omega) (by omega)]; exact h6 i hi
  · rw [g 78 i (by omega) (by omega), g 79 i (by omega) (by omega), g 80 i (by omega) (by omega), g 81 i (by omega) (by omega)]; exact h7 i hi
  · rw [g 82 i (by omega) (by omega), g 83 i (by omega) (by omega)]; exact h8 i hi
  · rw [g 84 i (by omega) (by omega)]; exact h9 i hi
/-- what a run of the reference may write -/
def PM (r : Nat) (j i : Nat) : Prop :=
  (j = 66 ∧ (i = 42 ∨ i = 59)) ∨ j = 89 ∨ j = 90 ∨ ((j = 91 ∨ j = 100) ∧ i = r) ∨ ((j = 92 ∨ j = 96 ∨ j = 97 ∨ j = 98) ∧ 4 * r ≤ i ∧ i < 4 * r + 4) ∨
  ((j = 93 ∨ j = 94 ∨ j = 95) ∧ 28 * r ≤ i ∧ i < 28 * r + 28) ∨ (j = 99 ∧ 16 * r ≤ i ∧ i < 16 * r + 16) ∨ (101 ≤ j ∧ j ≤ 104 ∧ 640 * r ≤ i ∧ i < 640 * r + 640) ∨ (105 ≤ j ∧ j ≤ 107)
/-- what a run of the system may write -/
def PX (r : Nat) (j _i : Nat) : Prop := j = 9 ∨ j = 10 ∨ (13 + 14 * r ≤ j ∧ j ≤ 26 + 14 * r)
theorem MT.fr {hu : hd_T} {κ κ' : kp_K} {r : Nat} (h : MT hu κ) (g : Fr (PM r) κ κ') : MT hu κ' := h.same fun j i h1 h2 => (g.1 j i (by unfold PM; omega)).1
/-! read-only loops: what both sides' answer is -/
def fnd (f : Nat → Int32) (x : Int32) : Nat → Nat → Option Nat
  | _, 0 => none
  | k, n + 1 => if f k = x then some k else fnd f x (k + 1) n
def oI (o : Option Nat) : Int32 := match o with
  | none => -1
  | some k => nI k
theorem fnd_congr {f g : Nat → Int32} {x : Int32} : ∀ n k, (∀ j, k ≤ j → j < k + n → f j = g j) → fnd f x k n = fnd g x k n := by
  intro n
  induction n with
  | zero => intro k _; rfl
  | succ n ih =>
    intro k h
    simp only [fnd, h k (Nat.le_refl k) (by omega), ih (k + 1) (fun j h1 h2 => h j (by omega) (by omega))]
theorem fnd_some {f : Nat → Int32} {x : Int32} {j : Nat} : ∀ n k, fnd f x k n = some j → k ≤ j ∧ j < k + n ∧ f j = x := by
  intro n
  induction n with
  | zero => intro k h; cases h
  | succ n ih =>
    intro k h
    unfold fnd at h
    split at h
    · rename_i q
      cases h
      exact ⟨Nat.le_refl _, by omega, q⟩
    · obtain ⟨h1, h2, h3⟩ := ih (k + 1) h
      exact ⟨by omega, by omega, h3⟩
theorem oI_m1 {o : Option Nat} (h : ∀ j, o = some j → j < 2147483648) : (oI o = -1) = (o = none) := by
  cases o with
  | none => simp [oI]
  | some k => simp only [oI, pt_m1 (h k rfl)]; simp
theorem oI_lt0 {o : Option Nat} (h : ∀ j, o = some j → j < 2147483648) : (oI o < 0) = (o = none) := by
  cases o with
  | none => simp only [oI, pt_m1lt0]
  | some k => simp only [oI, pt_lt0 (h k rfl)]; simp
/-- facts as bits -/
def setF (f : Nat → Int32) : Nat → Nat → Int32 → Int32
  | _, 0, acc => acc
  | k, n + 1, acc => setF f (k + 1) n (acc ||| ((1 : Int32) <<< (f k &&& 31)))
theorem setF_congr {f g : Nat → Int32} : ∀ n k acc, (∀ j, k ≤ j → j < k + n → f j = g j) → setF f k n acc = setF g k n acc := by
  intro n
  induction n with
  | zero => intro k _ _; rfl
  | succ n ih =>
    intro k acc h
    simp only [setF, h k (Nat.le_refl k) (by omega), ih (k + 1) _ (fun j h1 h2 => h j (by omega) (by omega))]
/-- a bit asked -/
def ob (x k : Int32) : Int32 := (x >>> (k &&& 31)) &&& 1
theorem ob_01 (x k : Int32) : ob x k = 0 ∨ ob x k = 1 := by
  obtain ⟨j, hj, e⟩ := pk_andE (x >>> (k &&& 31)) (m := 1) 1 (by decide)
  unfold ob
  rw [e]
  rcases (show j = 0 ∨ j = 1 by omega) with rfl | rfl
  · exact Or.inl rfl
  · exact Or.inr rfl
theorem px_isOf (x k : Int32) : pX1_isOf x k = some (ob x k) := by
  unfold pX1_isOf
  rcases ob_01 x k with h | h
  · rw [h]; unfold ob at h; rw [h]; rfl
  · rw [h]; unfold ob at h; rw [h]; rfl
theorem px_isIn (a l h : Int32) : pX1_isIn a l h = some (if l ≤ a ∧ a ≤ h then 1 else 0) := by
  unfold pX1_isIn
  by_cases h1 : a < l
  · rw [if_pos h1, if_neg (fun q => Int32.not_le.mpr h1 q.1)]
  · rw [if_neg h1]
    by_cases h2 : h < a
    · rw [if_pos h2, if_neg (fun q => Int32.not_le.mpr h2 q.2)]
    · rw [if_neg h2, if_pos ⟨Int32.not_lt.mp h1, Int32.not_lt.mp h2⟩]
/-- how many others hold a fact -/
def othF (H : Nat → Int32) (d : Nat) (x : Int32) : Nat → Nat → Int32 → Int32
  | _, 0, acc => acc
  | k, n + 1, acc => othF H d x (k + 1) n (if k = d then acc else acc + ob (H k) x)
theorem othF_congr {H g : Nat → Int32} {d : Nat} {x : Int32} : ∀ n k acc, (∀ j, k ≤ j → j < k + n → H j = g j) → othF H d x k n acc = othF g d x k n acc := by
  intro n
  induction n with
  | zero => intro k _ _; rfl
  | succ n ih =>
    intro k acc h
    simp only [othF, h k (Nat.le_refl k) (by omega), ih (k + 1) _ (fun j h1 h2 => h j (by omega) (by omega))]
/-- how many questions of a fact at a desk are still to come -/
def askF (hu : hd_T) (y d x : Int32) : Nat → Nat → Int32 → Int32
  | _, 0, acc => acc
  | k, n + 1, acc => askF hu y d x (k + 1) n (if y ≤ hu.1 30 k ∧ hu.1 31 k = d ∧ hu.1 32 k = x then acc + 1 else acc)
