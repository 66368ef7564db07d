/-! heap mode: programs: printed by gen -/
set_option maxRecDepth 100000
def HD7 : Nat := 80
def hX7_see (G : je_G) (τ : hT) (a0 : Nat) (v1 : Int32) : Option (Int32) :=
  p_ob τ.1 a0 18 fun V2 =>
  p_vi (V2 0) fun x2 =>
  if x2 ≤ v1 then
    (some (-1 : Int32))
  else
  p_ob τ.1 a0 18 fun V9 =>
  p_vr (V9 7) fun x9 =>
  p_at G x9 fun j12 =>
  p_ob τ.1 j12 0 fun V12 =>
  p_vr (V12 0) fun x12 =>
  p_at G x12 fun j16 =>
  p_aB G τ.1 j16 fun n16 f16 =>
  p_ck v1 n16 <|
  some ((f16 v1.toNatClampNeg) &&& (255 : Int32))
def hX7_isSmall (G : je_G) (τ : hT) (a0 : Nat) (v1 : Int32) : Option (Int32) :=
  p_ob τ.1 a0 18 fun V2 =>
  p_cl (hX7_see G τ a0 v1) fun x2 =>
  p_cl (pX1_isIn x2 (97 : Int32) (122 : Int32)) fun t9 =>
  p_cz t9 <|
  some t9
def hbX7_key_105 (G : je_G) (F : Nat) (k4 : hT → Nat → Int32 → Int32 → Int32 → Option (Int32)) (τ : hT) (a0 : Nat) (v1 : Int32) (v3 : Int32) (v4 : Int32) (v5 : Int32) : Option (Int32) :=
  if v5 = 0 then
    (p_lt (v4 + (1 : Int32)) fun t116 =>
    k4 τ a0 v1 t116 (v3 + (1 : Int32)))
  else
  some v3
def hbX7_key_58 (G : je_G) (F : Nat) (k4 : hT → Nat → Int32 → Int32 → Int32 → Option (Int32)) : Nat → hT → Nat → Int32 → Int32 → Int32 → Int32 → Int32 → Int32 → Option (Int32)
  | 0, _, _, _, _, _, _, _, _ => none
  | n + 1, τ, a0, v1, v2, v3, v4, v5, v6 =>
    if (v4 - v2) ≤ v6 then
      (hbX7_key_105 G F k4 τ a0 v1 v3 v4 v5)
    else
    if v5 = 0 then
      (hbX7_key_105 G F k4 τ a0 v1 v3 v4 v5)
    else
    p_cl (pJ3_charAt 0 (v2 + v6)) fun t78 =>
    p_ob τ.1 a0 18 fun V86 =>
    p_cl (hX7_see G τ a0 (v1 + v6)) fun x86 =>
    if t78 = x86 then
      (hbX7_key_58 G F k4 n τ a0 v1 v2 v3 v4 (1 : Int32) (v6 + (1 : Int32)))
    else
    hbX7_key_58 G F k4 n τ a0 v1 v2 v3 v4 (0 : Int32) (v6 + (1 : Int32))
def hbX7_key_35 (G : je_G) (F : Nat) (k4 : hT → Nat → Int32 → Int32 → Int32 → Option (Int32)) (τ : hT) (a0 : Nat) (v1 : Int32) (v2 : Int32) (v3 : Int32) (v4 : Int32) : Option (Int32) :=
  p_ob τ.1 a0 18 fun V40 =>
  p_vi (V40 2) fun x40 =>
  if (v4 - v2) = (x40 - v1) then
    (hbX7_key_58 G F k4 F τ a0 v1 v2 v3 v4 (1 : Int32) (0 : Int32))
  else
  hbX7_key_58 G F k4 F τ a0 v1 v2 v3 v4 (0 : Int32) (0 : Int32)
def hbX7_key_4 (G : je_G) (F : Nat) : Nat → hT → Nat → Int32 → Int32 → Int32 → Option (Int32)
  | 0, _, _, _, _, _ => none
  | n + 1, τ, a0, v1, v2, v3 =>
    p_cl (pJ3_length 0) fun t7 =>
    if t7 ≤ v2 then
      (some (-1 : Int32))
    else
    p_cl (pJ3_indexOf F 0 (32 : Int32) v2) fun t18 =>
    if 0 ≤ t18 then
      (hbX7_key_35 G F (hbX7_key_4 G F n) τ a0 v1 v2 v3 t18)
    else
    p_cl (pJ3_length 0) fun t30 =>
    hbX7_key_35 G F (hbX7_key_4 G F n) τ a0 v1 v2 v3 t30
def hX7_key (G : je_G) (F : Nat) (τ : hT) (a0 : Nat) (v1 : Int32) : Option (Int32) :=
  hbX7_key_4 G F F τ a0 v1 (0 : Int32) (0 : Int32)
def hbX7_takeWord_128 (G : je_G) (F : Nat) (k90 : hT → Nat → Int32 → Option (hT)) (τ : hT) (a0 : Nat) (v1 : Int32) (s0 : Int32) (s1 : Int32) (s2 : Nat) : Option (hT) :=
  p_ob τ.1 s2 18 fun V129 =>
  p_lt (h_up τ s2 (.inr (18, updV V129 4 (.int (s1 ||| s0))))) fun t129 =>
  k90 t129 a0 (v1 + (1 : Int32))
def hbX7_takeWord_90 (G : je_G) (F : Nat) : Nat → hT → Nat → Int32 → Option (hT)
  | 0, _, _, _ => none
  | n + 1, τ, a0, v1 =>
    p_ob τ.1 a0 18 fun V92 =>
    p_vi (V92 5) fun x92 =>
    if (x92 + (6 : Int32)) ≤ v1 then
      (some τ)
    else
    p_ob τ.1 a0 18 fun V103 =>
    p_vi (V103 4) fun x103 =>
    p_ob τ.1 a0 18 fun V110 =>
    p_vi (V110 2) fun x110 =>
    if x110 ≤ v1 then
      (hbX7_takeWord_128 G F (hbX7_takeWord_90 G F n) τ a0 v1 (0 : Int32) (x103 <<< ((5 : Int32) &&& 31)) a0)
    else
    p_ob τ.1 a0 18 fun V118 =>
    p_cl (hX7_see G τ a0 v1) fun x118 =>
    hbX7_takeWord_128 G F (hbX7_takeWord_90 G F n) τ a0 v1 (x118 - (96 : Int32)) (x103 <<< ((5 : Int32) &&& 31)) a0
def hbX7_takeWord_68 (G : je_G) (F : Nat) (τ : hT) (a0 : Nat) (s0 : Int32) (s1 : Nat) : Option (hT) :=
  p_ob τ.1 s1 18 fun V68 =>
  p_lt (h_up τ s1 (.inr (18, updV V68 3 (.int s0)))) fun t68 =>
  p_ob t68.1 a0 18 fun V72 =>
  p_vi (V72 3) fun x72 =>
  if x72 = (2 : Int32) then
    (p_ob t68.1 a0 18 fun V82 =>
    p_lt (h_up t68 a0 (.inr (18, updV V82 4 (.int (0 : Int32))))) fun t82 =>
    p_ob t82.1 a0 18 fun V86 =>
    p_vi (V86 5) fun x86 =>
    hbX7_takeWord_90 G F F t82 a0 x86)
  else
  some t68
def hbX7_takeWord_0 (G : je_G) (F : Nat) : Nat → hT → Nat → Option (hT)
  | 0, _, _ => none
  | n + 1, τ, a0 =>
    p_ob τ.1 a0 18 fun V2 =>
    p_vi (V2 2) fun x2 =>
    p_ob τ.1 a0 18 fun V5 =>
    p_cl (hX7_isSmall G τ a0 x2) fun x5 =>
    if x5 = 0 then
      (p_ob τ.1 a0 18 fun V27 =>
      p_vi (V27 5) fun x27 =>
      p_ob τ.1 a0 18 fun V30 =>
      p_cl (hX7_key G F τ a0 x27) fun x30 =>
      p_ob τ.1 a0 18 fun V33 =>
      p_lt (h_up τ a0 (.inr (18, updV V33 4 (.int x30)))) fun t33 =>
      p_ob t33.1 a0 18 fun V38 =>
      p_vi (V38 4) fun x38 =>
      if x38 < 0 then
        (p_ob t33.1 a0 18 fun V49 =>
        p_vi (V49 2) fun x49 =>
        p_ob t33.1 a0 18 fun V53 =>
        p_vi (V53 5) fun x53 =>
        if (x49 - x53) ≤ (6 : Int32) then
          (hbX7_takeWord_68 G F t33 a0 (2 : Int32) a0)
        else
        hbX7_takeWord_68 G F t33 a0 (6 : Int32) a0)
      else
      hbX7_takeWord_68 G F t33 a0 (1 : Int32) a0)
    else
    p_ob τ.1 a0 18 fun V13 =>
    p_vi (V13 2) fun x13 =>
    p_ob τ.1 a0 18 fun V18 =>
    p_lt (h_up τ a0 (.inr (18, updV V18 2 (.int (x13 + (1 : Int32)))))) fun t18 =>
    hbX7_takeWord_0 G F n t18 a0
def hX7_takeWord (G : je_G) (F : Nat) (τ : hT) (a0 : Nat) : Option (hT) :=
  hbX7_takeWord_0 G F F τ a0
def hX7_isDigit (G : je_G) (τ : hT) (a0 : Nat) (v1 : Int32) : Option (Int32) :=
  p_ob τ.1 a0 18 fun V2 =>
  p_cl (hX7_see G τ a0 v1) fun x2 =>
  p_cl (pX1_isIn x2 (48 : Int32) (57 : Int32)) fun t9 =>
  p_cz t9 <|
  some t9
def hbX7_takeNumber_10 (G : je_G) (F : Nat) : Nat → hT → Nat → Option (hT)
  | 0, _, _ => none
  | n + 1, τ, a0 =>
    p_ob τ.1 a0 18 fun V12 =>
    p_vi (V12 2) fun x12 =>
    p_ob τ.1 a0 18 fun V15 =>
    p_cl (hX7_isDigit G τ a0 x12) fun x15 =>
    if x15 = 0 then
      (some τ)
    else
    p_ob τ.1 a0 18 fun V25 =>
    p_vi (V25 4) fun x25 =>
    p_ob τ.1 a0 18 fun V31 =>
    p_vi (V31 2) fun x31 =>
    p_ob τ.1 a0 18 fun V34 =>
    p_cl (hX7_see G τ a0 x31) fun x34 =>
    p_ob τ.1 a0 18 fun V47 =>
    p_lt (h_up τ a0 (.inr (18, updV V47 4 (.int (if (10000 : Int32) < ((((10 : Int32) * x25) + x34) - (48 : Int32)) then (10000 : Int32) else ((((10 : Int32) * x25) + x34) - (48 : Int32))))))) fun t47 =>
    p_ob t47.1 a0 18 fun V52 =>
    p_vi (V52 2) fun x52 =>
    p_ob t47.1 a0 18 fun V57 =>
    p_lt (h_up t47 a0 (.inr (18, updV V57 2 (.int (x52 + (1 : Int32)))))) fun t57 =>
    hbX7_takeNumber_10 G F n t57 a0
def hX7_takeNumber (G : je_G) (F : Nat) (τ : hT) (a0 : Nat) : Option (hT) :=
  p_ob τ.1 a0 18 fun V2 =>
  p_lt (h_up τ a0 (.inr (18, updV V2 3 (.int (3 : Int32))))) fun t2 =>
  p_ob t2.1 a0 18 fun V7 =>
  p_lt (h_up t2 a0 (.inr (18, updV V7 4 (.int (0 : Int32))))) fun t7 =>
  hbX7_takeNumber_10 G F F t7 a0
def hbX7_takeSign_170 (G : je_G) (F : Nat) (τ : hT) (a0 : Nat) (s0 : Int32) (s1 : Nat) : Option (hT) :=
  p_ob τ.1 s1 18 fun V170 =>
  p_lt (h_up τ s1 (.inr (18, updV V170 4 (.int s0)))) fun t170 =>
  p_ob t170.1 a0 18 fun V175 =>
  p_lt (h_up t170 a0 (.inr (18, updV V175 3 (.int (5 : Int32))))) fun t175 =>
  some t175
def hbX7_takeSign_118 (G : je_G) (F : Nat) (τ : hT) (a0 : Nat) (v2 : Int32) (v3 : Int32) : Option (hT) :=
  p_ob τ.1 a0 18 fun V120 =>
  p_vi (V120 4) fun x120 =>
  if x120 = (61 : Int32) then
    (hbX7_takeSign_170 G F τ a0 (2 : Int32) a0)
  else
  p_ob τ.1 a0 18 fun V133 =>
  p_vi (V133 4) fun x133 =>
  if x133 = (60 : Int32) then
    (if v2 = 0 then
      (if v3 = 0 then
        (hbX7_takeSign_170 G F τ a0 (0 : Int32) a0)
      else
      hbX7_takeSign_170 G F τ a0 (3 : Int32) a0)
    else
    hbX7_takeSign_170 G F τ a0 (1 : Int32) a0)
  else
  if v2 = 0 then
    (hbX7_takeSign_170 G F τ a0 (5 : Int32) a0)
  else
  hbX7_takeSign_170 G F τ a0 (4 : Int32) a0
def hbX7_takeSign_108 (G : je_G) (F : Nat) (τ : hT) (a0 : Nat) (v2 : Int32) (v3 : Int32) : Option (hT) :=
  p_ob τ.1 a0 18 fun V110 =>
  p_vi (V110 2) fun x110 =>
  p_ob τ.1 a0 18 fun V115 =>
  p_lt (h_up τ a0 (.inr (18, updV V115 2 (.int (x110 + (1 : Int32)))))) fun t115 =>
  hbX7_takeSign_118 G F t115 a0 v2 v3
def hbX7_takeSign_99 (G : je_G) (F : Nat) (τ : hT) (a0 : Nat) (v2 : Int32) (s0 : Int32) : Option (hT) :=
  if v2 = 0 then
    (if s0 = 0 then
      (hbX7_takeSign_118 G F τ a0 v2 s0)
    else
    hbX7_takeSign_108 G F τ a0 v2 s0)
  else
  hbX7_takeSign_108 G F τ a0 v2 s0
def hbX7_takeSign_98 (G : je_G) (F : Nat) (τ : hT) (a0 : Nat) (v2 : Int32) : Option (hT) :=
  hbX7_takeSign_99 G F τ a0 v2 (0 : Int32)
def hbX7_takeSign_78 (G : je_G) (F : Nat) (τ : hT) (a0 : Nat) (v1 : Int32) (s0 : Int32) : Option (hT) :=
  p_ob τ.1 a0 18 fun V80 =>
  p_vi (V80 4) fun x80 =>
  if x80 = (60 : Int32) then
    (if v1 = (62 : Int32) then
      (hbX7_takeSign_99 G F τ a0 s0 (1 : Int32))
    else
    hbX7_takeSign_98 G F τ a0 s0)
  else
  hbX7_takeSign_98 G F τ a0 s0
def hbX7_takeSign_77 (G : je_G) (F : Nat) (τ : hT) (a0 : Nat) (v1 : Int32) : Option (hT) :=
  hbX7_takeSign_78 G F τ a0 v1 (0 : Int32)
def hbX7_takeSign_58 (G : je_G) (F : Nat) (τ : hT) (a0 : Nat) (v1 : Int32) : Option (hT) :=
  p_ob τ.1 a0 18 fun V59 =>
  p_vi (V59 4) fun x59 =>
  if x59 = (61 : Int32) then
    (hbX7_takeSign_77 G F τ a0 v1)
  else
  if v1 = (61 : Int32) then
    (hbX7_takeSign_78 G F τ a0 v1 (1 : Int32))
  else
  hbX7_takeSign_77 G F τ a0 v1
def hbX7_takeSign_200 (G : je_G) (F : Nat) (τ : hT) (a0 : Nat) (s0 : Int32) (s1 : Nat) : Option (hT) :=
  p_ob τ.1 s1 18 fun V200 =>
  p_lt (h_up τ s1 (.inr (18, updV V200 3 (.int s0)))) fun t200 =>
  some t200
def hX7_takeSign (G : je_G) (F : Nat) (τ : hT) (a0 : Nat) : Option (hT) :=
  p_ob τ.1 a0 18 fun V3 =>
  p_vi (V3 2) fun x3 =>
  p_ob τ.1 a0 18 fun V6 =>
  p_cl (hX7_see G τ a0 x3) fun x6 =>
  p_ob τ.1 a0 18 fun V9 =>
  p_lt (h_up τ a0 (.inr (18, updV V9 4 (.int x6)))) fun t9 =>
  p_ob t9.1 a0 18 fun V14 =>
  p_vi (V14 2) fun x14 =>
  p_ob t9.1 a0 18 fun V19 =>
  p_lt (h_up t9 a0 (.inr (18, updV V19 2 (.int (x14 + (1 : Int32)))))) fun t19 =>
  p_ob t19.1 a0 18 fun V24 =>
  p_vi (V24 2) fun x24 =>
  p_ob t19.1 a0 18 fun V27 =>
  p_cl (hX7_see G t19 a0 x24) fun x27 =>
  p_ob t19.1 a0 18 fun V32 =>
  p_vi (V32 4) fun x32 =>
  if x32 = (60 : Int32) then
    (hbX7_takeSign_58 G F t19 a0 x27)
  else
  p_ob t19.1 a0 18 fun V41 =>
  p_vi (V41 4) fun x41 =>
  if x41 = (62 : Int32) then
    (hbX7_takeSign_58 G F t19 a0 x27)
  else
  p_ob t19.1 a0 18 fun V50 =>
  p_vi (V50 4) fun x50 =>
  if x50 = (61 : Int32) then
    (hbX7_takeSign_58 G F t19 a0 x27)
  else
  p_ob t19.1 a0 18 fun V185 =>
  p_vi (V185 4) fun x185 =>
  p_cl (pJ3_indexOf_2 F 1 x185) fun t188 =>
  if t188 < 0 then
    (hbX7_takeSign_200 G F t19 a0 (6 : Int32) a0)
  else
  hbX7_takeSign_200 G F t19 a0 (4 : Int32) a0
def hbX7_take_26 (G : je_G) (F : Nat) (k0 : hT → Nat → Option (hT)) (τ : hT) (a0 : Nat) : Option (hT) :=
  p_ob τ.1 a0 18 fun V28 =>
  p_vi (V28 2) fun x28 =>
  p_ob τ.1 a0 18 fun V33 =>
  p_lt (h_up τ a0 (.inr (18, updV V33 2 (.int (x28 + (1 : Int32)))))) fun t33 =>
  k0 t33 a0
def hbX7_take_0 (G : je_G) (F : Nat) : Nat → hT → Nat → Option (hT)
  | 0, _, _ => none
  | n + 1, τ, a0 =>
    p_ob τ.1 a0 18 fun V2 =>
    p_vi (V2 2) fun x2 =>
    p_ob τ.1 a0 18 fun V5 =>
    p_cl (hX7_see G τ a0 x2) fun x5 =>
    if x5 = (10 : Int32) then
      (hbX7_take_26 G F (hbX7_take_0 G F n) τ a0)
    else
    p_ob τ.1 a0 18 fun V15 =>
    p_vi (V15 2) fun x15 =>
    p_ob τ.1 a0 18 fun V18 =>
    p_cl (hX7_see G τ a0 x15) fun x18 =>
    if x18 = (32 : Int32) then
      (hbX7_take_26 G F (hbX7_take_0 G F n) τ a0)
    else
    p_ob τ.1 a0 18 fun V41 =>
    p_vi (V41 2) fun x41 =>
    p_ob τ.1 a0 18 fun V44 =>
    p_lt (h_up τ a0 (.inr (18, updV V44 5 (.int x41)))) fun t44 =>
    p_ob t44.1 a0 18 fun V48 =>
    p_vi (V48 2) fun x48 =>
    p_ob t44.1 a0 18 fun V52 =>
    p_vi (V52 0) fun x52 =>
    if x48 < x52 then
      (p_ob t44.1 a0 18 fun V68 =>
      p_vi (V68 2) fun x68 =>
      p_ob t44.1 a0 18 fun V71 =>
      p_cl (hX7_isSmall G t44 a0 x68) fun x71 =>
      if x71 = 0 then
        (p_ob t44.1 a0 18 fun V86 =>
        p_vi (V86 2) fun x86 =>
        p_ob t44.1 a0 18 fun V89 =>
        p_cl (hX7_isDigit G t44 a0 x86) fun x89 =>
        if x89 = 0 then
          (p_ob t44.1 a0 18 fun V103 =>
          p_cl (hX7_takeSign G F t44 a0) fun u103 =>
          p_lt u103 fun t103 =>
          some t103)
        else
        p_ob t44.1 a0 18 fun V96 =>
        p_cl (hX7_takeNumber G F t44 a0) fun u96 =>
        p_lt u96 fun t96 =>
        some t96)
      else
      p_ob t44.1 a0 18 fun V78 =>
      p_cl (hX7_takeWord G F t44 a0) fun u78 =>
      p_lt u78 fun t78 =>
      some t78)
    else
    p_ob t44.1 a0 18 fun V60 =>
    p_lt (h_up t44 a0 (.inr (18, updV V60 3 (.int (0 : Int32))))) fun t60 =>
    some t60
def hX7_take (G : je_G) (F : Nat) (τ : hT) (a0 : Nat) : Option (hT) :=
  hbX7_take_0 G F F τ a0
def hbJ9_init_2_X8_41 (G : je_G) (τ : hT) (a0 : Nat) (q1 : Option Nat) (q2 : Option Nat) (v3 : Int32) : Option (hT) :=
  p_ob τ.1 a0 19 fun V43 =>
  p_lt (h_up τ a0 (.inr (19, updV V43 3 (va_rf q1)))) fun t43 =>
  p_ob t43.1 a0 19 fun V48 =>
  p_lt (h_up t43 a0 (.inr (19, updV V48 0 (va_rf q2)))) fun t48 =>
  if v3 = 0 then
    (p_ob t48.1 a0 19 fun V57 =>
    p_lt (h_up t48 a0 (.inr (19, updV V57 2 (va_rf none)))) fun t57 =>
    some t57)
  else
  some t48
def hJ9_init_2_X8 (G : je_G) (τ : hT) (a0 : Nat) (q1 : Option Nat) (q2 : Option Nat) (v3 : Int32) (v4 : Int32) : Option (hT) :=
  p_ob τ.1 a0 19 fun V6 =>
  p_lt (h_up τ a0 (.inr (19, updV V6 0 (.ref (G.2.1 + a0))))) fun t6 =>
  p_ob t6.1 a0 19 fun V13 =>
  p_lt (h_up t6 a0 (.inr (19, updV V13 1 (va_rf (G.2.2.2.2 0))))) fun t13 =>
  p_ob t13.1 a0 19 fun V20 =>
  p_lt (h_up t13 a0 (.inr (19, updV V20 2 (va_rf (G.2.2.2.2 1))))) fun t20 =>
  if v4 = 0 then
    (p_ob t20.1 a0 19 fun V38 =>
    p_lt (h_up t20 a0 (.inr (19, updV V38 1 (va_rf none)))) fun t38 =>
    hbJ9_init_2_X8_41 G t38 a0 q1 q2 v3)
  else
  none
def hJ10_init_X8 (G : je_G) (τ : hT) (a0 : Nat) (q1 : Option Nat) (q2 : Option Nat) (v3 : Int32) (v4 : Int32) : Option (hT) :=
  p_cl (hJ9_init_2_X8 G τ a0 q1 q2 v3 v4) fun u6 =>
  p_lt u6 fun t6 =>
  some t6
def hX8_init (G : je_G) (τ : hT) (a0 : Nat) (v1 : Int32) (v2 : Int32) : Option (hT) :=
  p_cl (hJ10_init_X8 G τ a0 none none (0 : Int32) (0 : Int32)) fun u5 =>
  p_lt u5 fun t5 =>
  p_ob t5.1 a0 19 fun V10 =>
  p_lt (h_up t5 a0 (.inr (19, updV V10 6 (.int v1)))) fun t10 =>
  p_ob t10.1 a0 19 fun V15 =>
  p_lt (h_up t10 a0 (.inr (19, updV V15 7 (.int v2)))) fun t15 =>
  some t15
def hX7_wrong (G : je_G) (τ : hT) (a0 : Nat) : Option (Option Nat × hT) :=
  p_lt τ.2 fun b0 =>
  p_lt (h_nw τ (.inr (19, fun k => defaultValue (tyX8 k)))) fun t0 =>
  p_ob t0.1 a0 18 fun V6 =>
  p_vi (V6 5) fun x6 =>
  p_cl (hX8_init G t0 b0 (1 : Int32) x6) fun u9 =>
  p_lt u9 fun t9 =>
  some ((some (G.2.1 + b0)), t9)
def hJ2_size (G : je_G) (τ : hT) (a0 : Nat) : Option (Int32) :=
  p_ob τ.1 a0 20 fun V1 =>
  p_vi (V1 2) fun x1 =>
  some x1
def hX7_much (G : je_G) (τ : hS) (a0 : Nat) (v1 : Int32) : Option ((Nat × hS) ⊕ (Unit × hS)) :=
  p_pr (τ.2.2 ≤ DC) <|
  if v1 = 0 then
    (some (.inr ((), τ)))
  else
  p_pr (τ.2.2 + 1 ≤ DC) <|
  p_lt τ.2.1 fun b4 =>
  p_lt (x_nw τ (.inr (19, fun k => defaultValue (tyX8 k)))) fun t4 =>
  p_ob t4.1 a0 18 fun V10 =>
  p_vi (V10 5) fun x10 =>
  p_cl (hX8_init G (h_of t4) b4 (2 : Int32) x10) fun u13 =>
  p_lt (x_of u13 (t4.2.2 + 0)) fun t13 =>
  p_ob t13.1 b4 19 fun V16 =>
  some (.inl (b4, t13))
def hX7_name (G : je_G) (τ : hS) (a0 : Nat) : Option ((Nat × hS) ⊕ (Int32 × hS)) :=
  p_pr (τ.2.2 ≤ DC) <|
  p_ob τ.1 a0 18 fun V1 =>
  p_vi (V1 3) fun x1 =>
  if x1 = (2 : Int32) then
    (p_ob τ.1 a0 18 fun V14 =>
    p_vi (V14 4) fun x14 =>
    some (.inr (x14, τ)))
  else
  p_ob τ.1 a0 18 fun V9 =>
  p_pr (τ.2.2 + 1 ≤ DC) <|
  p_cl (hX7_wrong G (h_of τ) a0) fun u9 =>
  p_lt u9.1 fun x9 =>
  p_lt (x_of u9.2 (τ.2.2 + 1)) fun t9 =>
  p_at G x9 fun j12 =>
  p_ob t9.1 j12 19 fun V12 =>
  some (.inl (j12, t9))
def hJ2_elementData (G : je_G) (τ : hT) (a0 : Nat) (v1 : Int32) : Option (Option Nat) :=
  p_ob τ.1 a0 20 fun V1 =>
  p_vr (V1 1) fun x1 =>
  p_at G x1 fun j5 =>
  p_aO G τ.1 j5 fun n5 f5 =>
  p_ck v1 n5 <|
  p_lt (f5 v1.toNatClampNeg) fun x5 =>
  some x5
def hJ2_get (G : je_G) (τ : hT) (a0 : Nat) (v1 : Int32) : Option (Option Nat) :=
  p_ob τ.1 a0 20 fun V2 =>
  p_vi (V2 2) fun x2 =>
  p_cl (pJ11_checkIndex v1 x2) fun t5 =>
  p_ob τ.1 a0 20 fun V11 =>
  p_cl (hJ2_elementData G τ a0 v1) fun x11 =>
  some x11
def hbX2_desk_2 (G : je_G) (F : Nat) : Nat → hT → Nat → Int32 → Int32 → Option (Int32)
  | 0, _, _, _, _ => none
  | n + 1, τ, a0, v1, v2 =>
    p_ob τ.1 a0 5 fun V4 =>
    p_vr (V4 0) fun x4 =>
    p_at G x4 fun j7 =>
    p_ob τ.1 j7 20 fun V7 =>
    p_cl (hJ2_size G τ j7) fun x7 =>
    if x7 ≤ v2 then
      (some (-1 : Int32))
    else
    p_ob τ.1 a0 5 fun V14 =>
    p_vr (V14 0) fun x14 =>
    p_at G x14 fun j18 =>
    p_ob τ.1 j18 20 fun V18 =>
    p_cl (hJ2_get G τ j18 v2) fun x18 =>
    p_at G x18 fun j21 =>
    p_ob τ.1 j21 6 fun V21 =>
    p_ob τ.1 j21 6 fun V24 =>
    p_vi (V24 0) fun x24 =>
    if x24 = v1 then
      (some v2)
    else
    hbX2_desk_2 G F n τ a0 v1 (v2 + (1 : Int32))
def hX2_desk (G : je_G) (F : Nat) (τ : hT) (a0 : Nat) (v1 : Int32) : Option (Int32) :=
  hbX2_desk_2 G F F τ a0 v1 (0 : Int32)
def hX7_told (G : je_G) (τ : hS) (a0 : Nat) (v1 : Int32) : Option ((Nat × hS) ⊕ (Unit × hS)) :=
  p_pr (τ.2.2 ≤ DC) <|
  if v1 = 0 then
    (some (.inr ((), τ)))
  else
  p_pr (τ.2.2 + 1 ≤ DC) <|
  p_lt τ.2.1 fun b4 =>
  p_lt (x_nw τ (.inr (19, fun k => defaultValue (tyX8 k)))) fun t4 =>
  p_ob t4.1 a0 18 fun V10 =>
  p_vi (V10 5) fun x10 =>
  p_cl (hX8_init G (h_of t4) b4 (3 : Int32) x10) fun u13 =>
  p_lt (x_of u13 (t4.2.2 + 0)) fun t13 =>
  p_ob t13.1 b4 19 fun V16 =>
  some (.inl (b4, t13))
def hbX7_newName_10 (G : je_G) (F : Nat) (τ : hS) (a0 : Nat) (s0 : Int32) (s1 : Nat) : Option ((Nat × hS) ⊕ (Int32 × hS)) :=
  p_ob τ.1 s1 18 fun V10 =>
  p_ex τ.2.2 (hX7_told G τ s1 s0) fun u10 => p_lt u10.2 fun t10 =>
  p_ob t10.1 a0 18 fun V14 =>
  p_vi (V14 4) fun x14 =>
  p_ob t10.1 a0 18 fun V19 =>
  p_cl (hX7_take G F (h_of t10) a0) fun u19 =>
  p_lt (x_of u19 (t10.2.2 + 0)) fun t19 =>
  some (.inr (x14, t19))
def hX7_newName (G : je_G) (F : Nat) (τ : hS) (a0 : Nat) (v1 : Int32) : Option ((Nat × hS) ⊕ (Int32 × hS)) :=
  p_pr (τ.2.2 ≤ DC) <|
  if v1 < 0 then
    (hbX7_newName_10 G F τ a0 (0 : Int32) a0)
  else
  hbX7_newName_10 G F τ a0 (1 : Int32) a0
def hbX7_number_31 (G : je_G) (F : Nat) (τ : hS) (a0 : Nat) (s0 : Int32) (s1 : Nat) : Option ((Nat × hS) ⊕ (Int32 × hS)) :=
  p_ob τ.1 s1 18 fun V31 =>
  p_ex τ.2.2 (hX7_much G τ s1 s0) fun u31 => p_lt u31.2 fun t31 =>
  p_ob t31.1 a0 18 fun V35 =>
  p_vi (V35 4) fun x35 =>
  p_ob t31.1 a0 18 fun V40 =>
  p_cl (hX7_take G F (h_of t31) a0) fun u40 =>
  p_lt (x_of u40 (t31.2.2 + 0)) fun t40 =>
  some (.inr (x35, t40))
def hX7_number (G : je_G) (F : Nat) (τ : hS) (a0 : Nat) (v1 : Int32) (v2 : Int32) : Option ((Nat × hS) ⊕ (Int32 × hS)) :=
  p_pr (τ.2.2 ≤ DC) <|
  p_ob τ.1 a0 18 fun V1 =>
  p_vi (V1 3) fun x1 =>
  if x1 = (3 : Int32) then
    (p_ob τ.1 a0 18 fun V15 =>
    p_vi (V15 4) fun x15 =>
    p_cl (pX1_isIn x15 v1 v2) fun t20 =>
    if t20 = 0 then
      (hbX7_number_31 G F τ a0 (1 : Int32) a0)
    else
    hbX7_number_31 G F τ a0 (0 : Int32) a0)
  else
  p_ob τ.1 a0 18 fun V9 =>
  p_pr (τ.2.2 + 1 ≤ DC) <|
  p_cl (hX7_wrong G (h_of τ) a0) fun u9 =>
  p_lt u9.1 fun x9 =>
  p_lt (x_of u9.2 (τ.2.2 + 1)) fun t9 =>
  p_at G x9 fun j12 =>
  p_ob t9.1 j12 19 fun V12 =>
  some (.inl (j12, t9))
def hX9_init (G : je_G) (τ : hT) (a0 : Nat) (v1 : Int32) (v2 : Int32) : Option (hT) :=
  p_ob τ.1 a0 6 fun V6 =>
  p_lt (h_up τ a0 (.inr (6, updV V6 2 (.int (-1 : Int32))))) fun t6 =>
  p_ob t6.1 a0 6 fun V11 =>
  p_lt (h_up t6 a0 (.inr (6, updV V11 0 (.int v1)))) fun t11 =>
  p_ob t11.1 a0 6 fun V16 =>
  p_lt (h_up t11 a0 (.inr (6, updV V16 1 (.int v2)))) fun t16 =>
  some t16
def hbJ12_newLength_21 (G : je_G) (τ : hT) (v0 : Int32) (v1 : Int32) : Option (Int32) :=
  none
def hJ12_newLength (G : je_G) (τ : hT) (v0 : Int32) (v1 : Int32) (v2 : Int32) : Option (Int32) :=
  p_lt (v0 + (if v1 < v2 then v2 else v1)) fun t7 =>
  if t7 ≤ (0 : Int32) then
    (hbJ12_newLength_21 G τ v0 v1)
  else
  if (2147483639 : Int32) < t7 then
    (hbJ12_newLength_21 G τ v0 v1)
  else
  some t7
def hbJ13_copyOf_2_24 (G : je_G) (τ : hT) (q0 : Option Nat) (v1 : Int32) (s0 : Option Nat) : Option (Option Nat × hT) :=
  p_al G τ.1 q0 fun n30 =>
  p_at G q0 fun j35 =>
  p_at G s0 fun j35_3 =>
  p_lt (if v1 < (Int32.ofNat n30) then v1 else (Int32.ofNat n30)) fun t35 =>
  p_aO G τ.1 j35 fun n35 f35 =>
  p_aO G τ.1 j35_3 fun m35 g35 =>
  p_pr (¬ t35 < 0 ∧ t35.toNatClampNeg ≤ n35 ∧ t35.toNatClampNeg ≤ m35 ∧ (List.range t35.toNatClampNeg).all (fun i => isIt G τ.1 (f35 i)) = true) <|
  p_lt (h_up τ j35_3 (.inl (G.2.2.1 4, m35, .inr (.inr (.inr (.inr (va_cpy f35 g35 (0 : Int32).toNatClampNeg (0 : Int32).toNatClampNeg t35.toNatClampNeg))))))) fun t35_9 =>
  some ((some (G.2.1 + j35_3)), t35_9)
def hJ13_copyOf_2 (G : je_G) (τ : hT) (q0 : Option Nat) (v1 : Int32) (q2 : Option Nat) : Option (Option Nat × hT) :=
  if q2 = (some (G.2.2.2.1 7)) then
    (p_sm v1 40 <|
    p_lt τ.2 fun b7 =>
    p_lt (h_nw τ (.inl (G.2.2.1 4, v1.toNatClampNeg, .inr (.inr (.inr (.inr (fun _ => none))))))) fun t7 =>
    hbJ13_copyOf_2_24 G t7 q0 v1 (some (G.2.1 + b7)))
  else
  none
def hJ13_copyOf (G : je_G) (τ : hT) (q0 : Option Nat) (v1 : Int32) : Option (Option Nat × hT) :=
  p_at G q0 fun j3 =>
  p_aO G τ.1 j3 fun n3 f3 =>
  p_cl (hJ13_copyOf_2 G τ (some (G.2.1 + j3)) v1 (some (G.2.2.2.1 7))) fun u6 =>
  p_lt u6.1 fun x6 =>
  p_lt u6.2 fun t6 =>
  some (x6, t6)
def hbJ2_grow_2_20 (G : je_G) (τ : hT) (a0 : Nat) (v1 : Int32) (v2 : Int32) : Option (Option Nat × hT) :=
  p_cl (hJ12_newLength G τ v2 (v1 - v2) (v2 >>> ((1 : Int32) &&& 31))) fun x27 =>
  p_ob τ.1 a0 20 fun V33 =>
  p_vr (V33 1) fun x33 =>
  p_cl (hJ13_copyOf G τ x33 x27) fun u37 =>
  p_lt u37.1 fun x37 =>
  p_lt u37.2 fun t37 =>
  p_ob t37.1 a0 20 fun V41 =>
  p_lt (h_up t37 a0 (.inr (20, updV V41 1 (va_rf x37)))) fun t41 =>
  some (x37, t41)
def hJ2_grow_2 (G : je_G) (τ : hT) (a0 : Nat) (v1 : Int32) : Option (Option Nat × hT) :=
  p_ob τ.1 a0 20 fun V1 =>
  p_vr (V1 1) fun x1 =>
  p_al G τ.1 x1 fun n4 =>
  p_lt (Int32.ofNat n4) fun t5 =>
  if 0 < t5 then
    (hbJ2_grow_2_20 G τ a0 v1 t5)
  else
  p_ob τ.1 a0 20 fun V11 =>
  p_vr (V11 1) fun x11 =>
  if x11 = (some (G.2.2.2.1 6)) then
    (p_lt (if (10 : Int32) < v1 then v1 else (10 : Int32)) fun t52 =>
    p_sm t52 40 <|
    p_lt τ.2 fun b52 =>
    p_lt (h_nw τ (.inl (G.2.2.1 4, t52.toNatClampNeg, .inr (.inr (.inr (.inr (fun _ => none))))))) fun t52_9 =>
    p_ob t52_9.1 a0 20 fun V56 =>
    p_lt (h_up t52_9 a0 (.inr (20, updV V56 1 (.ref (G.2.1 + b52))))) fun t56 =>
    some ((some (G.2.1 + b52)), t56))
  else
  hbJ2_grow_2_20 G τ a0 v1 t5
def hJ2_grow (G : je_G) (τ : hT) (a0 : Nat) : Option (Option Nat × hT) :=
  p_ob τ.1 a0 20 fun V2 =>
  p_vi (V2 2) fun x2 =>
  p_ob τ.1 a0 20 fun V7 =>
  p_cl (hJ2_grow_2 G τ a0 (x2 + (1 : Int32))) fun u7 =>
  p_lt u7.1 fun x7 =>
  p_lt u7.2 fun t7 =>
  some (x7, t7)
def hbJ2_add_2_11 (G : je_G) (τ : hT) (a0 : Nat) (q1 : Option Nat) (q2 : Option Nat) (v3 : Int32) : Option (hT) :=
  p_at G q1 fun j14 =>
  p_at G q2 fun j14_2 =>
  p_it τ.1 j14 fun c14 =>
  p_aO G τ.1 j14_2 fun n14 f14 =>
  p_ck v3 n14 <|
  p_lt (h_up τ j14_2 (.inl (G.2.2.1 4, n14, .inr (.inr (.inr (.inr (va_up f14 v3.toNatClampNeg (some (G.2.1 + j14))))))))) fun t14 =>
  p_ob t14.1 a0 20 fun V19 =>
  p_lt (h_up t14 a0 (.inr (20, updV V19 2 (.int (v3 + (1 : Int32)))))) fun t19 =>
  some t19
def hJ2_add_2 (G : je_G) (τ : hT) (a0 : Nat) (q1 : Option Nat) (q2 : Option Nat) (v3 : Int32) : Option (hT) :=
  p_al G τ.1 q2 fun n2 =>
  if v3 = (Int32.ofNat n2) then
    (p_ob τ.1 a0 20 fun V7 =>
    p_cl (hJ2_grow G τ a0) fun u7 =>
    p_lt u7.1 fun x7 =>
    p_lt u7.2 fun t7 =>
    hbJ2_add_2_11 G t7 a0 q1 x7 v3)
  else
  hbJ2_add_2_11 G τ a0 q1 q2 v3
def hJ2_add (G : je_G) (τ : hT) (a0 : Nat) (q1 : Option Nat) : Option (Int32 × hT) :=
  p_ob τ.1 a0 20 fun V2 =>
  p_vi (V2 0) fun x2 =>
  p_ob τ.1 a0 20 fun V7 =>
  p_lt (h_up τ a0 (.inr (20, updV V7 0 (.int (x2 + (1 : Int32)))))) fun t7 =>
  p_ob t7.1 a0 20 fun V13 =>
  p_vr (V13 1) fun x13 =>
  p_ob t7.1 a0 20 fun V17 =>
  p_vi (V17 2) fun x17 =>
  p_ob t7.1 a0 20 fun V20 =>
  p_cl (hJ2_add_2 G t7 a0 q1 x13 x17) fun u20 =>
  p_lt u20 fun t20 =>
  some ((1 : Int32), t20)
def hX7_there (G : je_G) (F : Nat) (τ : hS) (a0 : Nat) (v1 : Int32) : Option ((Nat × hS) ⊕ (Int32 × hS)) :=
  p_pr (τ.2.2 ≤ DC) <|
  if 0 ≤ v1 then
    (p_ob τ.1 a0 18 fun V18 =>
    p_cl (hX7_take G F (h_of τ) a0) fun u18 =>
    p_lt (x_of u18 (τ.2.2 + 0)) fun t18 =>
    some (.inr (v1, t18)))
  else
  p_pr (τ.2.2 + 1 ≤ DC) <|
  p_lt τ.2.1 fun b4 =>
  p_lt (x_nw τ (.inr (19, fun k => defaultValue (tyX8 k)))) fun t4 =>
  p_ob t4.1 a0 18 fun V10 =>
  p_vi (V10 5) fun x10 =>
  p_cl (hX8_init G (h_of t4) b4 (4 : Int32) x10) fun u13 =>
  p_lt (x_of u13 (t4.2.2 + 0)) fun t13 =>
  p_ob t13.1 b4 19 fun V16 =>
  some (.inl (b4, t13))
def hbX2_fact_2 (G : je_G) (F : Nat) : Nat → hT → Nat → Int32 → Int32 → Option (Int32)
  | 0, _, _, _, _ => none
  | n + 1, τ, a0, v1, v2 =>
    p_ob τ.1 a0 5 fun V4 =>
    p_vr (V4 1) fun x4 =>
    p_at G x4 fun j7 =>
    p_ob τ.1 j7 20 fun V7 =>
    p_cl (hJ2_size G τ j7) fun x7 =>
    if x7 ≤ v2 then
      (some (-1 : Int32))
    else
    p_ob τ.1 a0 5 fun V14 =>
    p_vr (V14 1) fun x14 =>
    p_at G x14 fun j18 =>
    p_ob τ.1 j18 20 fun V18 =>
    p_cl (hJ2_get G τ j18 v2) fun x18 =>
    p_at G x18 fun j21 =>
    p_ob τ.1 j21 7 fun V21 =>
    p_ob τ.1 j21 7 fun V24 =>
    p_vi (V24 0) fun x24 =>
    if x24 = v1 then
      (some v2)
    else
    hbX2_fact_2 G F n τ a0 v1 (v2 + (1 : Int32))
def hX2_fact (G : je_G) (F : Nat) (τ : hT) (a0 : Nat) (v1 : Int32) : Option (Int32) :=
  hbX2_fact_2 G F F τ a0 v1 (0 : Int32)
def hJ14_init_X10 (G : je_G) (τ : hT) (a0 : Nat) : Option (Unit) :=
  some ()
def hX10_init (G : je_G) (τ : hT) (a0 : Nat) (v1 : Int32) (v2 : Int32) : Option (hT) :=
  p_cl (hJ14_init_X10 G τ a0) fun _ =>
  p_ob τ.1 a0 7 fun V6 =>
  p_lt (h_up τ a0 (.inr (7, updV V6 0 (.int v1)))) fun t6 =>
  p_ob t6.1 a0 7 fun V11 =>
  p_lt (h_up t6 a0 (.inr (7, updV V11 1 (.int v2)))) fun t11 =>
  some t11
def hJ14_init_X11 (G : je_G) (τ : hT) (a0 : Nat) : Option (Unit) :=
  some ()
def hX11_init (G : je_G) (τ : hT) (a0 : Nat) (v1 : Int32) (v2 : Int32) (v3 : Int32) (v4 : Int32) : Option (hT) :=
  p_cl (hJ14_init_X11 G τ a0) fun _ =>
  p_ob τ.1 a0 8 fun V6 =>
  p_lt (h_up τ a0 (.inr (8, updV V6 0 (.int v1)))) fun t6 =>
  p_ob t6.1 a0 8 fun V11 =>
  p_lt (h_up t6 a0 (.inr (8, updV V11 1 (.int v2)))) fun t11 =>
  p_ob t11.1 a0 8 fun V16 =>
  p_lt (h_up t11 a0 (.inr (8, updV V16 2 (.int v3)))) fun t16 =>
  p_ob t16.1 a0 8 fun V22 =>
  p_lt (h_up t16 a0 (.inr (8, updV V22 3 (.int v4)))) fun t22 =>
  some t22
def hJ14_init_X12 (G : je_G) (τ : hT) (a0 : Nat) : Option (Unit) :=
  some ()
def hX12_init (G : je_G) (τ : hT) (a0 : Nat) (v1 : Int32) (v2 : Int32) (v3 : Int32) (v4 : Int32) : Option (hT) :=
  p_cl (hJ14_init_X12 G τ a0) fun _ =>
  p_ob τ.1 a0 9 fun V6 =>
  p_lt (h_up τ a0 (.inr (9, updV V6 0 (.int v1)))) fun t6 =>
  p_ob t6.1 a0 9 fun V11 =>
  p_lt (h_up t6 a0 (.inr (9, updV V11 1 (.int v2)))) fun t11 =>
  p_ob t11.1 a0 9 fun V16 =>
  p_lt (h_up t11 a0 (.inr (9, updV V16 2 (.int v3)))) fun t16 =>
  p_ob t16.1 a0 9 fun V22 =>
  p_lt (h_up t16 a0 (.inr (9, updV V22 3 (.int v4)))) fun t22 =>
  some t22
def hJ14_init_X13 (G : je_G) (τ : hT) (a0 : Nat) : Option (Unit) :=
  some ()
def hX13_init (G : je_G) (τ : hT) (a0 : Nat) (v1 : Int32) (v2 : Int32) : Option (hT) :=
  p_cl (hJ14_init_X13 G τ a0) fun _ =>
  p_ob τ.1 a0 10 fun V6 =>
  p_lt (h_up τ a0 (.inr (10, updV V6 0 (.int v1)))) fun t6 =>
  p_ob t6.1 a0 10 fun V11 =>
  p_lt (h_up t6 a0 (.inr (10, updV V11 1 (.int v2)))) fun t11 =>
  some t11
def hX7_isKey (G : je_G) (τ : hT) (a0 : Nat) (v1 : Int32) : Option (Int32) :=
  p_ob τ.1 a0 18 fun V1 =>
  p_vi (V1 3) fun x1 =>
  if x1 = (1 : Int32) then
    (p_ob τ.1 a0 18 fun V9 =>
    p_vi (V9 4) fun x9 =>
    if x9 = v1 then
      (some (1 : Int32))
    else
    some (0 : Int32))
  else
  some (0 : Int32)
def hbX7_knot_18 (G : je_G) (τ : hS) (a0 : Nat) (s0 : Int32) (s1 : Nat) : Option ((Nat × hS) ⊕ (Unit × hS)) :=
  p_ob τ.1 s1 18 fun V18 =>
  p_ex τ.2.2 (hX7_much G τ s1 s0) fun u18 => p_lt u18.2 fun t18 =>
  p_ob t18.1 a0 18 fun V22 =>
  p_vr (V22 1) fun x22 =>
  p_at G x22 fun j26 =>
  p_ob t18.1 j26 5 fun V26 =>
  p_vi (V26 9) fun x26 =>
  p_ob t18.1 j26 5 fun V31 =>
  p_lt (x_up t18 j26 (.inr (5, updV V31 9 (.int (x26 + (1 : Int32)))))) fun t31 =>
  some (.inr ((), t31))
def hX7_knot (G : je_G) (τ : hS) (a0 : Nat) : Option ((Nat × hS) ⊕ (Unit × hS)) :=
  p_pr (τ.2.2 ≤ DC) <|
  p_ob τ.1 a0 18 fun V2 =>
  p_vr (V2 1) fun x2 =>
  p_at G x2 fun j5 =>
  p_ob τ.1 j5 5 fun V5 =>
  p_vi (V5 9) fun x5 =>
  if x5 = (64 : Int32) then
    (hbX7_knot_18 G τ a0 (1 : Int32) a0)
  else
  hbX7_knot_18 G τ a0 (0 : Int32) a0
def hX16_init_X20 (G : je_G) (τ : hT) (a0 : Nat) (q1 : Option Nat) (q2 : Option Nat) : Option (hT) :=
  p_ob τ.1 a0 15 fun V6 =>
  p_lt (h_up τ a0 (.inr (15, updV V6 0 (va_rf q1)))) fun t6 =>
  p_ob t6.1 a0 15 fun V11 =>
  p_lt (h_up t6 a0 (.inr (15, updV V11 1 (va_rf q2)))) fun t11 =>
  some t11
def hX20_init (G : je_G) (τ : hT) (a0 : Nat) (v1 : Int32) (q2 : Option Nat) (q3 : Option Nat) : Option (hT) :=
  p_cl (hX16_init_X20 G τ a0 q2 q3) fun u3 =>
  p_lt u3 fun t3 =>
  p_ob t3.1 a0 15 fun V8 =>
  p_cz v1 <|
  p_lt (h_up t3 a0 (.inr (15, updV V8 2 (.int v1)))) fun t8 =>
  some t8
def hJ14_init_X19 (G : je_G) (τ : hT) (a0 : Nat) : Option (Unit) :=
  some ()
def hX19_init (G : je_G) (τ : hT) (a0 : Nat) (q1 : Option Nat) : Option (hT) :=
  p_cl (hJ14_init_X19 G τ a0) fun _ =>
  p_ob τ.1 a0 14 fun V6 =>
  p_lt (h_up τ a0 (.inr (14, updV V6 0 (va_rf q1)))) fun t6 =>
  some t6
def hX16_init_X18 (G : je_G) (τ : hT) (a0 : Nat) (q1 : Option Nat) (q2 : Option Nat) : Option (hT) :=
  p_ob τ.1 a0 16 fun V6 =>
  p_lt (h_up τ a0 (.inr (16, updV V6 0 (va_rf q1)))) fun t6 =>
  p_ob t6.1 a0 16 fun V11 =>
  p_lt (h_up t6 a0 (.inr (16, updV V11 1 (va_rf q2)))) fun t11 =>
  some t11
def hX18_init (G : je_G) (τ : hT) (a0 : Nat) (v1 : Int32) (q2 : Option Nat) (q3 : Option Nat) : Option (hT) :=
  p_cl (hX16_init_X18 G τ a0 q2 q3) fun u3 =>
  p_lt u3 fun t3 =>
  p_ob t3.1 a0 16 fun V8 =>
  p_lt (h_up t3 a0 (.inr (16, updV V8 2 (.int v1)))) fun t8 =>
  some t8
def hX7_isSign (G : je_G) (τ : hT) (a0 : Nat) (v1 : Int32) : Option (Int32) :=
  p_ob τ.1 a0 18 fun V1 =>
  p_vi (V1 3) fun x1 =>
  if x1 = (4 : Int32) then
    (p_ob τ.1 a0 18 fun V9 =>
    p_vi (V9 4) fun x9 =>
    if x9 = v1 then
      (some (1 : Int32))
    else
    some (0 : Int32))
  else
  some (0 : Int32)
def hX16_init_X17 (G : je_G) (τ : hT) (a0 : Nat) (q1 : Option Nat) (q2 : Option Nat) : Option (hT) :=
  p_ob τ.1 a0 17 fun V6 =>
  p_lt (h_up τ a0 (.inr (17, updV V6 0 (va_rf q1)))) fun t6 =>
  p_ob t6.1 a0 17 fun V11 =>
  p_lt (h_up t6 a0 (.inr (17, updV V11 1 (va_rf q2)))) fun t11 =>
  some t11
def hX17_init (G : je_G) (τ : hT) (a0 : Nat) (v1 : Int32) (q2 : Option Nat) (q3 : Option Nat) : Option (hT) :=
  p_cl (hX16_init_X17 G τ a0 q2 q3) fun u3 =>
  p_lt u3 fun t3 =>
  p_ob t3.1 a0 17 fun V8 =>
  p_lt (h_up t3 a0 (.inr (17, updV V8 2 (.int v1)))) fun t8 =>
  some t8
def hJ14_init_X14 (G : je_G) (τ : hT) (a0 : Nat) : Option (Unit) :=
  some ()
def hX14_init (G : je_G) (τ : hT) (a0 : Nat) (v1 : Int32) : Option (hT) :=
  p_cl (hJ14_init_X14 G τ a0) fun _ =>
  p_ob τ.1 a0 13 fun V6 =>
  p_lt (h_up τ a0 (.inr (13, updV V6 0 (.int v1)))) fun t6 =>
  some t6
def hJ14_init_X15 (G : je_G) (τ : hT) (a0 : Nat) : Option (Unit) :=
  some ()
def hX15_init (G : je_G) (τ : hT) (a0 : Nat) (v1 : Int64) : Option (hT) :=
  p_cl (hJ14_init_X15 G τ a0) fun _ =>
  p_ob τ.1 a0 12 fun V6 =>
  p_lt (h_up τ a0 (.inr (12, updV V6 0 (.long v1)))) fun t6 =>
  some t6
def hbX7_or_5 (G : je_G) (F : Nat) (rc : Nat → hS → Nat → Option ((Nat × hS) ⊕ (Option Nat × hS))) : Nat → hS → Nat → Option Nat → Option ((Nat × hS) ⊕ (Option Nat × hS))
  | 0, _, _, _ => none
  | n + 1, τ, a0, q1 =>
    p_ob τ.1 a0 18 fun V8 =>
    p_cl (hX7_isKey G (h_of τ) a0 (12 : Int32)) fun x8 =>
    if x8 = 0 then
      (some (.inr (q1, τ)))
    else
    p_ob τ.1 a0 18 fun V15 =>
    p_ex τ.2.2 (hX7_knot G τ a0) fun u15 => p_lt u15.2 fun t15 =>
    p_ob t15.1 a0 18 fun V19 =>
    p_cl (hX7_take G F (h_of t15) a0) fun u19 =>
    p_lt (x_of u19 (t15.2.2 + 0)) fun t19 =>
    p_pr (t19.2.2 + 1 ≤ DC) <|
    p_lt t19.2.1 fun b22 =>
    p_lt (x_nw t19 (.inr (15, fun k => defaultValue (tyX20 k)))) fun t22 =>
    p_ob t22.1 a0 18 fun V29 =>
    p_ex t22.2.2 (rc 1 t22 a0) fun u29 => p_lt u29.1 fun x29 => p_lt u29.2 fun t29 =>
    p_cl (hX20_init G (h_of t29) b22 (0 : Int32) q1 x29) fun u32 =>
    p_lt (x_of u32 (t29.2.2 + 0)) fun t32 =>
    hbX7_or_5 G F rc n t32 a0 (some (G.2.1 + b22))
def hX7_or (G : je_G) (F : Nat) (rc : Nat → hS → Nat → Option ((Nat × hS) ⊕ (Option Nat × hS))) (τ : hS) (a0 : Nat) : Option ((Nat × hS) ⊕ (Option Nat × hS)) :=
  p_pr (τ.2.2 ≤ DC) <|
  p_ob τ.1 a0 18 fun V1 =>
  p_ex τ.2.2 (rc 1 τ a0) fun u1 => p_lt u1.1 fun x1 => p_lt u1.2 fun t1 =>
  hbX7_or_5 G F rc F t1 a0 x1
def hbX7_and_5 (G : je_G) (F : Nat) (rc : Nat → hS → Nat → Option ((Nat × hS) ⊕ (Option Nat × hS))) : Nat → hS → Nat → Option Nat → Option ((Nat × hS) ⊕ (Option Nat × hS))
  | 0, _, _, _ => none
  | n + 1, τ, a0, q1 =>
    p_ob τ.1 a0 18 fun V8 =>
    p_cl (hX7_isKey G (h_of τ) a0 (11 : Int32)) fun x8 =>
    if x8 = 0 then
      (some (.inr (q1, τ)))
    else
    p_ob τ.1 a0 18 fun V15 =>
    p_ex τ.2.2 (hX7_knot G τ a0) fun u15 => p_lt u15.2 fun t15 =>
    p_ob t15.1 a0 18 fun V19 =>
    p_cl (hX7_take G F (h_of t15) a0) fun u19 =>
    p_lt (x_of u19 (t15.2.2 + 0)) fun t19 =>
    p_pr (t19.2.2 + 1 ≤ DC) <|
    p_lt t19.2.1 fun b22 =>
    p_lt (x_nw t19 (.inr (15, fun k => defaultValue (tyX20 k)))) fun t22 =>
    p_ob t22.1 a0 18 fun V29 =>
    p_ex t22.2.2 (rc 2 t22 a0) fun u29 => p_lt u29.1 fun x29 => p_lt u29.2 fun t29 =>
    p_cl (hX20_init G (h_of t29) b22 (1 : Int32) q1 x29) fun u32 =>
    p_lt (x_of u32 (t29.2.2 + 0)) fun t32 =>
    hbX7_and_5 G F rc n t32 a0 (some (G.2.1 + b22))
def hX7_and (G : je_G) (F : Nat) (rc : Nat → hS → Nat → Option ((Nat × hS) ⊕ (Option Nat × hS))) (τ : hS) (a0 : Nat) : Option ((Nat × hS) ⊕ (Option Nat × hS)) :=
  p_pr (τ.2.2 ≤ DC) <|
  p_ob τ.1 a0 18 fun V1 =>
  p_ex τ.2.2 (rc 2 τ a0) fun u1 => p_lt u1.1 fun x1 => p_lt u1.2 fun t1 =>
  hbX7_and_5 G F rc F t1 a0 x1
def hbX7_not_32 (G : je_G) (F : Nat) (rc : Nat → hS → Nat → Option ((Nat × hS) ⊕ (Option Nat × hS))) : Nat → hS → Nat → Int32 → Option Nat → Int32 → Option ((Nat × hS) ⊕ (Option Nat × hS))
  | 0, _, _, _, _, _ => none
  | n + 1, τ, a0, v1, q2, v3 =>
    if v1 ≤ v3 then
      (some (.inr (q2, τ)))
    else
    p_pr (τ.2.2 + 1 ≤ DC) <|
    p_lt τ.2.1 fun b37 =>
    p_lt (x_nw τ (.inr (14, fun k => defaultValue (tyX19 k)))) fun t37 =>
    p_cl (hX19_init G (h_of t37) b37 q2) fun u42 =>
    p_lt (x_of u42 (t37.2.2 + 0)) fun t42 =>
    hbX7_not_32 G F rc n t42 a0 v1 (some (G.2.1 + b37)) (v3 + (1 : Int32))
def hbX7_not_2 (G : je_G) (F : Nat) (rc : Nat → hS → Nat → Option ((Nat × hS) ⊕ (Option Nat × hS))) : Nat → hS → Nat → Int32 → Option ((Nat × hS) ⊕ (Option Nat × hS))
  | 0, _, _, _ => none
  | n + 1, τ, a0, v1 =>
    p_ob τ.1 a0 18 fun V5 =>
    p_cl (hX7_isKey G (h_of τ) a0 (13 : Int32)) fun x5 =>
    if x5 = 0 then
      (p_ob τ.1 a0 18 fun V26 =>
      p_ex τ.2.2 (rc 3 τ a0) fun u26 => p_lt u26.1 fun x26 => p_lt u26.2 fun t26 =>
      hbX7_not_32 G F rc F t26 a0 v1 x26 (0 : Int32))
    else
    p_ob τ.1 a0 18 fun V12 =>
    p_ex τ.2.2 (hX7_knot G τ a0) fun u12 => p_lt u12.2 fun t12 =>
    p_ob t12.1 a0 18 fun V16 =>
    p_cl (hX7_take G F (h_of t12) a0) fun u16 =>
    p_lt (x_of u16 (t12.2.2 + 0)) fun t16 =>
    hbX7_not_2 G F rc n t16 a0 (v1 + (1 : Int32))
def hX7_not (G : je_G) (F : Nat) (rc : Nat → hS → Nat → Option ((Nat × hS) ⊕ (Option Nat × hS))) (τ : hS) (a0 : Nat) : Option ((Nat × hS) ⊕ (Option Nat × hS)) :=
  p_pr (τ.2.2 ≤ DC) <|
  hbX7_not_2 G F rc F τ a0 (0 : Int32)
def hX7_compared (G : je_G) (F : Nat) (rc : Nat → hS → Nat → Option ((Nat × hS) ⊕ (Option Nat × hS))) (τ : hS) (a0 : Nat) : Option ((Nat × hS) ⊕ (Option Nat × hS)) :=
  p_pr (τ.2.2 ≤ DC) <|
  p_ob τ.1 a0 18 fun V1 =>
  p_ex τ.2.2 (rc 4 τ a0) fun u1 => p_lt u1.1 fun x1 => p_lt u1.2 fun t1 =>
  p_ob t1.1 a0 18 fun V6 =>
  p_vi (V6 3) fun x6 =>
  if x6 = (5 : Int32) then
    (p_ob t1.1 a0 18 fun V16 =>
    p_vi (V16 4) fun x16 =>
    p_ob t1.1 a0 18 fun V21 =>
    p_ex t1.2.2 (hX7_knot G t1 a0) fun u21 => p_lt u21.2 fun t21 =>
    p_ob t21.1 a0 18 fun V25 =>
    p_cl (hX7_take G F (h_of t21) a0) fun u25 =>
    p_lt (x_of u25 (t21.2.2 + 0)) fun t25 =>
    p_pr (t25.2.2 + 1 ≤ DC) <|
    p_lt t25.2.1 fun b28 =>
    p_lt (x_nw t25 (.inr (16, fun k => defaultValue (tyX18 k)))) fun t28 =>
    p_ob t28.1 a0 18 fun V35 =>
    p_ex t28.2.2 (rc 4 t28 a0) fun u35 => p_lt u35.1 fun x35 => p_lt u35.2 fun t35 =>
    p_cl (hX18_init G (h_of t35) b28 x16 x1 x35) fun u38 =>
    p_lt (x_of u38 (t35.2.2 + 0)) fun t38 =>
    some (.inr ((some (G.2.1 + b28)), t38)))
  else
  some (.inr (x1, t1))
def hbX7_sum_23 (G : je_G) (F : Nat) (rc : Nat → hS → Nat → Option ((Nat × hS) ⊕ (Option Nat × hS))) (k5 : hS → Nat → Option Nat → Option ((Nat × hS) ⊕ (Option Nat × hS))) (τ : hS) (a0 : Nat) (q1 : Option Nat) : Option ((Nat × hS) ⊕ (Option Nat × hS)) :=
  p_ob τ.1 a0 18 fun V24 =>
  p_vi (V24 4) fun x24 =>
  p_ob τ.1 a0 18 fun V29 =>
  p_ex τ.2.2 (hX7_knot G τ a0) fun u29 => p_lt u29.2 fun t29 =>
  p_ob t29.1 a0 18 fun V33 =>
  p_cl (hX7_take G F (h_of t29) a0) fun u33 =>
  p_lt (x_of u33 (t29.2.2 + 0)) fun t33 =>
  p_pr (t33.2.2 + 1 ≤ DC) <|
  p_lt t33.2.1 fun b36 =>
  p_lt (x_nw t33 (.inr (17, fun k => defaultValue (tyX17 k)))) fun t36 =>
  p_ob t36.1 a0 18 fun V43 =>
  p_ex t36.2.2 (rc 5 t36 a0) fun u43 => p_lt u43.1 fun x43 => p_lt u43.2 fun t43 =>
  p_cl (hX17_init G (h_of t43) b36 x24 q1 x43) fun u46 =>
  p_lt (x_of u46 (t43.2.2 + 0)) fun t46 =>
  k5 t46 a0 (some (G.2.1 + b36))
def hbX7_sum_5 (G : je_G) (F : Nat) (rc : Nat → hS → Nat → Option ((Nat × hS) ⊕ (Option Nat × hS))) : Nat → hS → Nat → Option Nat → Option ((Nat × hS) ⊕ (Option Nat × hS))
  | 0, _, _, _ => none
  | n + 1, τ, a0, q1 =>
    p_ob τ.1 a0 18 fun V8 =>
    p_cl (hX7_isSign G (h_of τ) a0 (43 : Int32)) fun x8 =>
    if x8 = 0 then
      (p_ob τ.1 a0 18 fun V17 =>
      p_cl (hX7_isSign G (h_of τ) a0 (45 : Int32)) fun x17 =>
      if x17 = 0 then
        (some (.inr (q1, τ)))
      else
      hbX7_sum_23 G F rc (hbX7_sum_5 G F rc n) τ a0 q1)
    else
    hbX7_sum_23 G F rc (hbX7_sum_5 G F rc n) τ a0 q1
def hX7_sum (G : je_G) (F : Nat) (rc : Nat → hS → Nat → Option ((Nat × hS) ⊕ (Option Nat × hS))) (τ : hS) (a0 : Nat) : Option ((Nat × hS) ⊕ (Option Nat × hS)) :=
  p_pr (τ.2.2 ≤ DC) <|
  p_ob τ.1 a0 18 fun V1 =>
  p_ex τ.2.2 (rc 5 τ a0) fun u1 => p_lt u1.1 fun x1 => p_lt u1.2 fun t1 =>
  hbX7_sum_5 G F rc F t1 a0 x1
def hbX7_product_23 (G : je_G) (F : Nat) (rc : Nat → hS → Nat → Option ((Nat × hS) ⊕ (Option Nat × hS))) (k5 : hS → Nat → Option Nat → Option ((Nat × hS) ⊕ (Option Nat × hS))) (τ : hS) (a0 : Nat) (q1 : Option Nat) : Option ((Nat × hS) ⊕ (Option Nat × hS)) :=
  p_ob τ.1 a0 18 fun V24 =>
  p_vi (V24 4) fun x24 =>
  p_ob τ.1 a0 18 fun V29 =>
  p_ex τ.2.2 (hX7_knot G τ a0) fun u29 => p_lt u29.2 fun t29 =>
  p_ob t29.1 a0 18 fun V33 =>
  p_cl (hX7_take G F (h_of t29) a0) fun u33 =>
  p_lt (x_of u33 (t29.2.2 + 0)) fun t33 =>
  p_pr (t33.2.2 + 1 ≤ DC) <|
  p_lt t33.2.1 fun b36 =>
  p_lt (x_nw t33 (.inr (17, fun k => defaultValue (tyX17 k)))) fun t36 =>
  p_ob t36.1 a0 18 fun V43 =>
  p_ex t36.2.2 (rc 6 t36 a0) fun u43 => p_lt u43.1 fun x43 => p_lt u43.2 fun t43 =>
  p_cl (hX17_init G (h_of t43) b36 x24 q1 x43) fun u46 =>
  p_lt (x_of u46 (t43.2.2 + 0)) fun t46 =>
  k5 t46 a0 (some (G.2.1 + b36))
def hbX7_product_5 (G : je_G) (F : Nat) (rc : Nat → hS → Nat → Option ((Nat × hS) ⊕ (Option Nat × hS))) : Nat → hS → Nat → Option Nat → Option ((Nat × hS) ⊕ (Option Nat × hS))
  | 0, _, _, _ => none
  | n + 1, τ, a0, q1 =>
    p_ob τ.1 a0 18 fun V8 =>
    p_cl (hX7_isSign G (h_of τ) a0 (42 : Int32)) fun x8 =>
    if x8 = 0 then
      (p_ob τ.1 a0 18 fun V17 =>
      p_cl (hX7_isSign G (h_of τ) a0 (47 : Int32)) fun x17 =>
      if x17 = 0 then
        (some (.inr (q1, τ)))
      else
      hbX7_product_23 G F rc (hbX7_product_5 G F rc n) τ a0 q1)
    else
    hbX7_product_23 G F rc (hbX7_product_5 G F rc n) τ a0 q1
def hX7_product (G : je_G) (F : Nat) (rc : Nat → hS → Nat → Option ((Nat × hS) ⊕ (Option Nat × hS))) (τ : hS) (a0 : Nat) : Option ((Nat × hS) ⊕ (Option Nat × hS)) :=
  p_pr (τ.2.2 ≤ DC) <|
  p_ob τ.1 a0 18 fun V1 =>
  p_ex τ.2.2 (rc 6 τ a0) fun u1 => p_lt u1.1 fun x1 => p_lt u1.2 fun t1 =>
  hbX7_product_5 G F rc F t1 a0 x1
def hbX7_one_147 (G : je_G) (F : Nat) (rc : Nat → hS → Nat → Option ((Nat × hS) ⊕ (Option Nat × hS))) (τ : hS) (a0 : Nat) (s0 : Int32) (s1 : Nat) : Option ((Nat × hS) ⊕ (Option Nat × hS)) :=
  p_ob τ.1 s1 18 fun V147 =>
  p_ex τ.2.2 (hX7_much G τ s1 s0) fun u147 => p_lt u147.2 fun t147 =>
  p_ob t147.1 a0 18 fun V151 =>
  p_ex t147.2.2 (hX7_knot G t147 a0) fun u151 => p_lt u151.2 fun t151 =>
  p_pr (t151.2.2 + 1 ≤ DC) <|
  p_lt t151.2.1 fun b154 =>
  p_lt (x_nw t151 (.inr (12, fun k => defaultValue (tyX15 k)))) fun t154 =>
  p_ob t154.1 a0 18 fun V163 =>
  p_ex t154.2.2 (hX7_number G F t154 a0 (0 : Int32) (9999 : Int32)) fun u163 => p_lt u163.1 fun x163 => p_lt u163.2 fun t163 =>
  p_cl (hX15_init G (h_of t163) b154 x163.toInt64) fun u167 =>
  p_lt (x_of u167 (t163.2.2 + 0)) fun t167 =>
  some (.inr ((some (G.2.1 + b154)), t167))
def hbX7_one_118 (G : je_G) (F : Nat) (rc : Nat → hS → Nat → Option ((Nat × hS) ⊕ (Option Nat × hS))) (τ : hS) (a0 : Nat) : Option ((Nat × hS) ⊕ (Option Nat × hS)) :=
  p_ob τ.1 a0 18 fun V119 =>
  p_vi (V119 3) fun x119 =>
  if x119 = (3 : Int32) then
    (p_ob τ.1 a0 18 fun V133 =>
    p_vi (V133 4) fun x133 =>
    if x133 ≤ (9999 : Int32) then
      (hbX7_one_147 G F rc τ a0 (0 : Int32) a0)
    else
    hbX7_one_147 G F rc τ a0 (1 : Int32) a0)
  else
  p_ob τ.1 a0 18 fun V127 =>
  p_pr (τ.2.2 + 1 ≤ DC) <|
  p_cl (hX7_wrong G (h_of τ) a0) fun u127 =>
  p_lt u127.1 fun x127 =>
  p_lt (x_of u127.2 (τ.2.2 + 1)) fun t127 =>
  p_at G x127 fun j130 =>
  p_ob t127.1 j130 19 fun V130 =>
  some (.inl (j130, t127))
def hbX7_one_24 (G : je_G) (F : Nat) (rc : Nat → hS → Nat → Option ((Nat × hS) ⊕ (Option Nat × hS))) (τ : hS) (a0 : Nat) (s0 : Int32) (s1 : Nat) : Option ((Nat × hS) ⊕ (Option Nat × hS)) :=
  p_ob τ.1 s1 18 fun V24 =>
  p_ex τ.2.2 (hX7_much G τ s1 s0) fun u24 => p_lt u24.2 fun t24 =>
  p_ob t24.1 a0 18 fun V29 =>
  p_vi (V29 6) fun x29 =>
  p_ob t24.1 a0 18 fun V34 =>
  p_lt (x_up t24 a0 (.inr (18, updV V34 6 (.int (x29 + (1 : Int32)))))) fun t34 =>
  p_ob t34.1 a0 18 fun V38 =>
  p_cl (hX7_take G F (h_of t34) a0) fun u38 =>
  p_lt (x_of u38 (t34.2.2 + 0)) fun t38 =>
  p_ob t38.1 a0 18 fun V42 =>
  p_ex t38.2.2 (rc 0 t38 a0) fun u42 => p_lt u42.1 fun x42 => p_lt u42.2 fun t42 =>
  p_ob t42.1 a0 18 fun V49 =>
  p_cl (hX7_isSign G (h_of t42) a0 (41 : Int32)) fun x49 =>
  if x49 = 0 then
    (p_ob t42.1 a0 18 fun V56 =>
    p_pr (t42.2.2 + 1 ≤ DC) <|
    p_cl (hX7_wrong G (h_of t42) a0) fun u56 =>
    p_lt u56.1 fun x56 =>
    p_lt (x_of u56.2 (t42.2.2 + 1)) fun t56 =>
    p_at G x56 fun j59 =>
    p_ob t56.1 j59 19 fun V59 =>
    some (.inl (j59, t56)))
  else
  p_ob t42.1 a0 18 fun V62 =>
  p_vi (V62 6) fun x62 =>
  p_ob t42.1 a0 18 fun V67 =>
  p_lt (x_up t42 a0 (.inr (18, updV V67 6 (.int (x62 - (1 : Int32)))))) fun t67 =>
  p_ob t67.1 a0 18 fun V71 =>
  p_cl (hX7_take G F (h_of t67) a0) fun u71 =>
  p_lt (x_of u71 (t67.2.2 + 0)) fun t71 =>
  some (.inr (x42, t71))
def hX7_one (G : je_G) (F : Nat) (rc : Nat → hS → Nat → Option ((Nat × hS) ⊕ (Option Nat × hS))) (τ : hS) (a0 : Nat) : Option ((Nat × hS) ⊕ (Option Nat × hS)) :=
  p_pr (τ.2.2 ≤ DC) <|
  p_ob τ.1 a0 18 fun V3 =>
  p_cl (hX7_isSign G (h_of τ) a0 (40 : Int32)) fun x3 =>
  if x3 = 0 then
    (p_ob τ.1 a0 18 fun V77 =>
    p_vi (V77 3) fun x77 =>
    if x77 = (1 : Int32) then
      (p_ob τ.1 a0 18 fun V85 =>
      p_vi (V85 4) fun x85 =>
      if x85 < (14 : Int32) then
        (hbX7_one_118 G F rc τ a0)
      else
      p_ob τ.1 a0 18 fun V94 =>
      p_ex τ.2.2 (hX7_knot G τ a0) fun u94 => p_lt u94.2 fun t94 =>
      p_ob t94.1 a0 18 fun V98 =>
      p_vi (V98 4) fun x98 =>
      p_lt (x98 - (14 : Int32)) fun t104 =>
      p_ob t94.1 a0 18 fun V106 =>
      p_cl (hX7_take G F (h_of t94) a0) fun u106 =>
      p_lt (x_of u106 (t94.2.2 + 0)) fun t106 =>
      p_pr (t106.2.2 + 1 ≤ DC) <|
      p_lt t106.2.1 fun b109 =>
      p_lt (x_nw t106 (.inr (13, fun k => defaultValue (tyX14 k)))) fun t109 =>
      p_cl (hX14_init G (h_of t109) b109 t104) fun u114 =>
      p_lt (x_of u114 (t109.2.2 + 0)) fun t114 =>
      some (.inr ((some (G.2.1 + b109)), t114)))
    else
    hbX7_one_118 G F rc τ a0)
  else
  p_ob τ.1 a0 18 fun V11 =>
  p_vi (V11 6) fun x11 =>
  if x11 = (8 : Int32) then
    (hbX7_one_24 G F rc τ a0 (1 : Int32) a0)
  else
  hbX7_one_24 G F rc τ a0 (0 : Int32) a0
def gX7 (G : je_G) (F : Nat) : Nat → Nat → hS → Nat → Option ((Nat × hS) ⊕ (Option Nat × hS))
  | 0, _, _, _ => none
  | d + 1, i, τ, a0 => if i = 0 then hX7_or G F (gX7 G F d) τ a0 else if i = 1 then hX7_and G F (gX7 G F d) τ a0 else if i = 2 then hX7_not G F (gX7 G F d) τ a0 else if i = 3 then hX7_compared G F (gX7 G F d) τ a0 else if i = 4 then hX7_sum G F (gX7 G F d) τ a0 else if i = 5 then hX7_product G F (gX7 G F d) τ a0 else if i = 6 then hX7_one G F (gX7 G F d) τ a0 else none
def hbX2_may_2 (G : je_G) (F : Nat) : Nat → hT → Nat → Int32 → Int32 → Option (Int32)
  | 0, _, _, _, _ => none
  | n + 1, τ, a0, v1, v2 =>
    p_ob τ.1 a0 5 fun V4 =>
    p_vr (V4 5) fun x4 =>
    p_at G x4 fun j7 =>
    p_ob τ.1 j7 20 fun V7 =>
    p_cl (hJ2_size G τ j7) fun x7 =>
    if x7 ≤ v2 then
      (some (-1 : Int32))
    else
    p_ob τ.1 a0 5 fun V14 =>
    p_vr (V14 5) fun x14 =>
    p_at G x14 fun j18 =>
    p_ob τ.1 j18 20 fun V18 =>
    p_cl (hJ2_get G τ j18 v2) fun x18 =>
    p_at G x18 fun j21 =>
    p_ob τ.1 j21 11 fun V21 =>
    p_ob τ.1 j21 11 fun V24 =>
    p_vi (V24 0) fun x24 =>
    if x24 = v1 then
      (some v2)
    else
    hbX2_may_2 G F n τ a0 v1 (v2 + (1 : Int32))
def hX2_may (G : je_G) (F : Nat) (τ : hT) (a0 : Nat) (v1 : Int32) : Option (Int32) :=
  hbX2_may_2 G F F τ a0 v1 (0 : Int32)
def hJ14_init_X21 (G : je_G) (τ : hT) (a0 : Nat) : Option (Unit) :=
  some ()
def hX21_init (G : je_G) (τ : hT) (a0 : Nat) (v1 : Int32) (q2 : Option Nat) : Option (hT) :=
  p_cl (hJ14_init_X21 G τ a0) fun _ =>
  p_ob τ.1 a0 11 fun V6 =>
  p_lt (h_up τ a0 (.inr (11, updV V6 0 (.int v1)))) fun t6 =>
  p_ob t6.1 a0 11 fun V11 =>
  p_lt (h_up t6 a0 (.inr (11, updV V11 1 (va_rf q2)))) fun t11 =>
  some t11
def hbX7_line_72 (G : je_G) (F : Nat) (τ : hS) (a0 : Nat) (s0 : Int32) (s1 : Nat) : Option ((Nat × hS) ⊕ (Unit × hS)) :=
  p_ob τ.1 s1 18 fun V72 =>
  p_ex τ.2.2 (hX7_much G τ s1 s0) fun u72 => p_lt u72.2 fun t72 =>
  p_ob t72.1 a0 18 fun V76 =>
  p_cl (hX7_take G F (h_of t72) a0) fun u76 =>
  p_lt (x_of u76 (t72.2.2 + 0)) fun t76 =>
  p_ob t76.1 a0 18 fun V81 =>
  p_vr (V81 1) fun x81 =>
  p_ob t76.1 a0 18 fun V85 =>
  p_ex t76.2.2 (hX7_name G t76 a0) fun u85 => p_lt u85.1 fun x85 => p_lt u85.2 fun t85 =>
  p_at G x81 fun j88 =>
  p_ob t85.1 j88 5 fun V88 =>
  p_cl (hX2_desk G F (h_of t85) j88 x85) fun x88 =>
  p_ob t85.1 a0 18 fun V91 =>
  p_ex t85.2.2 (hX7_newName G F t85 a0 x88) fun u91 => p_lt u91.1 fun x91 => p_lt u91.2 fun t91 =>
  p_ob t91.1 a0 18 fun V96 =>
  p_vr (V96 1) fun x96 =>
  p_at G x96 fun j99 =>
  p_ob t91.1 j99 5 fun V99 =>
  p_vr (V99 0) fun x99 =>
  p_pr (t91.2.2 + 1 ≤ DC) <|
  p_lt t91.2.1 fun b102 =>
  p_lt (x_nw t91 (.inr (6, fun k => defaultValue (tyX9 k)))) fun t102 =>
  p_ob t102.1 a0 18 fun V111 =>
  p_ex t102.2.2 (hX7_number G F t102 a0 (1 : Int32) (6 : Int32)) fun u111 => p_lt u111.1 fun x111 => p_lt u111.2 fun t111 =>
  p_cl (hX9_init G (h_of t111) b102 x91 x111) fun u114 =>
  p_lt (x_of u114 (t111.2.2 + 0)) fun t114 =>
  p_at G x99 fun j117 =>
  p_ob t114.1 j117 20 fun V117 =>
  p_pr (t114.2.2 + 1 ≤ DC) <|
  p_cl (hJ2_add G (h_of t114) j117 (some (G.2.1 + b102))) fun u117 =>
  p_lt u117.1 fun x117 =>
  p_lt (x_of u117.2 (t114.2.2 + 1)) fun t117 =>
  some (.inr ((), t117))
def hbX7_line_170 (G : je_G) (F : Nat) (τ : hS) (a0 : Nat) (v1 : Int32) (s0 : Int32) (s1 : Nat) : Option ((Nat × hS) ⊕ (Unit × hS)) :=
  p_ob τ.1 s1 18 fun V170 =>
  p_ex τ.2.2 (hX7_told G τ s1 s0) fun u170 => p_lt u170.2 fun t170 =>
  p_ob t170.1 a0 18 fun V175 =>
  p_ex t170.2.2 (hX7_there G F t170 a0 v1) fun u175 => p_lt u175.1 fun x175 => p_lt u175.2 fun t175 =>
  p_ob t175.1 a0 18 fun V180 =>
  p_vr (V180 1) fun x180 =>
  p_ob t175.1 a0 18 fun V184 =>
  p_ex t175.2.2 (hX7_name G t175 a0) fun u184 => p_lt u184.1 fun x184 => p_lt u184.2 fun t184 =>
  p_at G x180 fun j187 =>
  p_ob t184.1 j187 5 fun V187 =>
  p_cl (hX2_desk G F (h_of t184) j187 x184) fun x187 =>
  if x187 = v1 then
    (p_pr (t184.2.2 + 1 ≤ DC) <|
    p_lt t184.2.1 fun b196 =>
    p_lt (x_nw t184 (.inr (19, fun k => defaultValue (tyX8 k)))) fun t196 =>
    p_ob t196.1 a0 18 fun V202 =>
    p_vi (V202 5) fun x202 =>
    p_cl (hX8_init G (h_of t196) b196 (5 : Int32) x202) fun u205 =>
    p_lt (x_of u205 (t196.2.2 + 0)) fun t205 =>
    p_ob t205.1 b196 19 fun V208 =>
    some (.inl (b196, t205)))
  else
  p_ob t184.1 a0 18 fun V210 =>
  p_vr (V210 1) fun x210 =>
  p_at G x210 fun j213 =>
  p_ob t184.1 j213 5 fun V213 =>
  p_vr (V213 0) fun x213 =>
  p_at G x213 fun j217 =>
  p_ob t184.1 j217 20 fun V217 =>
  p_cl (hJ2_get G (h_of t184) j217 v1) fun x217 =>
  p_at G x217 fun j220 =>
  p_ob t184.1 j220 6 fun V220 =>
  p_ob t184.1 a0 18 fun V225 =>
  p_ex t184.2.2 (hX7_there G F t184 a0 x187) fun u225 => p_lt u225.1 fun x225 => p_lt u225.2 fun t225 =>
  p_ob t225.1 j220 6 fun V228 =>
  p_lt (x_up t225 j220 (.inr (6, updV V228 2 (.int x225)))) fun t228 =>
  some (.inr ((), t228))
def hbX7_line_169 (G : je_G) (F : Nat) (τ : hS) (a0 : Nat) (v1 : Int32) (s0 : Nat) : Option ((Nat × hS) ⊕ (Unit × hS)) :=
  hbX7_line_170 G F τ a0 v1 (0 : Int32) s0
def hbX7_line_255 (G : je_G) (F : Nat) (τ : hS) (a0 : Nat) (s0 : Int32) (s1 : Nat) : Option ((Nat × hS) ⊕ (Unit × hS)) :=
  p_ob τ.1 s1 18 fun V255 =>
  p_ex τ.2.2 (hX7_much G τ s1 s0) fun u255 => p_lt u255.2 fun t255 =>
  p_ob t255.1 a0 18 fun V259 =>
  p_cl (hX7_take G F (h_of t255) a0) fun u259 =>
  p_lt (x_of u259 (t255.2.2 + 0)) fun t259 =>
  p_ob t259.1 a0 18 fun V264 =>
  p_vr (V264 1) fun x264 =>
  p_ob t259.1 a0 18 fun V268 =>
  p_ex t259.2.2 (hX7_name G t259 a0) fun u268 => p_lt u268.1 fun x268 => p_lt u268.2 fun t268 =>
  p_at G x264 fun j271 =>
  p_ob t268.1 j271 5 fun V271 =>
  p_cl (hX2_fact G F (h_of t268) j271 x268) fun x271 =>
  p_ob t268.1 a0 18 fun V274 =>
  p_ex t268.2.2 (hX7_newName G F t268 a0 x271) fun u274 => p_lt u274.1 fun x274 => p_lt u274.2 fun t274 =>
  p_ob t274.1 a0 18 fun V279 =>
  p_vr (V279 1) fun x279 =>
  p_at G x279 fun j282 =>
  p_ob t274.1 j282 5 fun V282 =>
  p_vr (V282 1) fun x282 =>
  p_pr (t274.2.2 + 1 ≤ DC) <|
  p_lt t274.2.1 fun b285 =>
  p_lt (x_nw t274 (.inr (7, fun k => defaultValue (tyX10 k)))) fun t285 =>
  p_ob t285.1 a0 18 fun V294 =>
  p_ex t285.2.2 (hX7_number G F t285 a0 (0 : Int32) (99 : Int32)) fun u294 => p_lt u294.1 fun x294 => p_lt u294.2 fun t294 =>
  p_cl (hX10_init G (h_of t294) b285 x274 x294) fun u297 =>
  p_lt (x_of u297 (t294.2.2 + 0)) fun t297 =>
  p_at G x282 fun j300 =>
  p_ob t297.1 j300 20 fun V300 =>
  p_pr (t297.2.2 + 1 ≤ DC) <|
  p_cl (hJ2_add G (h_of t297) j300 (some (G.2.1 + b285))) fun u300 =>
  p_lt u300.1 fun x300 =>
  p_lt (x_of u300.2 (t297.2.2 + 1)) fun t300 =>
  some (.inr ((), t300))
def hbX7_line_328 (G : je_G) (F : Nat) (τ : hS) (a0 : Nat) (s0 : Int32) (s1 : Nat) : Option ((Nat × hS) ⊕ (Unit × hS)) :=
  p_ob τ.1 s1 18 fun V328 =>
  p_ex τ.2.2 (hX7_much G τ s1 s0) fun u328 => p_lt u328.2 fun t328 =>
  p_ob t328.1 a0 18 fun V332 =>
  p_cl (hX7_take G F (h_of t328) a0) fun u332 =>
  p_lt (x_of u332 (t328.2.2 + 0)) fun t332 =>
  p_ob t332.1 a0 18 fun V339 =>
  p_ex t332.2.2 (hX7_number G F t332 a0 (0 : Int32) (60 : Int32)) fun u339 => p_lt u339.1 fun x339 => p_lt u339.2 fun t339 =>
  p_ob t339.1 a0 18 fun V345 =>
  p_vr (V345 1) fun x345 =>
  p_ob t339.1 a0 18 fun V349 =>
  p_ex t339.2.2 (hX7_name G t339 a0) fun u349 => p_lt u349.1 fun x349 => p_lt u349.2 fun t349 =>
  p_at G x345 fun j352 =>
  p_ob t349.1 j352 5 fun V352 =>
  p_cl (hX2_desk G F (h_of t349) j352 x349) fun x352 =>
  p_ob t349.1 a0 18 fun V355 =>
  p_ex t349.2.2 (hX7_there G F t349 a0 x352) fun u355 => p_lt u355.1 fun x355 => p_lt u355.2 fun t355 =>
  p_ob t355.1 a0 18 fun V361 =>
  p_vr (V361 1) fun x361 =>
  p_ob t355.1 a0 18 fun V365 =>
  p_ex t355.2.2 (hX7_name G t355 a0) fun u365 => p_lt u365.1 fun x365 => p_lt u365.2 fun t365 =>
  p_at G x361 fun j368 =>
  p_ob t365.1 j368 5 fun V368 =>
  p_cl (hX2_fact G F (h_of t365) j368 x365) fun x368 =>
  p_ob t365.1 a0 18 fun V371 =>
  p_ex t365.2.2 (hX7_there G F t365 a0 x368) fun u371 => p_lt u371.1 fun x371 => p_lt u371.2 fun t371 =>
  p_ob t371.1 a0 18 fun V376 =>
  p_vr (V376 1) fun x376 =>
  p_at G x376 fun j379 =>
  p_ob t371.1 j379 5 fun V379 =>
  p_vr (V379 2) fun x379 =>
  p_pr (t371.2.2 + 1 ≤ DC) <|
  p_lt t371.2.1 fun b382 =>
  p_lt (x_nw t371 (.inr (8, fun k => defaultValue (tyX11 k)))) fun t382 =>
  p_ob t382.1 a0 18 fun V393 =>
  p_ex t382.2.2 (hX7_number G F t382 a0 x339 (99 : Int32)) fun u393 => p_lt u393.1 fun x393 => p_lt u393.2 fun t393 =>
  p_cl (hX11_init G (h_of t393) b382 x339 x355 x371 x393) fun u396 =>
  p_lt (x_of u396 (t393.2.2 + 0)) fun t396 =>
  p_at G x379 fun j399 =>
  p_ob t396.1 j399 20 fun V399 =>
  p_pr (t396.2.2 + 1 ≤ DC) <|
  p_cl (hJ2_add G (h_of t396) j399 (some (G.2.1 + b382))) fun u399 =>
  p_lt u399.1 fun x399 =>
  p_lt (x_of u399.2 (t396.2.2 + 1)) fun t399 =>
  some (.inr ((), t399))
def hbX7_line_427 (G : je_G) (F : Nat) (τ : hS) (a0 : Nat) (s0 : Int32) (s1 : Nat) : Option ((Nat × hS) ⊕ (Unit × hS)) :=
  p_ob τ.1 s1 18 fun V427 =>
  p_ex τ.2.2 (hX7_much G τ s1 s0) fun u427 => p_lt u427.2 fun t427 =>
  p_ob t427.1 a0 18 fun V431 =>
  p_cl (hX7_take G F (h_of t427) a0) fun u431 =>
  p_lt (x_of u431 (t427.2.2 + 0)) fun t431 =>
  p_ob t431.1 a0 18 fun V438 =>
  p_ex t431.2.2 (hX7_number G F t431 a0 (0 : Int32) (60 : Int32)) fun u438 => p_lt u438.1 fun x438 => p_lt u438.2 fun t438 =>
  p_ob t438.1 a0 18 fun V444 =>
  p_vr (V444 1) fun x444 =>
  p_ob t438.1 a0 18 fun V448 =>
  p_ex t438.2.2 (hX7_name G t438 a0) fun u448 => p_lt u448.1 fun x448 => p_lt u448.2 fun t448 =>
  p_at G x444 fun j451 =>
  p_ob t448.1 j451 5 fun V451 =>
  p_cl (hX2_desk G F (h_of t448) j451 x448) fun x451 =>
  p_ob t448.1 a0 18 fun V454 =>
  p_ex t448.2.2 (hX7_there G F t448 a0 x451) fun u454 => p_lt u454.1 fun x454 => p_lt u454.2 fun t454 =>
  p_ob t454.1 a0 18 fun V460 =>
  p_vr (V460 1) fun x460 =>
  p_ob t454.1 a0 18 fun V464 =>
  p_ex t454.2.2 (hX7_name G t454 a0) fun u464 => p_lt u464.1 fun x464 => p_lt u464.2 fun t464 =>
  p_at G x460 fun j467 =>
  p_ob t464.1 j467 5 fun V467 =>
  p_cl (hX2_fact G F (h_of t464) j467 x464) fun x467 =>
  p_ob t464.1 a0 18 fun V470 =>
  p_ex t464.2.2 (hX7_there G F t464 a0 x467) fun u470 => p_lt u470.1 fun x470 => p_lt u470.2 fun t470 =>
  p_ob t470.1 a0 18 fun V475 =>
  p_vr (V475 1) fun x475 =>
  p_at G x475 fun j478 =>
  p_ob t470.1 j478 5 fun V478 =>
  p_vr (V478 3) fun x478 =>
  p_pr (t470.2.2 + 1 ≤ DC) <|
  p_lt t470.2.1 fun b481 =>
  p_lt (x_nw t470 (.inr (9, fun k => defaultValue (tyX12 k)))) fun t481 =>
  p_ob t481.1 a0 18 fun V492 =>
  p_ex t481.2.2 (hX7_number G F t481 a0 (0 : Int32) (100 : Int32)) fun u492 => p_lt u492.1 fun x492 => p_lt u492.2 fun t492 =>
  p_cl (hX12_init G (h_of t492) b481 x438 x454 x470 x492) fun u495 =>
  p_lt (x_of u495 (t492.2.2 + 0)) fun t495 =>
  p_at G x478 fun j498 =>
  p_ob t495.1 j498 20 fun V498 =>
  p_pr (t495.2.2 + 1 ≤ DC) <|
  p_cl (hJ2_add G (h_of t495) j498 (some (G.2.1 + b481))) fun u498 =>
  p_lt u498.1 fun x498 =>
  p_lt (x_of u498.2 (t495.2.2 + 1)) fun t498 =>
  some (.inr ((), t498))
def hbX7_line_525 (G : je_G) (F : Nat) (τ : hS) (a0 : Nat) (s0 : Int32) (s1 : Nat) : Option ((Nat × hS) ⊕ (Unit × hS)) :=
  p_ob τ.1 s1 18 fun V525 =>
  p_ex τ.2.2 (hX7_much G τ s1 s0) fun u525 => p_lt u525.2 fun t525 =>
  p_ob t525.1 a0 18 fun V529 =>
  p_cl (hX7_take G F (h_of t525) a0) fun u529 =>
  p_lt (x_of u529 (t525.2.2 + 0)) fun t529 =>
  p_ob t529.1 a0 18 fun V536 =>
  p_ex t529.2.2 (hX7_number G F t529 a0 (0 : Int32) (60 : Int32)) fun u536 => p_lt u536.1 fun x536 => p_lt u536.2 fun t536 =>
  p_ob t536.1 a0 18 fun V541 =>
  p_vr (V541 1) fun x541 =>
  p_at G x541 fun j544 =>
  p_ob t536.1 j544 5 fun V544 =>
  p_vr (V544 4) fun x544 =>
  p_pr (t536.2.2 + 1 ≤ DC) <|
  p_lt t536.2.1 fun b547 =>
  p_lt (x_nw t536 (.inr (10, fun k => defaultValue (tyX13 k)))) fun t547 =>
  p_ob t547.1 a0 18 fun V554 =>
  p_vr (V554 1) fun x554 =>
  p_ob t547.1 a0 18 fun V558 =>
  p_ex t547.2.2 (hX7_name G t547 a0) fun u558 => p_lt u558.1 fun x558 => p_lt u558.2 fun t558 =>
  p_at G x554 fun j561 =>
  p_ob t558.1 j561 5 fun V561 =>
  p_cl (hX2_desk G F (h_of t558) j561 x558) fun x561 =>
  p_ob t558.1 a0 18 fun V564 =>
  p_ex t558.2.2 (hX7_there G F t558 a0 x561) fun u564 => p_lt u564.1 fun x564 => p_lt u564.2 fun t564 =>
  p_cl (hX13_init G (h_of t564) b547 x536 x564) fun u567 =>
  p_lt (x_of u567 (t564.2.2 + 0)) fun t567 =>
  p_at G x544 fun j570 =>
  p_ob t567.1 j570 20 fun V570 =>
  p_pr (t567.2.2 + 1 ≤ DC) <|
  p_cl (hJ2_add G (h_of t567) j570 (some (G.2.1 + b547))) fun u570 =>
  p_lt u570.1 fun x570 =>
  p_lt (x_of u570.2 (t567.2.2 + 1)) fun t570 =>
  some (.inr ((), t570))
def hbX7_line_698 (G : je_G) (F : Nat) (τ : hS) (a0 : Nat) (v1 : Int32) (s0 : Int32) (s1 : Nat) : Option ((Nat × hS) ⊕ (Unit × hS)) :=
  p_ob τ.1 s1 18 fun V698 =>
  p_ex τ.2.2 (hX7_told G τ s1 s0) fun u698 => p_lt u698.2 fun t698 =>
  p_ob t698.1 a0 18 fun V702 =>
  p_cl (hX7_take G F (h_of t698) a0) fun u702 =>
  p_lt (x_of u702 (t698.2.2 + 0)) fun t702 =>
  p_ob t702.1 a0 18 fun V706 =>
  p_ex t702.2.2 (gX7 G F HD7 0 t702 a0) fun u706 => p_lt u706.1 fun x706 => p_lt u706.2 fun t706 =>
  if v1 = 0 then
    (p_ob t706.1 a0 18 fun V726 =>
    p_vr (V726 1) fun x726 =>
    p_at G x726 fun j730 =>
    p_ob t706.1 j730 5 fun V730 =>
    p_lt (x_up t706 j730 (.inr (5, updV V730 7 (va_rf x706)))) fun t730 =>
    some (.inr ((), t730)))
  else
  p_ob t706.1 a0 18 fun V715 =>
  p_vr (V715 1) fun x715 =>
  p_at G x715 fun j719 =>
  p_ob t706.1 j719 5 fun V719 =>
  p_lt (x_up t706 j719 (.inr (5, updV V719 6 (va_rf x706)))) fun t719 =>
  some (.inr ((), t719))
def hbX7_line_659 (G : je_G) (F : Nat) (τ : hS) (a0 : Nat) (s0 : Int32) : Option ((Nat × hS) ⊕ (Unit × hS)) :=
  if s0 = 0 then
    (p_ob τ.1 a0 18 fun V684 =>
    p_vr (V684 1) fun x684 =>
    p_at G x684 fun j687 =>
    p_ob τ.1 j687 5 fun V687 =>
    p_vr (V687 7) fun x687 =>
    if x687 = none then
      (hbX7_line_698 G F τ a0 s0 (0 : Int32) a0)
    else
    hbX7_line_698 G F τ a0 s0 (1 : Int32) a0)
  else
  p_ob τ.1 a0 18 fun V666 =>
  p_vr (V666 1) fun x666 =>
  p_at G x666 fun j669 =>
  p_ob τ.1 j669 5 fun V669 =>
  p_vr (V669 6) fun x669 =>
  if x669 = none then
    (hbX7_line_698 G F τ a0 s0 (0 : Int32) a0)
  else
  hbX7_line_698 G F τ a0 s0 (1 : Int32) a0
def hbX7_line_645 (G : je_G) (F : Nat) (τ : hS) (a0 : Nat) : Option ((Nat × hS) ⊕ (Unit × hS)) :=
  p_ob τ.1 a0 18 fun V646 =>
  p_vi (V646 4) fun x646 =>
  if x646 = (9 : Int32) then
    (hbX7_line_659 G F τ a0 (1 : Int32))
  else
  hbX7_line_659 G F τ a0 (0 : Int32)
def hbX7_line_756 (G : je_G) (F : Nat) (τ : hS) (a0 : Nat) (s0 : Int32) (s1 : Nat) : Option ((Nat × hS) ⊕ (Unit × hS)) :=
  p_ob τ.1 s1 18 fun V756 =>
  p_ex τ.2.2 (hX7_much G τ s1 s0) fun u756 => p_lt u756.2 fun t756 =>
  p_ob t756.1 a0 18 fun V760 =>
  p_cl (hX7_take G F (h_of t756) a0) fun u760 =>
  p_lt (x_of u760 (t756.2.2 + 0)) fun t760 =>
  p_ob t760.1 a0 18 fun V765 =>
  p_vr (V765 1) fun x765 =>
  p_ob t760.1 a0 18 fun V769 =>
  p_ex t760.2.2 (hX7_name G t760 a0) fun u769 => p_lt u769.1 fun x769 => p_lt u769.2 fun t769 =>
  p_at G x765 fun j772 =>
  p_ob t769.1 j772 5 fun V772 =>
  p_cl (hX2_may G F (h_of t769) j772 x769) fun x772 =>
  p_ob t769.1 a0 18 fun V775 =>
  p_ex t769.2.2 (hX7_newName G F t769 a0 x772) fun u775 => p_lt u775.1 fun x775 => p_lt u775.2 fun t775 =>
  p_ob t775.1 a0 18 fun V780 =>
  p_vr (V780 1) fun x780 =>
  p_at G x780 fun j783 =>
  p_ob t775.1 j783 5 fun V783 =>
  p_vr (V783 5) fun x783 =>
  p_pr (t775.2.2 + 1 ≤ DC) <|
  p_lt t775.2.1 fun b786 =>
  p_lt (x_nw t775 (.inr (11, fun k => defaultValue (tyX21 k)))) fun t786 =>
  p_ob t786.1 a0 18 fun V792 =>
  p_ex t786.2.2 (gX7 G F HD7 0 t786 a0) fun u792 => p_lt u792.1 fun x792 => p_lt u792.2 fun t792 =>
  p_cl (hX21_init G (h_of t792) b786 x775 x792) fun u795 =>
  p_lt (x_of u795 (t792.2.2 + 0)) fun t795 =>
  p_at G x783 fun j798 =>
  p_ob t795.1 j798 20 fun V798 =>
  p_pr (t795.2.2 + 1 ≤ DC) <|
  p_cl (hJ2_add G (h_of t795) j798 (some (G.2.1 + b786))) fun u798 =>
  p_lt u798.1 fun x798 =>
  p_lt (x_of u798.2 (t795.2.2 + 1)) fun t798 =>
  some (.inr ((), t798))
def hX7_line (G : je_G) (F : Nat) (τ : hS) (a0 : Nat) : Option ((Nat × hS) ⊕ (Unit × hS)) :=
  p_pr (τ.2.2 ≤ DC) <|
  p_ob τ.1 a0 18 fun V1 =>
  p_vi (V1 4) fun x1 =>
  if x1 = (0 : Int32) then
    (p_ob τ.1 a0 18 fun V54 =>
    p_vr (V54 1) fun x54 =>
    p_at G x54 fun j57 =>
    p_ob τ.1 j57 5 fun V57 =>
    p_vr (V57 0) fun x57 =>
    p_at G x57 fun j60 =>
    p_ob τ.1 j60 20 fun V60 =>
    p_cl (hJ2_size G (h_of τ) j60) fun x60 =>
    if x60 = (4 : Int32) then
      (hbX7_line_72 G F τ a0 (1 : Int32) a0)
    else
    hbX7_line_72 G F τ a0 (0 : Int32) a0)
  else
  if x1 = (1 : Int32) then
    (p_ob τ.1 a0 18 fun V125 =>
    p_cl (hX7_take G F (h_of τ) a0) fun u125 =>
    p_lt (x_of u125 (τ.2.2 + 0)) fun t125 =>
    p_ob t125.1 a0 18 fun V129 =>
    p_vr (V129 1) fun x129 =>
    p_ob t125.1 a0 18 fun V133 =>
    p_ex t125.2.2 (hX7_name G t125 a0) fun u133 => p_lt u133.1 fun x133 => p_lt u133.2 fun t133 =>
    p_at G x129 fun j136 =>
    p_ob t133.1 j136 5 fun V136 =>
    p_cl (hX2_desk G F (h_of t133) j136 x133) fun x136 =>
    if x136 < 0 then
      (hbX7_line_169 G F t133 a0 x136 a0)
    else
    p_ob t133.1 a0 18 fun V146 =>
    p_vr (V146 1) fun x146 =>
    p_at G x146 fun j149 =>
    p_ob t133.1 j149 5 fun V149 =>
    p_vr (V149 0) fun x149 =>
    p_at G x149 fun j153 =>
    p_ob t133.1 j153 20 fun V153 =>
    p_cl (hJ2_get G (h_of t133) j153 x136) fun x153 =>
    p_at G x153 fun j156 =>
    p_ob t133.1 j156 6 fun V156 =>
    p_ob t133.1 j156 6 fun V159 =>
    p_vi (V159 2) fun x159 =>
    if x159 < 0 then
      (hbX7_line_169 G F t133 a0 x136 a0)
    else
    hbX7_line_170 G F t133 a0 x136 (1 : Int32) a0)
  else
  if x1 = (2 : Int32) then
    (p_ob τ.1 a0 18 fun V236 =>
    p_vr (V236 1) fun x236 =>
    p_at G x236 fun j239 =>
    p_ob τ.1 j239 5 fun V239 =>
    p_vr (V239 1) fun x239 =>
    p_at G x239 fun j242 =>
    p_ob τ.1 j242 20 fun V242 =>
    p_cl (hJ2_size G (h_of τ) j242) fun x242 =>
    if x242 = (7 : Int32) then
      (hbX7_line_255 G F τ a0 (1 : Int32) a0)
    else
    hbX7_line_255 G F τ a0 (0 : Int32) a0)
  else
  if x1 = (3 : Int32) then
    (p_ob τ.1 a0 18 fun V309 =>
    p_vr (V309 1) fun x309 =>
    p_at G x309 fun j312 =>
    p_ob τ.1 j312 5 fun V312 =>
    p_vr (V312 2) fun x312 =>
    p_at G x312 fun j315 =>
    p_ob τ.1 j315 20 fun V315 =>
    p_cl (hJ2_size G (h_of τ) j315) fun x315 =>
    if x315 = (16 : Int32) then
      (hbX7_line_328 G F τ a0 (1 : Int32) a0)
    else
    hbX7_line_328 G F τ a0 (0 : Int32) a0)
  else
  if x1 = (4 : Int32) then
    (p_ob τ.1 a0 18 fun V408 =>
    p_vr (V408 1) fun x408 =>
    p_at G x408 fun j411 =>
    p_ob τ.1 j411 5 fun V411 =>
    p_vr (V411 3) fun x411 =>
    p_at G x411 fun j414 =>
    p_ob τ.1 j414 20 fun V414 =>
    p_cl (hJ2_size G (h_of τ) j414) fun x414 =>
    if x414 = (16 : Int32) then
      (hbX7_line_427 G F τ a0 (1 : Int32) a0)
    else
    hbX7_line_427 G F τ a0 (0 : Int32) a0)
  else
  if x1 = (5 : Int32) then
    (p_ob τ.1 a0 18 fun V507 =>
    p_vr (V507 1) fun x507 =>
    p_at G x507 fun j510 =>
    p_ob τ.1 j510 5 fun V510 =>
    p_vr (V510 4) fun x510 =>
    p_at G x510 fun j513 =>
    p_ob τ.1 j513 20 fun V513 =>
    p_cl (hJ2_size G (h_of τ) j513) fun x513 =>
    if x513 = (4 : Int32) then
      (hbX7_line_525 G F τ a0 (1 : Int32) a0)
    else
    hbX7_line_525 G F τ a0 (0 : Int32) a0)
  else
  if x1 = (6 : Int32) then
    (p_ob τ.1 a0 18 fun V579 =>
    p_vr (V579 1) fun x579 =>
    p_at G x579 fun j582 =>
    p_ob τ.1 j582 5 fun V582 =>
    p_vi (V582 11) fun x582 =>
    p_ob τ.1 a0 18 fun V585 =>
    p_ex τ.2.2 (hX7_told G τ a0 x582) fun u585 => p_lt u585.2 fun t585 =>
    p_ob t585.1 a0 18 fun V589 =>
    p_vr (V589 1) fun x589 =>
    p_at G x589 fun j593 =>
    p_ob t585.1 j593 5 fun V593 =>
    p_lt (x_up t585 j593 (.inr (5, updV V593 11 (.int (1 : Int32))))) fun t593 =>
    p_ob t593.1 a0 18 fun V597 =>
    p_cl (hX7_take G F (h_of t593) a0) fun u597 =>
    p_lt (x_of u597 (t593.2.2 + 0)) fun t597 =>
    p_ob t597.1 a0 18 fun V601 =>
    p_vr (V601 1) fun x601 =>
    p_ob t597.1 a0 18 fun V609 =>
    p_ex t597.2.2 (hX7_number G F t597 a0 (0 : Int32) (999 : Int32)) fun u609 => p_lt u609.1 fun x609 => p_lt u609.2 fun t609 =>
    p_at G x601 fun j612 =>
    p_ob t609.1 j612 5 fun V612 =>
    p_lt (x_up t609 j612 (.inr (5, updV V612 8 (.int x609)))) fun t612 =>
    some (.inr ((), t612)))
  else
  if x1 = (7 : Int32) then
    (p_ob τ.1 a0 18 fun V619 =>
    p_cl (hX7_take G F (h_of τ) a0) fun u619 =>
    p_lt (x_of u619 (τ.2.2 + 0)) fun t619 =>
    p_ob t619.1 a0 18 fun V625 =>
    p_cl (hX7_isKey G (h_of t619) a0 (9 : Int32)) fun x625 =>
    if x625 = 0 then
      (p_ob t619.1 a0 18 fun V634 =>
      p_cl (hX7_isKey G (h_of t619) a0 (10 : Int32)) fun x634 =>
      if x634 = 0 then
        (p_ob t619.1 a0 18 fun V641 =>
        p_pr (t619.2.2 + 1 ≤ DC) <|
        p_cl (hX7_wrong G (h_of t619) a0) fun u641 =>
        p_lt u641.1 fun x641 =>
        p_lt (x_of u641.2 (t619.2.2 + 1)) fun t641 =>
        p_at G x641 fun j644 =>
        p_ob t641.1 j644 19 fun V644 =>
        some (.inl (j644, t641)))
      else
      hbX7_line_645 G F t619 a0)
    else
    hbX7_line_645 G F t619 a0)
  else
  p_ob τ.1 a0 18 fun V738 =>
  p_vr (V738 1) fun x738 =>
  p_at G x738 fun j741 =>
  p_ob τ.1 j741 5 fun V741 =>
  p_vr (V741 5) fun x741 =>
  p_at G x741 fun j744 =>
  p_ob τ.1 j744 20 fun V744 =>
  p_cl (hJ2_size G (h_of τ) j744) fun x744 =>
  if x744 = (4 : Int32) then
    (hbX7_line_756 G F τ a0 (1 : Int32) a0)
  else
  hbX7_line_756 G F τ a0 (0 : Int32) a0
def hbX7_text_28 (G : je_G) (F : Nat) (τ : hS) (a0 : Nat) : Option ((Nat × hS) ⊕ (Option Nat × hS)) :=
  p_ob τ.1 a0 18 fun V29 =>
  p_pr (τ.2.2 + 1 ≤ DC) <|
  p_cl (hX7_wrong G (h_of τ) a0) fun u29 =>
  p_lt u29.1 fun x29 =>
  p_lt (x_of u29.2 (τ.2.2 + 1)) fun t29 =>
  p_at G x29 fun j32 =>
  p_ob t29.1 j32 19 fun V32 =>
  some (.inl (j32, t29))
def hbX7_text_4 (G : je_G) (F : Nat) : Nat → hS → Nat → Option ((Nat × hS) ⊕ (Option Nat × hS))
  | 0, _, _ => none
  | n + 1, τ, a0 =>
    p_ob τ.1 a0 18 fun V5 =>
    p_vi (V5 3) fun x5 =>
    if x5 = 0 then
      (p_ob τ.1 a0 18 fun V72 =>
      p_vr (V72 1) fun x72 =>
      some (.inr (x72, τ)))
    else
    p_ob τ.1 a0 18 fun V12 =>
    p_vi (V12 3) fun x12 =>
    if x12 = (1 : Int32) then
      (p_ob τ.1 a0 18 fun V20 =>
      p_vi (V20 4) fun x20 =>
      if x20 ≤ (8 : Int32) then
        (p_ob τ.1 a0 18 fun V34 =>
        p_ex τ.2.2 (hX7_line G F τ a0) fun u34 => p_lt u34.2 fun t34 =>
        p_ob t34.1 a0 18 fun V40 =>
        p_cl (hX7_isSign G (h_of t34) a0 (59 : Int32)) fun x40 =>
        if x40 = 0 then
          (p_ob t34.1 a0 18 fun V47 =>
          p_pr (t34.2.2 + 1 ≤ DC) <|
          p_cl (hX7_wrong G (h_of t34) a0) fun u47 =>
          p_lt u47.1 fun x47 =>
          p_lt (x_of u47.2 (t34.2.2 + 1)) fun t47 =>
          p_at G x47 fun j50 =>
          p_ob t47.1 j50 19 fun V50 =>
          some (.inl (j50, t47)))
        else
        p_ob t34.1 a0 18 fun V52 =>
        p_cl (hX7_take G F (h_of t34) a0) fun u52 =>
        p_lt (x_of u52 (t34.2.2 + 0)) fun t52 =>
        p_ob t52.1 a0 18 fun V56 =>
        p_vr (V56 1) fun x56 =>
        p_at G x56 fun j60 =>
        p_ob t52.1 j60 5 fun V60 =>
        p_vi (V60 10) fun x60 =>
        p_ob t52.1 j60 5 fun V65 =>
        p_lt (x_up t52 j60 (.inr (5, updV V65 10 (.int (x60 + (1 : Int32)))))) fun t65 =>
        hbX7_text_4 G F n t65 a0)
      else
      hbX7_text_28 G F τ a0)
    else
    hbX7_text_28 G F τ a0
def hX7_text (G : je_G) (F : Nat) (τ : hS) (a0 : Nat) : Option ((Nat × hS) ⊕ (Option Nat × hS)) :=
  p_pr (τ.2.2 ≤ DC) <|
  p_ob τ.1 a0 18 fun V1 =>
  p_cl (hX7_take G F (h_of τ) a0) fun u1 =>
  p_lt (x_of u1 (τ.2.2 + 0)) fun t1 =>
  hbX7_text_4 G F F t1 a0
def hJ0_init_J2 (G : je_G) (τ : hT) (a0 : Nat) : Option (Unit) :=
  some ()
def hJ1_init_J2 (G : je_G) (τ : hT) (a0 : Nat) : Option (hT) :=
  p_cl (hJ0_init_J2 G τ a0) fun _ =>
  p_ob τ.1 a0 20 fun V6 =>
  p_lt (h_up τ a0 (.inr (20, updV V6 0 (.int (0 : Int32))))) fun t6 =>
  some t6
def hJ2_init (G : je_G) (τ : hT) (a0 : Nat) : Option (hT) :=
  p_cl (hJ1_init_J2 G τ a0) fun u1 =>
  p_lt u1 fun t1 =>
  p_ob t1.1 a0 20 fun V8 =>
  p_lt (h_up t1 a0 (.inr (20, updV V8 1 (va_rf (some (G.2.2.2.1 6)))))) fun t8 =>
  some t8
def hX2_init (G : je_G) (τ : hT) (a0 : Nat) : Option (hT) :=
  p_lt τ.2 fun b5 =>
  p_lt (h_nw τ (.inr (20, fun k => defaultValue (tyJ2 k)))) fun t5 =>
  p_cl (hJ2_init G t5 b5) fun u9 =>
  p_lt u9 fun t9 =>
  p_ob t9.1 a0 5 fun V12 =>
  p_lt (h_up t9 a0 (.inr (5, updV V12 0 (.ref (G.2.1 + b5))))) fun t12 =>
  p_lt t12.2 fun b16 =>
  p_lt (h_nw t12 (.inr (20, fun k => defaultValue (tyJ2 k)))) fun t16 =>
  p_cl (hJ2_init G t16 b16) fun u20 =>
  p_lt u20 fun t20 =>
  p_ob t20.1 a0 5 fun V23 =>
  p_lt (h_up t20 a0 (.inr (5, updV V23 1 (.ref (G.2.1 + b16))))) fun t23 =>
  p_lt t23.2 fun b27 =>
  p_lt (h_nw t23 (.inr (20, fun k => defaultValue (tyJ2 k)))) fun t27 =>
  p_cl (hJ2_init G t27 b27) fun u31 =>
  p_lt u31 fun t31 =>
  p_ob t31.1 a0 5 fun V34 =>
  p_lt (h_up t31 a0 (.inr (5, updV V34 2 (.ref (G.2.1 + b27))))) fun t34 =>
  p_lt t34.2 fun b38 =>
  p_lt (h_nw t34 (.inr (20, fun k => defaultValue (tyJ2 k)))) fun t38 =>
  p_cl (hJ2_init G t38 b38) fun u42 =>
  p_lt u42 fun t42 =>
  p_ob t42.1 a0 5 fun V45 =>
  p_lt (h_up t42 a0 (.inr (5, updV V45 3 (.ref (G.2.1 + b38))))) fun t45 =>
  p_lt t45.2 fun b49 =>
  p_lt (h_nw t45 (.inr (20, fun k => defaultValue (tyJ2 k)))) fun t49 =>
  p_cl (hJ2_init G t49 b49) fun u53 =>
  p_lt u53 fun t53 =>
  p_ob t53.1 a0 5 fun V56 =>
  p_lt (h_up t53 a0 (.inr (5, updV V56 4 (.ref (G.2.1 + b49))))) fun t56 =>
  p_lt t56.2 fun b60 =>
  p_lt (h_nw t56 (.inr (20, fun k => defaultValue (tyJ2 k)))) fun t60 =>
  p_cl (hJ2_init G t60 b60) fun u64 =>
  p_lt u64 fun t64 =>
  p_ob t64.1 a0 5 fun V67 =>
  p_lt (h_up t64 a0 (.inr (5, updV V67 5 (.ref (G.2.1 + b60))))) fun t67 =>
  p_ob t67.1 a0 5 fun V73 =>
  p_lt (h_up t67 a0 (.inr (5, updV V73 8 (.int (99 : Int32))))) fun t73 =>
  some t73
def hX7_init (G : je_G) (τ : hT) (a0 : Nat) (q1 : Option Nat) (v2 : Int32) : Option (hT) :=
  p_ob τ.1 a0 18 fun V2 =>
  p_lt (h_up τ a0 (.inr (18, updV V2 7 (va_rf q1)))) fun t2 =>
  p_lt t2.2 fun b10 =>
  p_lt (h_nw t2 (.inr (5, fun k => defaultValue (tyX2 k)))) fun t10 =>
  p_cl (hX2_init G t10 b10) fun u14 =>
  p_lt u14 fun t14 =>
  p_ob t14.1 a0 18 fun V17 =>
  p_lt (h_up t14 a0 (.inr (18, updV V17 1 (.ref (G.2.1 + b10))))) fun t17 =>
  p_ob t17.1 a0 18 fun V22 =>
  p_lt (h_up t17 a0 (.inr (18, updV V22 0 (.int v2)))) fun t22 =>
  some t22
def hX3_init (G : je_G) (τ : hT) (a0 : Nat) : Option (hT) :=
  p_lt τ.2 fun b7 =>
  p_lt (h_nw τ (.inl (G.2.2.1 1, 6, .inr (.inl (fun _ => (0 : Int64)))))) fun t7 =>
  p_ob t7.1 a0 3 fun V9 =>
  p_lt (h_up t7 a0 (.inr (3, updV V9 0 (.ref (G.2.1 + b7))))) fun t9 =>
  some t9
def hX4_init (G : je_G) (τ : hT) (a0 : Nat) : Option (hT) :=
  p_ob τ.1 a0 4 fun V6 =>
  p_lt (h_up τ a0 (.inr (4, updV V6 5 (.int (-1 : Int32))))) fun t6 =>
  p_ob t6.1 a0 4 fun V11 =>
  p_lt (h_up t6 a0 (.inr (4, updV V11 6 (.int (-1 : Int32))))) fun t11 =>
  some t11
def hX5_init (G : je_G) (τ : hT) (a0 : Nat) (q1 : Option Nat) : Option (hT) :=
  p_ob τ.1 a0 2 fun V2 =>
  p_lt (h_up τ a0 (.inr (2, updV V2 17 (va_rf q1)))) fun t2 =>
  p_lt t2.2 fun b11 =>
  p_lt (h_nw t2 (.inl (G.2.2.1 0, 4, .inl (fun _ => (0 : Int32))))) fun t11 =>
  p_ob t11.1 a0 2 fun V13 =>
  p_lt (h_up t11 a0 (.inr (2, updV V13 2 (.ref (G.2.1 + b11))))) fun t13 =>
  p_lt t13.2 fun b18 =>
  p_lt (h_nw t13 (.inl (G.2.2.1 0, 4, .inl (fun _ => (0 : Int32))))) fun t18 =>
  p_ob t18.1 a0 2 fun V20 =>
  p_lt (h_up t18 a0 (.inr (2, updV V20 3 (.ref (G.2.1 + b18))))) fun t20 =>
  p_lt t20.2 fun b25 =>
  p_lt (h_nw t20 (.inl (G.2.2.1 0, 4, .inl (fun _ => (0 : Int32))))) fun t25 =>
  p_ob t25.1 a0 2 fun V27 =>
  p_lt (h_up t25 a0 (.inr (2, updV V27 4 (.ref (G.2.1 + b25))))) fun t27 =>
  p_lt t27.2 fun b32 =>
  p_lt (h_nw t27 (.inl (G.2.2.1 2, 4, .inl (fun _ => (0 : Int32))))) fun t32 =>
  p_ob t32.1 a0 2 fun V34 =>
  p_lt (h_up t32 a0 (.inr (2, updV V34 5 (.ref (G.2.1 + b32))))) fun t34 =>
  p_lt t34.2 fun b40 =>
  p_lt (h_nw t34 (.inl (G.2.2.1 0, 28, .inl (fun _ => (0 : Int32))))) fun t40 =>
  p_ob t40.1 a0 2 fun V42 =>
  p_lt (h_up t40 a0 (.inr (2, updV V42 6 (.ref (G.2.1 + b40))))) fun t42 =>
  p_lt t42.2 fun b48 =>
  p_lt (h_nw t42 (.inl (G.2.2.1 0, 28, .inl (fun _ => (0 : Int32))))) fun t48 =>
  p_ob t48.1 a0 2 fun V50 =>
  p_lt (h_up t48 a0 (.inr (2, updV V50 7 (.ref (G.2.1 + b48))))) fun t50 =>
  p_lt t50.2 fun b56 =>
  p_lt (h_nw t50 (.inl (G.2.2.1 0, 28, .inl (fun _ => (0 : Int32))))) fun t56 =>
  p_ob t56.1 a0 2 fun V58 =>
  p_lt (h_up t56 a0 (.inr (2, updV V58 8 (.ref (G.2.1 + b56))))) fun t58 =>
  p_lt t58.2 fun b63 =>
  p_lt (h_nw t58 (.inl (G.2.2.1 0, 4, .inl (fun _ => (0 : Int32))))) fun t63 =>
  p_ob t63.1 a0 2 fun V65 =>
  p_lt (h_up t63 a0 (.inr (2, updV V65 9 (.ref (G.2.1 + b63))))) fun t65 =>
  p_lt t65.2 fun b70 =>
  p_lt (h_nw t65 (.inl (G.2.2.1 0, 4, .inl (fun _ => (0 : Int32))))) fun t70 =>
  p_ob t70.1 a0 2 fun V72 =>
  p_lt (h_up t70 a0 (.inr (2, updV V72 10 (.ref (G.2.1 + b70))))) fun t72 =>
  p_lt t72.2 fun b78 =>
  p_lt (h_nw t72 (.inl (G.2.2.1 0, 28, .inl (fun _ => (0 : Int32))))) fun t78 =>
  p_ob t78.1 a0 2 fun V80 =>
  p_lt (h_up t78 a0 (.inr (2, updV V80 11 (.ref (G.2.1 + b78))))) fun t80 =>
  p_lt t80.2 fun b86 =>
  p_lt (h_nw t80 (.inl (G.2.2.1 0, 28, .inl (fun _ => (0 : Int32))))) fun t86 =>
  p_ob t86.1 a0 2 fun V88 =>
  p_lt (h_up t86 a0 (.inr (2, updV V88 12 (.ref (G.2.1 + b86))))) fun t88 =>
  p_lt t88.2 fun b94 =>
  p_lt (h_nw t88 (.inl (G.2.2.1 0, 16, .inl (fun _ => (0 : Int32))))) fun t94 =>
  p_ob t94.1 a0 2 fun V96 =>
  p_lt (h_up t94 a0 (.inr (2, updV V96 14 (.ref (G.2.1 + b94))))) fun t96 =>
  p_lt t96.2 fun b103 =>
  p_lt (h_nw t96 (.inl (G.2.2.1 0, 900, .inl (fun _ => (0 : Int32))))) fun t103 =>
  p_ob t103.1 a0 2 fun V105 =>
  p_lt (h_up t103 a0 (.inr (2, updV V105 15 (.ref (G.2.1 + b103))))) fun t105 =>
  some t105
def hX6_init (G : je_G) (τ : hT) (a0 : Nat) : Option (hT) :=
  p_lt τ.2 fun b8 =>
  p_lt (h_nw τ (.inl (G.2.2.1 0, 900, .inl (fun _ => (0 : Int32))))) fun t8 =>
  p_ob t8.1 a0 1 fun V10 =>
  p_lt (h_up t8 a0 (.inr (1, updV V10 1 (.ref (G.2.1 + b8))))) fun t10 =>
  p_lt t10.2 fun b16 =>
  p_lt (h_nw t10 (.inl (G.2.2.1 0, 16, .inl (fun _ => (0 : Int32))))) fun t16 =>
  p_aI G t16.1 b16 fun n21 f21 =>
  p_ck (0 : Int32) n21 <|
  p_lt (h_up t16 b16 (.inl (G.2.2.1 0, n21, .inl (upd f21 (0 : Int32).toNatClampNeg (0 : Int32))))) fun t21 =>
  p_aI G t21.1 b16 fun n25 f25 =>
  p_ck (1 : Int32) n25 <|
  p_lt (h_up t21 b16 (.inl (G.2.2.1 0, n25, .inl (upd f25 (1 : Int32).toNatClampNeg (0 : Int32))))) fun t25 =>
  p_aI G t25.1 b16 fun n29 f29 =>
  p_ck (2 : Int32) n29 <|
  p_lt (h_up t25 b16 (.inl (G.2.2.1 0, n29, .inl (upd f29 (2 : Int32).toNatClampNeg (0 : Int32))))) fun t29 =>
  p_aI G t29.1 b16 fun n33 f33 =>
  p_ck (3 : Int32) n33 <|
  p_lt (h_up t29 b16 (.inl (G.2.2.1 0, n33, .inl (upd f33 (3 : Int32).toNatClampNeg (0 : Int32))))) fun t33 =>
  p_aI G t33.1 b16 fun n37 f37 =>
  p_ck (4 : Int32) n37 <|
  p_lt (h_up t33 b16 (.inl (G.2.2.1 0, n37, .inl (upd f37 (4 : Int32).toNatClampNeg (0 : Int32))))) fun t37 =>
  p_aI G t37.1 b16 fun n41 f41 =>
  p_ck (5 : Int32) n41 <|
  p_lt (h_up t37 b16 (.inl (G.2.2.1 0, n41, .inl (upd f41 (5 : Int32).toNatClampNeg (0 : Int32))))) fun t41 =>
  p_aI G t41.1 b16 fun n47 f47 =>
  p_ck (6 : Int32) n47 <|
  p_lt (h_up t41 b16 (.inl (G.2.2.1 0, n47, .inl (upd f47 (6 : Int32).toNatClampNeg (99 : Int32))))) fun t47 =>
  p_aI G t47.1 b16 fun n52 f52 =>
  p_ck (7 : Int32) n52 <|
  p_lt (h_up t47 b16 (.inl (G.2.2.1 0, n52, .inl (upd f52 (7 : Int32).toNatClampNeg (0 : Int32))))) fun t52 =>
  p_aI G t52.1 b16 fun n57 f57 =>
  p_ck (8 : Int32) n57 <|
  p_lt (h_up t52 b16 (.inl (G.2.2.1 0, n57, .inl (upd f57 (8 : Int32).toNatClampNeg (0 : Int32))))) fun t57 =>
  p_aI G t57.1 b16 fun n62 f62 =>
  p_ck (9 : Int32) n62 <|
  p_lt (h_up t57 b16 (.inl (G.2.2.1 0, n62, .inl (upd f62 (9 : Int32).toNatClampNeg (0 : Int32))))) fun t62 =>
  p_aI G t62.1 b16 fun n67 f67 =>
  p_ck (10 : Int32) n67 <|
  p_lt (h_up t62 b16 (.inl (G.2.2.1 0, n67, .inl (upd f67 (10 : Int32).toNatClampNeg (0 : Int32))))) fun t67 =>
  p_aI G t67.1 b16 fun n72 f72 =>
  p_ck (11 : Int32) n72 <|
  p_lt (h_up t67 b16 (.inl (G.2.2.1 0, n72, .inl (upd f72 (11 : Int32).toNatClampNeg (0 : Int32))))) fun t72 =>
  p_aI G t72.1 b16 fun n77 f77 =>
  p_ck (12 : Int32) n77 <|
  p_lt (h_up t72 b16 (.inl (G.2.2.1 0, n77, .inl (upd f77 (12 : Int32).toNatClampNeg (0 : Int32))))) fun t77 =>
  p_aI G t77.1 b16 fun n82 f82 =>
  p_ck (13 : Int32) n82 <|
  p_lt (h_up t77 b16 (.inl (G.2.2.1 0, n82, .inl (upd f82 (13 : Int32).toNatClampNeg (0 : Int32))))) fun t82 =>
  p_aI G t82.1 b16 fun n88 f88 =>
  p_ck (14 : Int32) n88 <|
  p_lt (h_up t82 b16 (.inl (G.2.2.1 0, n88, .inl (upd f88 (14 : Int32).toNatClampNeg (99 : Int32))))) fun t88 =>
  p_aI G t88.1 b16 fun n93 f93 =>
  p_ck (15 : Int32) n93 <|
  p_lt (h_up t88 b16 (.inl (G.2.2.1 0, n93, .inl (upd f93 (15 : Int32).toNatClampNeg (0 : Int32))))) fun t93 =>
  p_ob t93.1 a0 1 fun V94 =>
  p_lt (h_up t93 a0 (.inr (1, updV V94 3 (.ref (G.2.1 + b16))))) fun t94 =>
  p_lt t94.2 fun b100 =>
  p_lt (h_nw t94 (.inl (G.2.2.1 0, 8, .inl (fun _ => (0 : Int32))))) fun t100 =>
  p_ob t100.1 a0 1 fun V102 =>
  p_lt (h_up t100 a0 (.inr (1, updV V102 4 (.ref (G.2.1 + b100))))) fun t102 =>
  p_lt t102.2 fun b108 =>
  p_lt (h_nw t102 (.inl (G.2.2.1 0, 8, .inl (fun _ => (0 : Int32))))) fun t108 =>
  p_ob t108.1 a0 1 fun V110 =>
  p_lt (h_up t108 a0 (.inr (1, updV V110 5 (.ref (G.2.1 + b108))))) fun t110 =>
  p_lt t110.2 fun b116 =>
  p_lt (h_nw t110 (.inl (G.2.2.1 0, 8, .inl (fun _ => (0 : Int32))))) fun t116 =>
  p_aI G t116.1 b116 fun n121 f121 =>
  p_ck (0 : Int32) n121 <|
  p_lt (h_up t116 b116 (.inl (G.2.2.1 0, n121, .inl (upd f121 (0 : Int32).toNatClampNeg (-1 : Int32))))) fun t121 =>
  p_aI G t121.1 b116 fun n125 f125 =>
  p_ck (1 : Int32) n125 <|
  p_lt (h_up t121 b116 (.inl (G.2.2.1 0, n125, .inl (upd f125 (1 : Int32).toNatClampNeg (-1 : Int32))))) fun t125 =>
  p_aI G t125.1 b116 fun n129 f129 =>
  p_ck (2 : Int32) n129 <|
  p_lt (h_up t125 b116 (.inl (G.2.2.1 0, n129, .inl (upd f129 (2 : Int32).toNatClampNeg (-1 : Int32))))) fun t129 =>
  p_aI G t129.1 b116 fun n133 f133 =>
  p_ck (3 : Int32) n133 <|
  p_lt (h_up t129 b116 (.inl (G.2.2.1 0, n133, .inl (upd f133 (3 : Int32).toNatClampNeg (-1 : Int32))))) fun t133 =>
  p_aI G t133.1 b116 fun n137 f137 =>
  p_ck (4 : Int32) n137 <|
  p_lt (h_up t133 b116 (.inl (G.2.2.1 0, n137, .inl (upd f137 (4 : Int32).toNatClampNeg (-1 : Int32))))) fun t137 =>
  p_aI G t137.1 b116 fun n141 f141 =>
  p_ck (5 : Int32) n141 <|
  p_lt (h_up t137 b116 (.inl (G.2.2.1 0, n141, .inl (upd f141 (5 : Int32).toNatClampNeg (-1 : Int32))))) fun t141 =>
  p_aI G t141.1 b116 fun n146 f146 =>
  p_ck (6 : Int32) n146 <|
  p_lt (h_up t141 b116 (.inl (G.2.2.1 0, n146, .inl (upd f146 (6 : Int32).toNatClampNeg (-1 : Int32))))) fun t146 =>
  p_aI G t146.1 b116 fun n151 f151 =>
  p_ck (7 : Int32) n151 <|
  p_lt (h_up t146 b116 (.inl (G.2.2.1 0, n151, .inl (upd f151 (7 : Int32).toNatClampNeg (-1 : Int32))))) fun t151 =>
  p_ob t151.1 a0 1 fun V152 =>
  p_lt (h_up t151 a0 (.inr (1, updV V152 6 (.ref (G.2.1 + b116))))) fun t152 =>
  p_lt t152.2 fun b158 =>
  p_lt (h_nw t152 (.inl (G.2.2.1 0, 14, .inl (fun _ => (0 : Int32))))) fun t158 =>
  p_ob t158.1 a0 1 fun V160 =>
  p_lt (h_up t158 a0 (.inr (1, updV V160 7 (.ref (G.2.1 + b158))))) fun t160 =>
  p_lt t160.2 fun b166 =>
  p_lt (h_nw t160 (.inl (G.2.2.1 0, 14, .inl (fun _ => (0 : Int32))))) fun t166 =>
  p_ob t166.1 a0 1 fun V168 =>
  p_lt (h_up t166 a0 (.inr (1, updV V168 8 (.ref (G.2.1 + b166))))) fun t168 =>
  p_lt t168.2 fun b174 =>
  p_lt (h_nw t168 (.inl (G.2.2.1 0, 32, .inl (fun _ => (0 : Int32))))) fun t174 =>
  p_ob t174.1 a0 1 fun V176 =>
  p_lt (h_up t174 a0 (.inr (1, updV V176 9 (.ref (G.2.1 + b174))))) fun t176 =>
  p_lt t176.2 fun b182 =>
  p_lt (h_nw t176 (.inl (G.2.2.1 0, 32, .inl (fun _ => (0 : Int32))))) fun t182 =>
  p_ob t182.1 a0 1 fun V184 =>
  p_lt (h_up t182 a0 (.inr (1, updV V184 10 (.ref (G.2.1 + b182))))) fun t184 =>
  p_lt t184.2 fun b190 =>
  p_lt (h_nw t184 (.inl (G.2.2.1 0, 32, .inl (fun _ => (0 : Int32))))) fun t190 =>
  p_ob t190.1 a0 1 fun V192 =>
  p_lt (h_up t190 a0 (.inr (1, updV V192 11 (.ref (G.2.1 + b190))))) fun t192 =>
  p_lt t192.2 fun b198 =>
  p_lt (h_nw t192 (.inl (G.2.2.1 0, 32, .inl (fun _ => (0 : Int32))))) fun t198 =>
  p_ob t198.1 a0 1 fun V200 =>
  p_lt (h_up t198 a0 (.inr (1, updV V200 12 (.ref (G.2.1 + b198))))) fun t200 =>
  p_lt t200.2 fun b206 =>
  p_lt (h_nw t200 (.inl (G.2.2.1 0, 32, .inl (fun _ => (0 : Int32))))) fun t206 =>
  p_ob t206.1 a0 1 fun V208 =>
  p_lt (h_up t206 a0 (.inr (1, updV V208 13 (.ref (G.2.1 + b206))))) fun t208 =>
  p_lt t208.2 fun b214 =>
  p_lt (h_nw t208 (.inl (G.2.2.1 0, 32, .inl (fun _ => (0 : Int32))))) fun t214 =>
  p_ob t214.1 a0 1 fun V216 =>
  p_lt (h_up t214 a0 (.inr (1, updV V216 14 (.ref (G.2.1 + b214))))) fun t216 =>
  p_lt t216.2 fun b222 =>
  p_lt (h_nw t216 (.inl (G.2.2.1 0, 32, .inl (fun _ => (0 : Int32))))) fun t222 =>
  p_ob t222.1 a0 1 fun V224 =>
  p_lt (h_up t222 a0 (.inr (1, updV V224 15 (.ref (G.2.1 + b222))))) fun t224 =>
  p_lt t224.2 fun b230 =>
  p_lt (h_nw t224 (.inl (G.2.2.1 0, 32, .inl (fun _ => (0 : Int32))))) fun t230 =>
  p_ob t230.1 a0 1 fun V232 =>
  p_lt (h_up t230 a0 (.inr (1, updV V232 16 (.ref (G.2.1 + b230))))) fun t232 =>
  p_lt t232.2 fun b238 =>
  p_lt (h_nw t232 (.inl (G.2.2.1 0, 8, .inl (fun _ => (0 : Int32))))) fun t238 =>
  p_ob t238.1 a0 1 fun V240 =>
  p_lt (h_up t238 a0 (.inr (1, updV V240 17 (.ref (G.2.1 + b238))))) fun t240 =>
  p_lt t240.2 fun b246 =>
  p_lt (h_nw t240 (.inl (G.2.2.1 0, 8, .inl (fun _ => (0 : Int32))))) fun t246 =>
  p_ob t246.1 a0 1 fun V248 =>
  p_lt (h_up t246 a0 (.inr (1, updV V248 18 (.ref (G.2.1 + b246))))) fun t248 =>
  p_lt t248.2 fun b254 =>
  p_lt (h_nw t248 (.inl (G.2.2.1 0, 8, .inl (fun _ => (0 : Int32))))) fun t254 =>
  p_ob t254.1 a0 1 fun V256 =>
  p_lt (h_up t254 a0 (.inr (1, updV V256 19 (.ref (G.2.1 + b254))))) fun t256 =>
  p_lt t256.2 fun b262 =>
  p_lt (h_nw t256 (.inl (G.2.2.1 0, 12, .inl (fun _ => (0 : Int32))))) fun t262 =>
  p_ob t262.1 a0 1 fun V264 =>
  p_lt (h_up t262 a0 (.inr (1, updV V264 20 (.ref (G.2.1 + b262))))) fun t264 =>
  p_lt t264.2 fun b270 =>
  p_lt (h_nw t264 (.inl (G.2.2.1 0, 12, .inl (fun _ => (0 : Int32))))) fun t270 =>
  p_ob t270.1 a0 1 fun V272 =>
  p_lt (h_up t270 a0 (.inr (1, updV V272 21 (.ref (G.2.1 + b270))))) fun t272 =>
  p_lt t272.2 fun b279 =>
  p_lt (h_nw t272 (.inl (G.2.2.1 0, 128, .inl (fun _ => (0 : Int32))))) fun t279 =>
  p_ob t279.1 a0 1 fun V281 =>
  p_lt (h_up t279 a0 (.inr (1, updV V281 22 (.ref (G.2.1 + b279))))) fun t281 =>
  p_lt t281.2 fun b288 =>
  p_lt (h_nw t281 (.inl (G.2.2.1 0, 128, .inl (fun _ => (0 : Int32))))) fun t288 =>
  p_ob t288.1 a0 1 fun V290 =>
  p_lt (h_up t288 a0 (.inr (1, updV V290 23 (.ref (G.2.1 + b288))))) fun t290 =>
  p_ob t290.1 a0 1 fun V295 =>
  p_lt (h_up t290 a0 (.inr (1, updV V295 34 (.int (-1 : Int32))))) fun t295 =>
  p_lt t295.2 fun b301 =>
  p_lt (h_nw t295 (.inl (G.2.2.1 1, 6, .inr (.inl (fun _ => (0 : Int64)))))) fun t301 =>
  p_ob t301.1 a0 1 fun V303 =>
  p_lt (h_up t301 a0 (.inr (1, updV V303 40 (.ref (G.2.1 + b301))))) fun t303 =>
  p_lt t303.2 fun b309 =>
  p_lt (h_nw t303 (.inl (G.2.2.1 1, 64, .inr (.inl (fun _ => (0 : Int64)))))) fun t309 =>
  p_ob t309.1 a0 1 fun V311 =>
  p_lt (h_up t309 a0 (.inr (1, updV V311 41 (.ref (G.2.1 + b309))))) fun t311 =>
  p_lt t311.2 fun b316 =>
  p_lt (h_nw t311 (.inl (G.2.2.1 0, 3, .inl (fun _ => (0 : Int32))))) fun t316 =>
  p_ob t316.1 a0 1 fun V318 =>
  p_lt (h_up t316 a0 (.inr (1, updV V318 43 (.ref (G.2.1 + b316))))) fun t318 =>
  p_lt t318.2 fun b324 =>
  p_lt (h_nw t318 (.inl (G.2.2.1 0, 12, .inl (fun _ => (0 : Int32))))) fun t324 =>
  p_ob t324.1 a0 1 fun V326 =>
  p_lt (h_up t324 a0 (.inr (1, updV V326 44 (.ref (G.2.1 + b324))))) fun t326 =>
  p_lt t326.2 fun b332 =>
  p_lt (h_nw t326 (.inl (G.2.2.1 0, 84, .inl (fun _ => (0 : Int32))))) fun t332 =>
  p_ob t332.1 a0 1 fun V334 =>
  p_lt (h_up t332 a0 (.inr (1, updV V334 45 (.ref (G.2.1 + b332))))) fun t334 =>
  p_lt t334.2 fun b340 =>
  p_lt (h_nw t334 (.inl (G.2.2.1 0, 84, .inl (fun _ => (0 : Int32))))) fun t340 =>
  p_ob t340.1 a0 1 fun V342 =>
  p_lt (h_up t340 a0 (.inr (1, updV V342 46 (.ref (G.2.1 + b340))))) fun t342 =>
  p_lt t342.2 fun b348 =>
  p_lt (h_nw t342 (.inl (G.2.2.1 0, 84, .inl (fun _ => (0 : Int32))))) fun t348 =>
  p_ob t348.1 a0 1 fun V350 =>
  p_lt (h_up t348 a0 (.inr (1, updV V350 47 (.ref (G.2.1 + b348))))) fun t350 =>
  p_lt t350.2 fun b356 =>
  p_lt (h_nw t350 (.inl (G.2.2.1 0, 12, .inl (fun _ => (0 : Int32))))) fun t356 =>
  p_ob t356.1 a0 1 fun V358 =>
  p_lt (h_up t356 a0 (.inr (1, updV V358 48 (.ref (G.2.1 + b356))))) fun t358 =>
  p_lt t358.2 fun b364 =>
  p_lt (h_nw t358 (.inl (G.2.2.1 0, 12, .inl (fun _ => (0 : Int32))))) fun t364 =>
  p_ob t364.1 a0 1 fun V366 =>
  p_lt (h_up t364 a0 (.inr (1, updV V366 49 (.ref (G.2.1 + b364))))) fun t366 =>
  p_lt t366.2 fun b372 =>
  p_lt (h_nw t366 (.inl (G.2.2.1 2, 12, .inl (fun _ => (0 : Int32))))) fun t372 =>
  p_ob t372.1 a0 1 fun V374 =>
  p_lt (h_up t372 a0 (.inr (1, updV V374 50 (.ref (G.2.1 + b372))))) fun t374 =>
  p_lt t374.2 fun b380 =>
  p_lt (h_nw t374 (.inl (G.2.2.1 0, 48, .inl (fun _ => (0 : Int32))))) fun t380 =>
  p_ob t380.1 a0 1 fun V382 =>
  p_lt (h_up t380 a0 (.inr (1, updV V382 51 (.ref (G.2.1 + b380))))) fun t382 =>
  p_lt t382.2 fun b387 =>
  p_lt (h_nw t382 (.inl (G.2.2.1 0, 3, .inl (fun _ => (0 : Int32))))) fun t387 =>
  p_ob t387.1 a0 1 fun V389 =>
  p_lt (h_up t387 a0 (.inr (1, updV V389 52 (.ref (G.2.1 + b387))))) fun t389 =>
  p_lt t389.2 fun b396 =>
  p_lt (h_nw t389 (.inl (G.2.2.1 0, 1920, .inl (fun _ => (0 : Int32))))) fun t396 =>
  p_ob t396.1 a0 1 fun V398 =>
  p_lt (h_up t396 a0 (.inr (1, updV V398 53 (.ref (G.2.1 + b396))))) fun t398 =>
  p_lt t398.2 fun b405 =>
  p_lt (h_nw t398 (.inl (G.2.2.1 0, 1920, .inl (fun _ => (0 : Int32))))) fun t405 =>
  p_ob t405.1 a0 1 fun V407 =>
  p_lt (h_up t405 a0 (.inr (1, updV V407 54 (.ref (G.2.1 + b405))))) fun t407 =>
  p_lt t407.2 fun b414 =>
  p_lt (h_nw t407 (.inl (G.2.2.1 0, 1920, .inl (fun _ => (0 : Int32))))) fun t414 =>
  p_ob t414.1 a0 1 fun V416 =>
  p_lt (h_up t414 a0 (.inr (1, updV V416 55 (.ref (G.2.1 + b414))))) fun t416 =>
  p_lt t416.2 fun b423 =>
  p_lt (h_nw t416 (.inl (G.2.2.1 0, 1920, .inl (fun _ => (0 : Int32))))) fun t423 =>
  p_ob t423.1 a0 1 fun V425 =>
  p_lt (h_up t423 a0 (.inr (1, updV V425 56 (.ref (G.2.1 + b423))))) fun t425 =>
  p_lt t425.2 fun b430 =>
  p_lt (h_nw t425 (.inl (G.2.2.1 0, 4, .inl (fun _ => (0 : Int32))))) fun t430 =>
  p_ob t430.1 a0 1 fun V432 =>
  p_lt (h_up t430 a0 (.inr (1, updV V432 58 (.ref (G.2.1 + b430))))) fun t432 =>
  p_lt t432.2 fun b437 =>
  p_lt (h_nw t432 (.inl (G.2.2.1 0, 4, .inl (fun _ => (0 : Int32))))) fun t437 =>
  p_ob t437.1 a0 1 fun V439 =>
  p_lt (h_up t437 a0 (.inr (1, updV V439 60 (.ref (G.2.1 + b437))))) fun t439 =>
  p_lt t439.2 fun b444 =>
  p_lt (h_nw t439 (.inl (G.2.2.1 0, 4, .inl (fun _ => (0 : Int32))))) fun t444 =>
  p_ob t444.1 a0 1 fun V446 =>
  p_lt (h_up t444 a0 (.inr (1, updV V446 61 (.ref (G.2.1 + b444))))) fun t446 =>
  p_lt t446.2 fun b453 =>
  p_lt (h_nw t446 (.inl (G.2.2.1 1, 4352, .inr (.inl (fun _ => (0 : Int64)))))) fun t453 =>
  p_ob t453.1 a0 1 fun V455 =>
  p_lt (h_up t453 a0 (.inr (1, updV V455 62 (.ref (G.2.1 + b453))))) fun t455 =>
  p_lt t455.2 fun b461 =>
  p_lt (h_nw t455 (.inl (G.2.2.1 0, 16, .inl (fun _ => (0 : Int32))))) fun t461 =>
  p_ob t461.1 a0 1 fun V463 =>
  p_lt (h_up t461 a0 (.inr (1, updV V463 63 (.ref (G.2.1 + b461))))) fun t463 =>
  p_lt t463.2 fun b469 =>
  p_lt (h_nw t463 (.inl (G.2.2.1 0, 16, .inl (fun _ => (0 : Int32))))) fun t469 =>
  p_ob t469.1 a0 1 fun V471 =>
  p_lt (h_up t469 a0 (.inr (1, updV V471 65 (.ref (G.2.1 + b469))))) fun t471 =>
  p_lt t471.2 fun b477 =>
  p_lt (h_nw t471 (.inl (G.2.2.1 0, 16, .inl (fun _ => (0 : Int32))))) fun t477 =>
  p_ob t477.1 a0 1 fun V479 =>
  p_lt (h_up t477 a0 (.inr (1, updV V479 69 (.ref (G.2.1 + b477))))) fun t479 =>
  p_lt t479.2 fun b486 =>
  p_lt (h_nw t479 (.inl (G.2.2.1 0, 19208, .inl (fun _ => (0 : Int32))))) fun t486 =>
  p_ob t486.1 a0 1 fun V488 =>
  p_lt (h_up t486 a0 (.inr (1, updV V488 70 (.ref (G.2.1 + b486))))) fun t488 =>
  p_ob t488.1 a0 1 fun V493 =>
  p_lt (h_up t488 a0 (.inr (1, updV V493 72 (.int (-1 : Int32))))) fun t493 =>
  p_lt t493.2 fun b499 =>
  p_lt (h_nw t493 (.inl (G.2.2.1 0, 24, .inl (fun _ => (0 : Int32))))) fun t499 =>
  p_ob t499.1 a0 1 fun V501 =>
  p_lt (h_up t499 a0 (.inr (1, updV V501 73 (.ref (G.2.1 + b499))))) fun t501 =>
  p_lt t501.2 fun b507 =>
  p_lt (h_nw t501 (.inl (G.2.2.1 0, 24, .inl (fun _ => (0 : Int32))))) fun t507 =>
  p_ob t507.1 a0 1 fun V509 =>
  p_lt (h_up t507 a0 (.inr (1, updV V509 74 (.ref (G.2.1 + b507))))) fun t509 =>
  p_lt t509.2 fun b515 =>
  p_lt (h_nw t509 (.inl (G.2.2.1 2, 24, .inl (fun _ => (0 : Int32))))) fun t515 =>
  p_ob t515.1 a0 1 fun V517 =>
  p_lt (h_up t515 a0 (.inr (1, updV V517 75 (.ref (G.2.1 + b515))))) fun t517 =>
  some t517
