/-! the JDK's members: its methods as pure programs: printed by gen -/
set_option maxRecDepth 100000
def pJ3_coder (a0 : Nat) : Option (Int32) :=
  if (1 : Int32) = 0 then
    (some (1 : Int32))
  else
  p_i3 a0 <|
  some (0 : Int32)
def pJ3_length (a0 : Nat) : Option (Int32) :=
  p_i3 a0 <|
  p_i3 a0 <|
  p_cl (pJ3_coder a0) fun t6 =>
  p_i3 a0 <|
  some ((Int32.ofNat (lenS.getD a0 0)) >>> (t6 &&& 31))
def pJ3_isLatin1 (a0 : Nat) : Option (Int32) :=
  if (1 : Int32) = 0 then
    (some (0 : Int32))
  else
  p_i3 a0 <|
  if (0 : Int32) = 0 then
    (some (1 : Int32))
  else
  some (0 : Int32)
def pJ7_checkIndex (v0 : Int32) (v1 : Int32) : Option (Int32) :=
  if v0 < 0 then
    (none)
  else
  if v0 < v1 then
    (some v0)
  else
  none
def pJ3_checkIndex (v0 : Int32) (v1 : Int32) : Option (Unit) :=
  p_cl (pJ7_checkIndex v0 v1) fun t5 =>
  some ()
def pJ4_charAt (a0 : Nat) (v1 : Int32) : Option (Int32) :=
  p_i3 a0 <|
  p_cl (pJ3_checkIndex v1 (Int32.ofNat (lenS.getD a0 0))) fun _ =>
  p_i3 a0 <|
  p_ck v1 (lenS.getD a0 0) <|
  p_c8 (((((bytS.getD a0 []).getD v1.toNatClampNeg 0) &&& (255 : Int32)).toUInt32 % 65536).toInt32) <|
  some (((((bytS.getD a0 []).getD v1.toNatClampNeg 0) &&& (255 : Int32)).toUInt32 % 65536).toInt32)
def pJ3_charAt (a0 : Nat) (v1 : Int32) : Option (Int32) :=
  p_cl (pJ3_isLatin1 a0) fun t1 =>
  p_i3 a0 <|
  if t1 = 0 then
    (p_i3 a0 <|
    none)
  else
  p_i3 a0 <|
  p_cl (pJ4_charAt a0 v1) fun t12 =>
  p_c8 t12 <|
  some t12
def pJ4_canEncode (v0 : Int32) : Option (Int32) :=
  if v0 < 0 then
    (some (0 : Int32))
  else
  if (255 : Int32) < v0 then
    (some (0 : Int32))
  else
  some (1 : Int32)
def bJ4_indexOfChar_7 (F : Nat) : Nat → Nat → Int32 → Int32 → Int32 → Option (Int32)
  | 0, _, _, _, _ => none
  | n + 1, a0, v3, v4, v5 =>
    if v3 ≤ v5 then
      (some (-1 : Int32))
    else
    p_i3 a0 <|
    p_ck v5 (lenS.getD a0 0) <|
    if ((bytS.getD a0 []).getD v5.toNatClampNeg 0) = v4 then
      (some v5)
    else
    bJ4_indexOfChar_7 F n a0 v3 v4 (v5 + (1 : Int32))
def pJ4_indexOfChar (F : Nat) (a0 : Nat) (v1 : Int32) (v2 : Int32) (v3 : Int32) : Option (Int32) :=
  p_lt v1.toInt8.toInt32 fun t2 =>
  bJ4_indexOfChar_7 F F a0 v3 t2 v2
def pJ4_indexOf (F : Nat) (a0 : Nat) (v1 : Int32) (v2 : Int32) (v3 : Int32) : Option (Int32) :=
  p_cl (pJ4_canEncode v1) fun t1 =>
  if t1 = 0 then
    (some (-1 : Int32))
  else
  p_lt (if v2 < (0 : Int32) then (0 : Int32) else v2) fun t14 =>
  p_i3 a0 <|
  p_lt (if (Int32.ofNat (lenS.getD a0 0)) < v3 then (Int32.ofNat (lenS.getD a0 0)) else v3) fun t21 =>
  if t14 < t21 then
    (p_cl (pJ4_indexOfChar F a0 v1 t14 t21) fun t33 =>
    some t33)
  else
  some (-1 : Int32)
def pJ3_indexOf (F : Nat) (a0 : Nat) (v1 : Int32) (v2 : Int32) : Option (Int32) :=
  p_cl (pJ3_isLatin1 a0) fun t1 =>
  p_i3 a0 <|
  if t1 = 0 then
    (p_i3 a0 <|
    p_cl (pJ3_length a0) fun t30 =>
    p_i3 a0 <|
    none)
  else
  p_i3 a0 <|
  p_cl (pJ3_length a0) fun t14 =>
  p_i3 a0 <|
  p_cl (pJ4_indexOf F a0 v1 v2 t14) fun t17 =>
  some t17
def pJ3_indexOf_2 (F : Nat) (a0 : Nat) (v1 : Int32) : Option (Int32) :=
  p_cl (pJ3_indexOf F a0 v1 (0 : Int32)) fun t3 =>
  p_i3 a0 <|
  some t3
def pJ19_bitCount (v0 : Int32) : Option (Int32) :=
  p_lt (v0 - (((v0.toUInt32 >>> ((1 : Int32).toUInt32 &&& Int32.toUInt32 31)).toInt32) &&& (1431655765 : Int32))) fun t9 =>
  p_lt ((t9 &&& (858993459 : Int32)) + (((t9.toUInt32 >>> ((2 : Int32).toUInt32 &&& Int32.toUInt32 31)).toInt32) &&& (858993459 : Int32))) fun t23 =>
  p_lt ((t23 + ((t23.toUInt32 >>> ((4 : Int32).toUInt32 &&& Int32.toUInt32 31)).toInt32)) &&& (252645135 : Int32)) fun t33 =>
  p_lt (t33 + ((t33.toUInt32 >>> ((8 : Int32).toUInt32 &&& Int32.toUInt32 31)).toInt32)) fun t40 =>
  p_lt (t40 + ((t40.toUInt32 >>> ((16 : Int32).toUInt32 &&& Int32.toUInt32 31)).toInt32)) fun t47 =>
  some (t47 &&& (63 : Int32))
def pJ11_checkIndex (v0 : Int32) (v1 : Int32) : Option (Int32) :=
  p_cl (pJ7_checkIndex v0 v1) fun t3 =>
  some t3
