/-! the system: its methods as pure programs: printed by gen -/
set_option maxRecDepth 100000
def bX1_four_3 (F : Nat) : Nat → kp_K → Int32 → Int32 → Option (kp_K)
  | 0, _, _, _ => none
  | n + 1, κ, v1, v2 =>
    if v2 < 0 then
      (some κ)
    else
    p_ck (κ.1 0 1) 900 <|
    p_lt (s_i κ 1 (κ.1 0 1).toNatClampNeg (vp_nar .byte ((v1 >>> (v2 &&& 31)).toInt8.toInt32))) fun k19 =>
    p_lt (s_i k19 0 1 ((k19.1 0 1) + (1 : Int32))) fun k27 =>
    bX1_four_3 F n k27 v1 (v2 + (-8 : Int32))
def pX1_four (F : Nat) (κ : kp_K) (v1 : Int32) : Option (kp_K) :=
  bX1_four_3 F F κ v1 (24 : Int32)
def pX1_feed (F : Nat) (κ : kp_K) (v1 : Int32) (v2 : Int32) (v3 : Int32) (v4 : Int32) (v5 : Int32) : Option (Int32 × kp_K) :=
  if ((κ.1 0 1) + (20 : Int32)) ≤ (900 : Int32) then
    (p_cl (pX1_four F κ v1) fun k17 =>
    p_cl (pX1_four F k17 v2) fun k22 =>
    p_cl (pX1_four F k22 v3) fun k27 =>
    p_cl (pX1_four F k27 v4) fun k33 =>
    p_cl (pX1_four F k33 v5) fun k39 =>
    some ((k39.1 0 1), k39))
  else
  some ((-1 : Int32), κ)
def pX1_isIn (v0 : Int32) (v1 : Int32) (v2 : Int32) : Option (Int32) :=
  if v0 < v1 then
    (some (0 : Int32))
  else
  if v2 < v0 then
    (some (0 : Int32))
  else
  some (1 : Int32)
def pX1_fault (κ : kp_K) (v1 : Int32) : Option (Int32) :=
  if v1 = 0 then
    (some (κ.1 0 2))
  else
  if v1 = (1 : Int32) then
    (some (κ.1 0 3))
  else
  some (-1 : Int32)
def bX2_desk_2 (F : Nat) (hb : Nat) (hu : hd_T) : Nat → kp_K → Int32 → Int32 → Option (Int32)
  | 0, _, _, _ => none
  | n + 1, κ, v1, v2 =>
    if (Int32.ofNat (hu.2.1 0)) ≤ v2 then
      (some (-1 : Int32))
    else
    p_ck v2 (hu.2.1 0) <|
    if (hu.1 0 v2.toNatClampNeg) = v1 then
      (some v2)
    else
    bX2_desk_2 F hb hu n κ v1 (v2 + (1 : Int32))
def pX2_desk (F : Nat) (hb : Nat) (hu : hd_T) (κ : kp_K) (v1 : Int32) : Option (Int32) :=
  bX2_desk_2 F hb hu F κ v1 (0 : Int32)
def bX2_fact_2 (F : Nat) (hb : Nat) (hu : hd_T) : Nat → kp_K → Int32 → Int32 → Option (Int32)
  | 0, _, _, _ => none
  | n + 1, κ, v1, v2 =>
    if (Int32.ofNat (hu.2.1 1)) ≤ v2 then
      (some (-1 : Int32))
    else
    p_ck v2 (hu.2.1 1) <|
    if (hu.1 10 v2.toNatClampNeg) = v1 then
      (some v2)
    else
    bX2_fact_2 F hb hu n κ v1 (v2 + (1 : Int32))
def pX2_fact (F : Nat) (hb : Nat) (hu : hd_T) (κ : kp_K) (v1 : Int32) : Option (Int32) :=
  bX2_fact_2 F hb hu F κ v1 (0 : Int32)
def bX2_may_2 (F : Nat) (hb : Nat) (hu : hd_T) : Nat → kp_K → Int32 → Int32 → Option (Int32)
  | 0, _, _, _ => none
  | n + 1, κ, v1, v2 =>
    if (Int32.ofNat (hu.2.1 5)) ≤ v2 then
      (some (-1 : Int32))
    else
    p_ck v2 (hu.2.1 5) <|
    if (hu.1 50 v2.toNatClampNeg) = v1 then
      (some v2)
    else
    bX2_may_2 F hb hu n κ v1 (v2 + (1 : Int32))
def pX2_may (F : Nat) (hb : Nat) (hu : hd_T) (κ : kp_K) (v1 : Int32) : Option (Int32) :=
  bX2_may_2 F hb hu F κ v1 (0 : Int32)
def pX1_named (F : Nat) (hb : Nat) (hu : hd_T) (κ : kp_K) (v1 : Int32) (v2 : Int32) : Option (Int32) :=
  if v1 = 0 then
    (p_hs (κ.2.2 0 4) hb <|
    p_cl (pX2_desk F hb hu κ v2) fun t9 =>
    some t9)
  else
  if v1 = (1 : Int32) then
    (p_hs (κ.2.2 0 4) hb <|
    p_cl (pX2_fact F hb hu κ v2) fun t25 =>
    some t25)
  else
  if v1 = (2 : Int32) then
    (p_hs (κ.2.2 0 4) hb <|
    p_cl (pX2_may F hb hu κ v2) fun t41 =>
    some t41)
  else
  some (-1 : Int32)
def pX3_lay (κ : kp_K) (v1 : Int32) (v2 : Int32) (v3 : Int32) (v4 : Int32) (v5 : Int32) (v6 : Int32) : Option (kp_K) :=
  p_ck (0 : Int32) 6 <|
  p_lt (s_l κ 10 (0 : Int32).toNatClampNeg v1.toInt64) fun k7 =>
  p_ck (1 : Int32) 6 <|
  p_lt (s_l k7 10 (1 : Int32).toNatClampNeg v2.toInt64) fun k15 =>
  p_ck (2 : Int32) 6 <|
  p_lt (s_l k15 10 (2 : Int32).toNatClampNeg v3.toInt64) fun k23 =>
  p_ck (3 : Int32) 6 <|
  p_lt (s_l k23 10 (3 : Int32).toNatClampNeg v4.toInt64) fun k32 =>
  p_ck (4 : Int32) 6 <|
  p_lt (s_l k32 10 (4 : Int32).toNatClampNeg v5.toInt64) fun k41 =>
  p_ck (5 : Int32) 6 <|
  p_lt (s_l k41 10 (5 : Int32).toNatClampNeg v6.toInt64) fun k50 =>
  p_lt (s_i k50 9 1 (0 : Int32)) fun k53 =>
  some k53
def bX1_law_83 (hb : Nat) (hu : hd_T) (κ : kp_K) (v2 : Int32) (v3 : Int32) (v4 : Int32) (v5 : Int32) (o6 : Option Nat) (s0 : Int32) : Option (Int64 × kp_K) :=
  if o6 = none then
    (some ((-9223372036854775808 : Int64), κ))
  else
  if s0 = 0 then
    (some ((-9223372036854775808 : Int64), κ))
  else
  p_cl (pX3_lay κ v2 v3 v4 v5 (0 : Int32) (0 : Int32)) fun k111 =>
  p_so o6 fun a120 =>
  p_cl (jn_val hu a120 k111) fun q120 => p_lt q120.1 fun t120 => p_lt q120.2 fun k120 =>
  if (k120.1 9 1) = 0 then
    (some (t120, k120))
  else
  some ((-9223372036854775808 : Int64), k120)
def bX1_law_82 (hb : Nat) (hu : hd_T) (κ : kp_K) (v2 : Int32) (v3 : Int32) (v4 : Int32) (v5 : Int32) (o6 : Option Nat) : Option (Int64 × kp_K) :=
  bX1_law_83 hb hu κ v2 v3 v4 v5 o6 (0 : Int32)
def bX1_law_30 (hb : Nat) (hu : hd_T) (κ : kp_K) (v2 : Int32) (v3 : Int32) (v4 : Int32) (v5 : Int32) (s0 : Option Nat) : Option (Int64 × kp_K) :=
  p_cl (pX1_isIn v2 (0 : Int32) (999 : Int32)) fun t37 =>
  if t37 = 0 then
    (bX1_law_82 hb hu κ v2 v3 v4 v5 s0)
  else
  p_cl (pX1_isIn v3 (0 : Int32) (999 : Int32)) fun t48 =>
  if t48 = 0 then
    (bX1_law_82 hb hu κ v2 v3 v4 v5 s0)
  else
  p_cl (pX1_isIn v4 (0 : Int32) (999 : Int32)) fun t60 =>
  if t60 = 0 then
    (bX1_law_82 hb hu κ v2 v3 v4 v5 s0)
  else
  p_cl (pX1_isIn v5 (0 : Int32) (999 : Int32)) fun t72 =>
  if t72 = 0 then
    (bX1_law_82 hb hu κ v2 v3 v4 v5 s0)
  else
  bX1_law_83 hb hu κ v2 v3 v4 v5 s0 (1 : Int32)
def pX1_law (hb : Nat) (hu : hd_T) (κ : kp_K) (v1 : Int32) (v2 : Int32) (v3 : Int32) (v4 : Int32) (v5 : Int32) : Option (Int64 × kp_K) :=
  if v1 = 0 then
    (p_hs (κ.2.2 0 4) hb <|
    bX1_law_30 hb hu κ v2 v3 v4 v5 (hu.2.2.1 6))
  else
  if v1 = (1 : Int32) then
    (p_hs (κ.2.2 0 4) hb <|
    bX1_law_30 hb hu κ v2 v3 v4 v5 (hu.2.2.1 7))
  else
  bX1_law_30 hb hu κ v2 v3 v4 v5 none
def pX1_desks (hb : Nat) (hu : hd_T) (κ : kp_K) : Option (Int32) :=
  p_hs (κ.2.2 0 4) hb <|
  some (Int32.ofNat (hu.2.1 0))
def pX1_isDesk (hb : Nat) (hu : hd_T) (κ : kp_K) (v1 : Int32) : Option (Int32) :=
  p_cl (pX1_desks hb hu κ) fun t3 =>
  p_cl (pX1_isIn v1 (0 : Int32) (t3 - (1 : Int32))) fun t8 =>
  p_cz t8 <|
  some t8
def pX1_line (hb : Nat) (hu : hd_T) (κ : kp_K) (v1 : Int32) (v2 : Int32) (v3 : Int32) : Option (Int32) :=
  p_cl (pX1_isDesk hb hu κ v1) fun t2 =>
  if t2 = 0 then
    (some (-1 : Int32))
  else
  if v2 < 0 then
    (some (-1 : Int32))
  else
  p_cl (pX1_isIn v3 (0 : Int32) (2 : Int32)) fun t15 =>
  if t15 = 0 then
    (some (-1 : Int32))
  else
  p_ck v1 4 <|
  if v2 < (κ.1 14 v1.toNatClampNeg) then
    (p_lt (((7 : Int32) * v1) + v2) fun t45 =>
    if v3 = 0 then
      (p_ck t45 28 <|
      some (κ.1 18 t45.toNatClampNeg))
    else
    if v3 = (1 : Int32) then
      (p_ck t45 28 <|
      some (κ.1 19 t45.toNatClampNeg))
    else
    p_ck t45 28 <|
    some (κ.1 20 t45.toNatClampNeg))
  else
  some (-2 : Int32)
def pX5_goes (r : Nat) (κ : kp_K) (v1 : Int32) (v2 : Int32) (v3 : Int32) : Option (kp_K) :=
  p_ck (κ.1 (13 + 14 * r) 16) 900 <|
  p_lt (s_i κ (26 + 14 * r) (κ.1 (13 + 14 * r) 16).toNatClampNeg (((((((κ.1 (13 + 14 * r) 1) * (8 : Int32)) + v1) * (8 : Int32)) + v2) * (4 : Int32)) + v3)) fun k26 =>
  p_lt (s_i k26 (13 + 14 * r) 16 ((k26.1 (13 + 14 * r) 16) + (1 : Int32))) fun k34 =>
  some k34
def bX5_strike_7 (F : Nat) (r : Nat) : Nat → kp_K → Int32 → Int32 → Option (kp_K)
  | 0, _, _, _ => none
  | n + 1, κ, v1, v3 =>
    p_ck v1 4 <|
    if ((((7 : Int32) * v1) + (κ.1 (14 + 14 * r) v1.toNatClampNeg)) - (1 : Int32)) ≤ v3 then
      (p_ck v1 4 <|
      p_ck v1 4 <|
      p_lt (s_i κ (14 + 14 * r) v1.toNatClampNeg ((κ.1 (14 + 14 * r) v1.toNatClampNeg) - (1 : Int32))) fun k81 =>
      some k81)
    else
    p_lt (v3 + (1 : Int32)) fun i36 =>
    p_ck i36 28 <|
    p_ck v3 28 <|
    p_lt (s_i κ (18 + 14 * r) v3.toNatClampNeg (κ.1 (18 + 14 * r) i36.toNatClampNeg)) fun k37 =>
    p_lt (v3 + (1 : Int32)) fun i50 =>
    p_ck i50 28 <|
    p_ck v3 28 <|
    p_lt (s_i k37 (19 + 14 * r) v3.toNatClampNeg (k37.1 (19 + 14 * r) i50.toNatClampNeg)) fun k51 =>
    p_lt (v3 + (1 : Int32)) fun i64 =>
    p_ck i64 28 <|
    p_ck v3 28 <|
    p_lt (s_i k51 (20 + 14 * r) v3.toNatClampNeg (k51.1 (20 + 14 * r) i64.toNatClampNeg)) fun k65 =>
    bX5_strike_7 F r n k65 v1 (v3 + (1 : Int32))
def pX5_strike (F : Nat) (r : Nat) (κ : kp_K) (v1 : Int32) (v2 : Int32) : Option (kp_K) :=
  p_lt (((7 : Int32) * v1) + v2) fun t6 =>
  bX5_strike_7 F r F κ v1 t6
def bX5_dawn_22 (F : Nat) (hb : Nat) (hu : hd_T) (r : Nat) (k2 : kp_K → Int32 → Option (kp_K)) : Nat → kp_K → Int32 → Int32 → Option (kp_K)
  | 0, _, _, _ => none
  | n + 1, κ, v1, v2 =>
    p_ck v1 4 <|
    if (κ.1 (14 + 14 * r) v1.toNatClampNeg) ≤ v2 then
      (k2 κ (v1 + (1 : Int32)))
    else
    p_lt (((7 : Int32) * v1) + v2) fun i42 =>
    p_ck i42 28 <|
    if (κ.1 (19 + 14 * r) i42.toNatClampNeg) < (κ.1 (13 + 14 * r) 1) then
      (p_lt (((7 : Int32) * v1) + v2) fun i68 =>
      p_ck i68 28 <|
      p_cl (pX5_goes r κ v1 (κ.1 (18 + 14 * r) i68.toNatClampNeg) (0 : Int32)) fun k70 =>
      p_cl (pX5_strike F r k70 v1 v2) fun k76 =>
      bX5_dawn_22 F hb hu r k2 n k76 v1 v2)
    else
    bX5_dawn_22 F hb hu r k2 n κ v1 (v2 + (1 : Int32))
def bX5_dawn_2 (F : Nat) (hb : Nat) (hu : hd_T) (r : Nat) : Nat → kp_K → Int32 → Option (kp_K)
  | 0, _, _ => none
  | n + 1, κ, v1 =>
    p_cl (pX1_desks hb hu κ) fun t7 =>
    if t7 ≤ v1 then
      (some κ)
    else
    p_ck v1 4 <|
    p_lt (s_i κ (17 + 14 * r) v1.toNatClampNeg (0 : Int32)) fun k19 =>
    bX5_dawn_22 F hb hu r (bX5_dawn_2 F hb hu r n) F k19 v1 (0 : Int32)
def pX5_dawn (F : Nat) (hb : Nat) (hu : hd_T) (r : Nat) (κ : kp_K) : Option (kp_K) :=
  bX5_dawn_2 F hb hu r F κ (0 : Int32)
def bX5_lineOf_2 (F : Nat) (r : Nat) : Nat → kp_K → Int32 → Int32 → Int32 → Option (Int32)
  | 0, _, _, _, _ => none
  | n + 1, κ, v1, v2, v3 =>
    p_ck v1 4 <|
    if (κ.1 (14 + 14 * r) v1.toNatClampNeg) ≤ v3 then
      (some (-1 : Int32))
    else
    p_lt (((7 : Int32) * v1) + v3) fun i22 =>
    p_ck i22 28 <|
    if (κ.1 (18 + 14 * r) i22.toNatClampNeg) = v2 then
      (some v3)
    else
    bX5_lineOf_2 F r n κ v1 v2 (v3 + (1 : Int32))
def pX5_lineOf (F : Nat) (r : Nat) (κ : kp_K) (v1 : Int32) (v2 : Int32) : Option (Int32) :=
  bX5_lineOf_2 F r F κ v1 v2 (0 : Int32)
def pX5_lines (hb : Nat) (hu : hd_T) (r : Nat) (κ : kp_K) (v1 : Int32) : Option (Int32) :=
  p_hs (κ.2.2 0 4) hb <|
  p_ck v1 (hu.2.1 0) <|
  p_ch (κ.2.2 (13 + 14 * r) 0) fun a21 =>
  if (κ.1 a21 3) = 0 then
    (some ((hu.1 1 v1.toNatClampNeg) + (0 : Int32)))
  else
  some ((hu.1 1 v1.toNatClampNeg) + (1 : Int32))
def pX5_add (r : Nat) (κ : kp_K) (v1 : Int32) (v2 : Int32) (v3 : Int32) : Option (kp_K) :=
  p_ck v1 4 <|
  p_lt (((7 : Int32) * v1) + (κ.1 (14 + 14 * r) v1.toNatClampNeg)) fun t11 =>
  p_ck t11 28 <|
  p_lt (s_i κ (18 + 14 * r) t11.toNatClampNeg v2) fun k20 =>
  p_ck t11 28 <|
  p_lt (s_i k20 (19 + 14 * r) t11.toNatClampNeg v3) fun k28 =>
  p_ck t11 28 <|
  p_lt (s_i k28 (20 + 14 * r) t11.toNatClampNeg (k28.1 (13 + 14 * r) 1)) fun k39 =>
  p_ck v1 4 <|
  p_ck v1 4 <|
  p_lt (s_i k39 (14 + 14 * r) v1.toNatClampNeg ((k39.1 (14 + 14 * r) v1.toNatClampNeg) + (1 : Int32))) fun k49 =>
  some k49
def pX1_worth (hb : Nat) (hu : hd_T) (κ : kp_K) (v1 : Int32) : Option (Int32) :=
  p_hs (κ.2.2 0 4) hb <|
  p_ck v1 (hu.2.1 1) <|
  some (hu.1 11 v1.toNatClampNeg)
def bX5_held_4 (F : Nat) (r : Nat) : Nat → kp_K → Int32 → Int32 → Int32 → Option (Int32)
  | 0, _, _, _, _ => none
  | n + 1, κ, v1, v2, v3 =>
    p_ck v1 4 <|
    if (κ.1 (14 + 14 * r) v1.toNatClampNeg) ≤ v3 then
      (some v2)
    else
    p_lt (((7 : Int32) * v1) + v3) fun i26 =>
    p_ck i26 28 <|
    p_lt (v2 ||| ((1 : Int32) <<< ((κ.1 (18 + 14 * r) i26.toNatClampNeg) &&& 31))) fun t29 =>
    bX5_held_4 F r n κ v1 t29 (v3 + (1 : Int32))
def pX5_held (F : Nat) (r : Nat) (κ : kp_K) (v1 : Int32) : Option (Int32) :=
  bX5_held_4 F r F κ v1 (0 : Int32) (0 : Int32)
def pX1_isOf (v0 : Int32) (v1 : Int32) : Option (Int32) :=
  if ((v0 >>> (v1 &&& 31)) &&& (1 : Int32)) = (1 : Int32) then
    (some (1 : Int32))
  else
  some (0 : Int32)
def bX5_others_58 (F : Nat) (hb : Nat) (hu : hd_T) (r : Nat) (k5 : kp_K → Int32 → Int32 → Int32 → Int32 → Option (Int32)) (κ : kp_K) (v1 : Int32) (v2 : Int32) (v4 : Int32) (s0 : Int32) : Option (Int32) :=
  p_lt (s0 + (0 : Int32)) fun t60 =>
  k5 κ v1 v2 t60 (v4 + (1 : Int32))
def bX5_others_47 (F : Nat) (hb : Nat) (hu : hd_T) (r : Nat) (k5 : kp_K → Int32 → Int32 → Int32 → Int32 → Option (Int32)) (κ : kp_K) (v1 : Int32) (v2 : Int32) (v4 : Int32) (s0 : Int32) (s1 : Int32) : Option (Int32) :=
  p_cl (pX1_isOf s0 v2) fun t48 =>
  if t48 = 0 then
    (bX5_others_58 F hb hu r k5 κ v1 v2 v4 s1)
  else
  p_lt (s1 + (1 : Int32)) fun t60 =>
  k5 κ v1 v2 t60 (v4 + (1 : Int32))
def bX5_others_5 (F : Nat) (hb : Nat) (hu : hd_T) (r : Nat) : Nat → kp_K → Int32 → Int32 → Int32 → Int32 → Option (Int32)
  | 0, _, _, _, _, _ => none
  | n + 1, κ, v1, v2, v3, v4 =>
    p_cl (pX1_desks hb hu κ) fun t11 =>
    if t11 ≤ v4 then
      (some v3)
    else
    if v4 = v1 then
      (bX5_others_58 F hb hu r (bX5_others_5 F hb hu r n) κ v1 v2 v4 v3)
    else
    if (κ.1 (13 + 14 * r) 13) = 0 then
      (p_cl (pX5_held F r κ v4) fun t44 =>
      bX5_others_47 F hb hu r (bX5_others_5 F hb hu r n) κ v1 v2 v4 t44 v3)
    else
    p_ck v4 4 <|
    bX5_others_47 F hb hu r (bX5_others_5 F hb hu r n) κ v1 v2 v4 (κ.1 (21 + 14 * r) v4.toNatClampNeg) v3
def pX5_others (F : Nat) (hb : Nat) (hu : hd_T) (r : Nat) (κ : kp_K) (v1 : Int32) (v2 : Int32) : Option (Int32) :=
  bX5_others_5 F hb hu r F κ v1 v2 (0 : Int32) (0 : Int32)
def bX5_asked_78 (F : Nat) (hb : Nat) (hu : hd_T) (r : Nat) (k5 : kp_K → Int32 → Int32 → Int32 → Int32 → Option (Int32)) (κ : kp_K) (v1 : Int32) (v2 : Int32) (v4 : Int32) (s0 : Int32) : Option (Int32) :=
  p_lt (s0 + (0 : Int32)) fun t80 =>
  k5 κ v1 v2 t80 (v4 + (1 : Int32))
def bX5_asked_5 (F : Nat) (hb : Nat) (hu : hd_T) (r : Nat) : Nat → kp_K → Int32 → Int32 → Int32 → Int32 → Option (Int32)
  | 0, _, _, _, _, _ => none
  | n + 1, κ, v1, v2, v3, v4 =>
    p_hs (κ.2.2 0 4) hb <|
    if (Int32.ofNat (hu.2.1 3)) ≤ v4 then
      (some v3)
    else
    p_hs (κ.2.2 0 4) hb <|
    p_ck v4 (hu.2.1 3) <|
    if (hu.1 30 v4.toNatClampNeg) < (κ.1 (13 + 14 * r) 1) then
      (bX5_asked_78 F hb hu r (bX5_asked_5 F hb hu r n) κ v1 v2 v4 v3)
    else
    if (hu.1 31 v4.toNatClampNeg) = v1 then
      (if (hu.1 32 v4.toNatClampNeg) = v2 then
        (p_lt (v3 + (1 : Int32)) fun t80 =>
        bX5_asked_5 F hb hu r n κ v1 v2 t80 (v4 + (1 : Int32)))
      else
      bX5_asked_78 F hb hu r (bX5_asked_5 F hb hu r n) κ v1 v2 v4 v3)
    else
    bX5_asked_78 F hb hu r (bX5_asked_5 F hb hu r n) κ v1 v2 v4 v3
def pX5_asked (F : Nat) (hb : Nat) (hu : hd_T) (r : Nat) (κ : kp_K) (v1 : Int32) (v2 : Int32) : Option (Int32) :=
  bX5_asked_5 F hb hu r F κ v1 v2 (0 : Int32) (0 : Int32)
def pX5_layNames (F : Nat) (hb : Nat) (hu : hd_T) (r : Nat) (κ : kp_K) (v1 : Int32) (v2 : Int32) (v3 : Int32) (v4 : Int32) (v5 : Int32) : Option (kp_K) :=
  p_cl (pX1_worth hb hu κ v2) fun t15 =>
  p_cl (pX5_others F hb hu r κ v1 v2) fun t21 =>
  p_cl (pX5_asked F hb hu r κ v1 v2) fun t27 =>
  p_cl (pX3_lay κ v3 v4 t15 t21 t27 v5) fun k32 =>
  some k32
def pX1_value (hb : Nat) (hu : hd_T) (κ : kp_K) (o1 : Option Nat) (v2 : Int64) : Option (Int64 × kp_K) :=
  if o1 = none then
    (some (v2, κ))
  else
  p_so o1 fun a11 =>
  p_cl (jn_val hu a11 κ) fun q11 => p_lt q11.1 fun t11 => p_lt q11.2 fun k11 =>
  if (k11.1 9 1) = 0 then
    (some (t11, k11))
  else
  some ((0 : Int64), k11)
def pX5_keepOf (F : Nat) (hb : Nat) (hu : hd_T) (r : Nat) (κ : kp_K) (v1 : Int32) (v2 : Int32) (v3 : Int32) (v4 : Int32) (v5 : Int32) : Option (Int64 × kp_K) :=
  p_cl (pX5_layNames F hb hu r κ v1 v2 v3 v4 v5) fun k8 =>
  p_ch (k8.2.2 (13 + 14 * r) 0) fun a16 =>
  p_cl (pX1_value hb hu k8 (k8.2.2 a16 0) v4.toInt64) fun q25 => p_lt q25.1 fun t25 => p_lt q25.2 fun k25 =>
  some (t25, k25)
def bX5_worst_107 (F : Nat) (hb : Nat) (hu : hd_T) (r : Nat) (k26 : kp_K → Int32 → Int32 → Int32 → Int32 → Int64 → Int32 → Option (Int32 × kp_K)) (κ : kp_K) (v1 : Int32) (v2 : Int32) (v3 : Int32) (v7 : Int32) (v9 : Int64) : Option (Int32 × kp_K) :=
  k26 κ v1 v2 v3 v7 v9 (v7 + (1 : Int32))
def bX5_worst_26 (F : Nat) (hb : Nat) (hu : hd_T) (r : Nat) : Nat → kp_K → Int32 → Int32 → Int32 → Int32 → Int64 → Int32 → Option (Int32 × kp_K)
  | 0, _, _, _, _, _, _, _ => none
  | n + 1, κ, v1, v2, v3, v4, v5, v7 =>
    p_ck v1 4 <|
    if (κ.1 (14 + 14 * r) v1.toNatClampNeg) ≤ v7 then
      (p_cl (pX5_keepOf F hb hu r κ v1 v2 (0 : Int32) (v3 - (κ.1 (13 + 14 * r) 1)) (1 : Int32)) fun q132 => p_lt q132.1 fun t132 => p_lt q132.2 fun k132 =>
      if 0 ≤ (lg_cmp t132 v5) then
        (some (v4, k132))
      else
      p_ck v1 4 <|
      some ((k132.1 (14 + 14 * r) v1.toNatClampNeg), k132))
    else
    p_lt (((7 : Int32) * v1) + v7) fun t44 =>
    p_ck t44 28 <|
    p_ck t44 28 <|
    p_ck t44 28 <|
    p_cl (pX5_keepOf F hb hu r κ v1 (κ.1 (18 + 14 * r) t44.toNatClampNeg) ((κ.1 (13 + 14 * r) 1) - (κ.1 (20 + 14 * r) t44.toNatClampNeg)) ((κ.1 (19 + 14 * r) t44.toNatClampNeg) - (κ.1 (13 + 14 * r) 1)) (0 : Int32)) fun q80 => p_lt q80.1 fun t80 => p_lt q80.2 fun k80 =>
    p_ck v1 4 <|
    if (k80.1 (14 + 14 * r) v1.toNatClampNeg) ≤ v4 then
      (bX5_worst_107 F hb hu r (bX5_worst_26 F hb hu r n) k80 v1 v2 v3 v7 t80)
    else
    if (lg_cmp t80 v5) < 0 then
      (bX5_worst_107 F hb hu r (bX5_worst_26 F hb hu r n) k80 v1 v2 v3 v7 t80)
    else
    bX5_worst_26 F hb hu r n k80 v1 v2 v3 v4 v5 (v7 + (1 : Int32))
def pX5_worst (F : Nat) (hb : Nat) (hu : hd_T) (r : Nat) (κ : kp_K) (v1 : Int32) (v2 : Int32) (v3 : Int32) : Option (Int32 × kp_K) :=
  p_ch (κ.2.2 (13 + 14 * r) 0) fun a1 =>
  if (κ.1 a1 4) = 0 then
    (p_ck v1 4 <|
    p_lt (κ.1 (14 + 14 * r) v1.toNatClampNeg) fun t18 =>
    bX5_worst_26 F hb hu r F κ v1 v2 v3 t18 (0 : Int64) (0 : Int32))
  else
  some ((0 : Int32), κ)
def bX5_comes_90 (F : Nat) (hb : Nat) (hu : hd_T) (r : Nat) (κ : kp_K) (v1 : Int32) (v2 : Int32) (v3 : Int32) (s0 : Int32) : Option (kp_K) :=
  p_ck v1 4 <|
  if s0 = (κ.1 (14 + 14 * r) v1.toNatClampNeg) then
    (p_cl (pX5_goes r κ v1 v2 (2 : Int32)) fun k107 =>
    some k107)
  else
  p_lt (((7 : Int32) * v1) + s0) fun i124 =>
  p_ck i124 28 <|
  p_cl (pX5_goes r κ v1 (κ.1 (18 + 14 * r) i124.toNatClampNeg) (1 : Int32)) fun k126 =>
  p_ck v1 4 <|
  p_lt (s_i k126 (17 + 14 * r) v1.toNatClampNeg (1 : Int32)) fun k135 =>
  p_cl (pX5_strike F r k135 v1 s0) fun k140 =>
  p_cl (pX5_add r k140 v1 v2 v3) fun k147 =>
  some k147
def pX5_comes (F : Nat) (hb : Nat) (hu : hd_T) (r : Nat) (κ : kp_K) (v1 : Int32) (v2 : Int32) (v3 : Int32) : Option (kp_K) :=
  p_cl (pX5_lineOf F r κ v1 v2) fun t3 =>
  if t3 < 0 then
    (p_ck v1 4 <|
    p_cl (pX5_lines hb hu r κ v1) fun t51 =>
    if t51 ≤ (κ.1 (14 + 14 * r) v1.toNatClampNeg) then
      (p_ck v1 4 <|
      if (κ.1 (17 + 14 * r) v1.toNatClampNeg) = 0 then
        (p_cl (pX5_worst F hb hu r κ v1 v2 v3) fun q87 => p_lt q87.1 fun t87 => p_lt q87.2 fun k87 =>
        bX5_comes_90 F hb hu r k87 v1 v2 v3 t87)
      else
      p_ck v1 4 <|
      bX5_comes_90 F hb hu r κ v1 v2 v3 (κ.1 (14 + 14 * r) v1.toNatClampNeg))
    else
    p_cl (pX5_add r κ v1 v2 v3) fun k61 =>
    some k61)
  else
  p_ck (((7 : Int32) * v1) + t3) 28 <|
  p_lt (s_i κ (19 + 14 * r) (((7 : Int32) * v1) + t3).toNatClampNeg v3) fun k25 =>
  p_ck (((7 : Int32) * v1) + t3) 28 <|
  p_lt (s_i k25 (20 + 14 * r) (((7 : Int32) * v1) + t3).toNatClampNeg (k25.1 (13 + 14 * r) 1)) fun k41 =>
  some k41
def bX5_morning_2 (F : Nat) (hb : Nat) (hu : hd_T) (r : Nat) : Nat → kp_K → Int32 → Option (kp_K)
  | 0, _, _ => none
  | n + 1, κ, v1 =>
    p_hs (κ.2.2 0 4) hb <|
    if (Int32.ofNat (hu.2.1 2)) ≤ v1 then
      (some κ)
    else
    p_hs (κ.2.2 0 4) hb <|
    p_ck v1 (hu.2.1 2) <|
    if (hu.1 20 v1.toNatClampNeg) = (κ.1 (13 + 14 * r) 1) then
      (p_ch (κ.2.2 (13 + 14 * r) 0) fun a50 =>
      if v1 = (κ.1 a50 6) then
        (bX5_morning_2 F hb hu r n κ (v1 + (1 : Int32)))
      else
      p_cl (pX5_comes F hb hu r κ (hu.1 21 v1.toNatClampNeg) (hu.1 22 v1.toNatClampNeg) (hu.1 23 v1.toNatClampNeg)) fun k72 =>
      bX5_morning_2 F hb hu r n k72 (v1 + (1 : Int32)))
    else
    bX5_morning_2 F hb hu r n κ (v1 + (1 : Int32))
def pX5_morning (F : Nat) (hb : Nat) (hu : hd_T) (r : Nat) (κ : kp_K) : Option (kp_K) :=
  bX5_morning_2 F hb hu r F κ (0 : Int32)
def bX5_layThen_2 (F : Nat) (hb : Nat) (hu : hd_T) (r : Nat) : Nat → kp_K → Int32 → Option (kp_K)
  | 0, _, _ => none
  | n + 1, κ, v1 =>
    p_cl (pX1_desks hb hu κ) fun t7 =>
    if t7 ≤ v1 then
      (p_lt (s_c κ (18 + 14 * r) (23 + 14 * r) (0 : Int32).toNatClampNeg (0 : Int32).toNatClampNeg (28 : Int32).toNatClampNeg) fun k54 =>
      p_lt (s_c k54 (19 + 14 * r) (24 + 14 * r) (0 : Int32).toNatClampNeg (0 : Int32).toNatClampNeg (28 : Int32).toNatClampNeg) fun k69 =>
      some k69)
    else
    p_cl (pX5_held F r κ v1) fun t20 =>
    p_ck v1 4 <|
    p_lt (s_i κ (21 + 14 * r) v1.toNatClampNeg t20) fun k23 =>
    p_ck v1 4 <|
    p_ck v1 4 <|
    p_lt (s_i k23 (22 + 14 * r) v1.toNatClampNeg (k23.1 (14 + 14 * r) v1.toNatClampNeg)) fun k35 =>
    bX5_layThen_2 F hb hu r n k35 (v1 + (1 : Int32))
def pX5_layThen (F : Nat) (hb : Nat) (hu : hd_T) (r : Nat) (κ : kp_K) : Option (kp_K) :=
  bX5_layThen_2 F hb hu r F κ (0 : Int32)
def pX5_asks (hb : Nat) (hu : hd_T) (r : Nat) (κ : kp_K) (v1 : Int32) : Option (Int32) :=
  p_ch (κ.2.2 (13 + 14 * r) 0) fun a1 =>
  if (κ.1 a1 1) = 0 then
    (p_ch (κ.2.2 (13 + 14 * r) 0) fun a11 =>
    if (κ.1 a11 5) = v1 then
      (some (-1 : Int32))
    else
    p_hs (κ.2.2 0 4) hb <|
    p_ck v1 (hu.2.1 0) <|
    some (hu.1 2 v1.toNatClampNeg))
  else
  some (-1 : Int32)
def bX5_asksAt_11 (F : Nat) (hb : Nat) (hu : hd_T) (r : Nat) : Nat → kp_K → Int32 → Int32 → Int32 → Int64 → Int32 → Option (kp_K)
  | 0, _, _, _, _, _, _ => none
  | n + 1, κ, v1, v2, v3, v4, v6 =>
    p_ck v2 4 <|
    if (((7 : Int32) * v2) + (κ.1 (22 + 14 * r) v2.toNatClampNeg)) ≤ v6 then
      (if v3 < 0 then
        (some κ)
      else
      p_ck v3 28 <|
      p_ck v3 28 <|
      p_cl (pX5_comes F hb hu r κ v1 (κ.1 (23 + 14 * r) v3.toNatClampNeg) (κ.1 (24 + 14 * r) v3.toNatClampNeg)) fun k145 =>
      some k145)
    else
    p_ck v6 28 <|
    p_lt (κ.1 (23 + 14 * r) v6.toNatClampNeg) fun t34 =>
    p_ck v1 4 <|
    p_cl (pX1_isOf (κ.1 (21 + 14 * r) v1.toNatClampNeg) t34) fun t44 =>
    if t44 = 0 then
      (p_ck v6 28 <|
      p_cl (pX5_layNames F hb hu r κ v1 t34 (0 : Int32) ((κ.1 (24 + 14 * r) v6.toNatClampNeg) - (κ.1 (13 + 14 * r) 1)) (1 : Int32)) fun k71 =>
      p_hs (k71.2.2 0 4) hb <|
      p_cl (pX1_worth hb hu k71 t34) fun t94 =>
      p_cl (pX1_value hb hu k71 (hu.2.2.1 7) t94.toInt64) fun q98 => p_lt q98.1 fun t98 => p_lt q98.2 fun k98 =>
      if 0 < (lg_cmp t98 v4) then
        (bX5_asksAt_11 F hb hu r n k98 v1 v2 v6 t98 (v6 + (1 : Int32)))
      else
      bX5_asksAt_11 F hb hu r n k98 v1 v2 v3 v4 (v6 + (1 : Int32)))
    else
    bX5_asksAt_11 F hb hu r n κ v1 v2 v3 v4 (v6 + (1 : Int32))
def pX5_asksAt (F : Nat) (hb : Nat) (hu : hd_T) (r : Nat) (κ : kp_K) (v1 : Int32) (v2 : Int32) : Option (kp_K) :=
  p_lt ((7 : Int32) * v2) fun t9 =>
  bX5_asksAt_11 F hb hu r F κ v1 v2 (-1 : Int32) (0 : Int64) t9
def bX5_noon_11 (F : Nat) (hb : Nat) (hu : hd_T) (r : Nat) : Nat → kp_K → Int32 → Option (kp_K)
  | 0, _, _ => none
  | n + 1, κ, v1 =>
    p_cl (pX1_desks hb hu κ) fun t16 =>
    if t16 ≤ v1 then
      (p_lt (s_i κ (13 + 14 * r) 13 (0 : Int32)) fun k48 =>
      some k48)
    else
    p_cl (pX5_asks hb hu r κ v1) fun t24 =>
    if t24 < 0 then
      (bX5_noon_11 F hb hu r n κ (v1 + (1 : Int32)))
    else
    p_cl (pX5_asks hb hu r κ v1) fun t34 =>
    p_cl (pX5_asksAt F hb hu r κ v1 t34) fun k37 =>
    bX5_noon_11 F hb hu r n k37 (v1 + (1 : Int32))
def pX5_noon (F : Nat) (hb : Nat) (hu : hd_T) (r : Nat) (κ : kp_K) : Option (kp_K) :=
  p_cl (pX5_layThen F hb hu r κ) fun k1 =>
  p_lt (s_i k1 (13 + 14 * r) 13 (1 : Int32)) fun k6 =>
  bX5_noon_11 F hb hu r F k6 (0 : Int32)
def bX5_three_120 (F : Nat) (hb : Nat) (hu : hd_T) (r : Nat) (k2 : kp_K → Int32 → Option (kp_K)) : Nat → kp_K → Int32 → Int32 → Option (kp_K)
  | 0, _, _, _ => none
  | n + 1, κ, v1, v3 =>
    p_ck v1 4 <|
    if (κ.1 (14 + 14 * r) v1.toNatClampNeg) ≤ v3 then
      (p_ck v1 4 <|
      p_lt (s_i κ (14 + 14 * r) v1.toNatClampNeg (0 : Int32)) fun k159 =>
      k2 k159 (v1 + (1 : Int32)))
    else
    p_lt (((7 : Int32) * v1) + v3) fun i142 =>
    p_ck i142 28 <|
    p_cl (pX5_goes r κ v1 (κ.1 (18 + 14 * r) i142.toNatClampNeg) (3 : Int32)) fun k144 =>
    bX5_three_120 F hb hu r k2 n k144 v1 (v3 + (1 : Int32))
def bX5_three_17 (F : Nat) (hb : Nat) (hu : hd_T) (r : Nat) (k2 : kp_K → Int32 → Option (kp_K)) : Nat → kp_K → Int32 → Int32 → Int32 → Option (kp_K)
  | 0, _, _, _, _ => none
  | n + 1, κ, v1, v2, v3 =>
    p_hs (κ.2.2 0 4) hb <|
    if (Int32.ofNat (hu.2.1 4)) ≤ v3 then
      (if v2 = 0 then
        (k2 κ (v1 + (1 : Int32)))
      else
      bX5_three_120 F hb hu r k2 F κ v1 (0 : Int32))
    else
    if v2 = 0 then
      (p_hs (κ.2.2 0 4) hb <|
      p_ck v3 (hu.2.1 4) <|
      if (hu.1 40 v3.toNatClampNeg) = (κ.1 (13 + 14 * r) 1) then
        (p_hs (κ.2.2 0 4) hb <|
        if (hu.1 41 v3.toNatClampNeg) = v1 then
          (p_ch (κ.2.2 (13 + 14 * r) 0) fun a90 =>
          if (κ.1 a90 2) = 0 then
            (bX5_three_17 F hb hu r k2 n κ v1 (1 : Int32) (v3 + (1 : Int32)))
          else
          bX5_three_17 F hb hu r k2 n κ v1 (0 : Int32) (v3 + (1 : Int32)))
        else
        bX5_three_17 F hb hu r k2 n κ v1 (0 : Int32) (v3 + (1 : Int32)))
      else
      bX5_three_17 F hb hu r k2 n κ v1 (0 : Int32) (v3 + (1 : Int32)))
    else
    bX5_three_17 F hb hu r k2 n κ v1 (1 : Int32) (v3 + (1 : Int32))
def bX5_three_2 (F : Nat) (hb : Nat) (hu : hd_T) (r : Nat) : Nat → kp_K → Int32 → Option (kp_K)
  | 0, _, _ => none
  | n + 1, κ, v1 =>
    p_cl (pX1_desks hb hu κ) fun t7 =>
    if t7 ≤ v1 then
      (some κ)
    else
    bX5_three_17 F hb hu r (bX5_three_2 F hb hu r n) F κ v1 (0 : Int32) (0 : Int32)
def pX5_three (F : Nat) (hb : Nat) (hu : hd_T) (r : Nat) (κ : kp_K) : Option (kp_K) :=
  bX5_three_2 F hb hu r F κ (0 : Int32)
def bX5_isThere_2 (F : Nat) (hb : Nat) (hu : hd_T) (r : Nat) : Nat → kp_K → Int32 → Int32 → Option (Int32)
  | 0, _, _, _ => none
  | n + 1, κ, v1, v2 =>
    p_hs (κ.2.2 0 4) hb <|
    if (Int32.ofNat (hu.2.1 2)) ≤ v2 then
      (some (0 : Int32))
    else
    p_hs (κ.2.2 0 4) hb <|
    p_ck v2 (hu.2.1 2) <|
    p_ch (κ.2.2 (13 + 14 * r) 0) fun a39 =>
    if v2 = (κ.1 a39 6) then
      (bX5_isThere_2 F hb hu r n κ v1 (v2 + (1 : Int32)))
    else
    if (hu.1 22 v2.toNatClampNeg) = v1 then
      (if (κ.1 (13 + 14 * r) 1) < (hu.1 20 v2.toNatClampNeg) then
        (bX5_isThere_2 F hb hu r n κ v1 (v2 + (1 : Int32)))
      else
      if (hu.1 23 v2.toNatClampNeg) < (κ.1 (13 + 14 * r) 1) then
        (bX5_isThere_2 F hb hu r n κ v1 (v2 + (1 : Int32)))
      else
      some (1 : Int32))
    else
    bX5_isThere_2 F hb hu r n κ v1 (v2 + (1 : Int32))
def pX5_isThere (F : Nat) (hb : Nat) (hu : hd_T) (r : Nat) (κ : kp_K) (v1 : Int32) : Option (Int32) :=
  bX5_isThere_2 F hb hu r F κ v1 (0 : Int32)
def bX5_four_133 (F : Nat) (hb : Nat) (hu : hd_T) (r : Nat) : Nat → kp_K → Int32 → Option (kp_K)
  | 0, _, _ => none
  | n + 1, κ, v1 =>
    p_cl (pX1_desks hb hu κ) fun t138 =>
    if t138 ≤ v1 then
      (some κ)
    else
    p_ck v1 4 <|
    if 0 ≤ (κ.1 (16 + 14 * r) v1.toNatClampNeg) then
      (bX5_four_133 F hb hu r n κ (v1 + (1 : Int32)))
    else
    p_ck v1 4 <|
    if (κ.1 (15 + 14 * r) v1.toNatClampNeg) ≤ 0 then
      (bX5_four_133 F hb hu r n κ (v1 + (1 : Int32)))
    else
    p_ck v1 4 <|
    p_hs (κ.2.2 0 4) hb <|
    if (κ.1 (15 + 14 * r) v1.toNatClampNeg) < (hu.2.2.2.1 8) then
      (bX5_four_133 F hb hu r n κ (v1 + (1 : Int32)))
    else
    p_ck v1 4 <|
    p_lt (s_i κ (16 + 14 * r) v1.toNatClampNeg (κ.1 (13 + 14 * r) 1)) fun k190 =>
    bX5_four_133 F hb hu r n k190 (v1 + (1 : Int32))
def bX5_four_91 (F : Nat) (hb : Nat) (hu : hd_T) (r : Nat) (k2 : kp_K → Int32 → Option (kp_K)) (κ : kp_K) (v1 : Int32) (v2 : Int32) (s0 : Int32) (s1 : Int32) : Option (kp_K) :=
  p_ck s1 16 <|
  p_lt (s_i κ (25 + 14 * r) s1.toNatClampNeg s0) fun k91 =>
  p_ck v1 16 <|
  if (k91.1 (25 + 14 * r) v1.toNatClampNeg) = (2 : Int32) then
    (p_ck v2 (hu.2.1 3) <|
    p_lt (hu.1 31 v2.toNatClampNeg) fun t110 =>
    p_ck t110 4 <|
    p_cl (pX1_worth hb hu k91 (hu.1 32 v2.toNatClampNeg)) fun t120 =>
    p_ck t110 4 <|
    p_lt (s_i k91 (15 + 14 * r) t110.toNatClampNeg ((k91.1 (15 + 14 * r) t110.toNatClampNeg) + t120)) fun k124 =>
    k2 k124 (v1 + (1 : Int32)))
  else
  k2 k91 (v1 + (1 : Int32))
def bX5_four_2 (F : Nat) (hb : Nat) (hu : hd_T) (r : Nat) : Nat → kp_K → Int32 → Option (kp_K)
  | 0, _, _ => none
  | n + 1, κ, v1 =>
    p_hs (κ.2.2 0 4) hb <|
    if (Int32.ofNat (hu.2.1 3)) ≤ v1 then
      (bX5_four_133 F hb hu r F κ (0 : Int32))
    else
    p_hs (κ.2.2 0 4) hb <|
    p_ck v1 (hu.2.1 3) <|
    if (hu.1 30 v1.toNatClampNeg) = (κ.1 (13 + 14 * r) 1) then
      (p_cl (pX5_lineOf F r κ (hu.1 31 v1.toNatClampNeg) (hu.1 32 v1.toNatClampNeg)) fun t65 =>
      if t65 < 0 then
        (p_cl (pX5_isThere F hb hu r κ (hu.1 32 v1.toNatClampNeg)) fun t80 =>
        if t80 = 0 then
          (bX5_four_91 F hb hu r (bX5_four_2 F hb hu r n) κ v1 v1 (0 : Int32) v1)
        else
        bX5_four_91 F hb hu r (bX5_four_2 F hb hu r n) κ v1 v1 (2 : Int32) v1)
      else
      bX5_four_91 F hb hu r (bX5_four_2 F hb hu r n) κ v1 v1 (1 : Int32) v1)
    else
    bX5_four_2 F hb hu r n κ (v1 + (1 : Int32))
def pX5_four (F : Nat) (hb : Nat) (hu : hd_T) (r : Nat) (κ : kp_K) : Option (kp_K) :=
  bX5_four_2 F hb hu r F κ (0 : Int32)
def bX5_to_0 (F : Nat) (hb : Nat) (hu : hd_T) (r : Nat) : Nat → kp_K → Int32 → Option (kp_K)
  | 0, _, _ => none
  | n + 1, κ, v1 =>
    if v1 ≤ (κ.1 (13 + 14 * r) 1) then
      (some κ)
    else
    p_cl (pX5_dawn F hb hu r κ) fun k9 =>
    p_cl (pX5_morning F hb hu r k9) fun k13 =>
    p_cl (pX5_noon F hb hu r k13) fun k17 =>
    p_cl (pX5_three F hb hu r k17) fun k21 =>
    p_cl (pX5_four F hb hu r k21) fun k25 =>
    p_lt (s_i k25 (13 + 14 * r) 1 ((k25.1 (13 + 14 * r) 1) + (1 : Int32))) fun k35 =>
    bX5_to_0 F hb hu r n k35 v1
def pX5_to (F : Nat) (hb : Nat) (hu : hd_T) (r : Nat) (κ : kp_K) (v1 : Int32) : Option (kp_K) :=
  bX5_to_0 F hb hu r F κ v1
def pX1_days (F : Nat) (hb : Nat) (hu : hd_T) (κ : kp_K) (v1 : Int32) : Option (Int32 × kp_K) :=
  p_cl (pX1_isIn v1 (0 : Int32) (61 : Int32)) fun t4 =>
  if t4 = 0 then
    (some ((-1 : Int32), κ))
  else
  if ((κ.1 13 1) + v1) ≤ (61 : Int32) then
    (p_cl (pX5_to F hb hu 0 κ ((κ.1 13 1) + v1)) fun k39 =>
    some ((k39.1 13 1), k39))
  else
  some ((-1 : Int32), κ)
def pX1_went (κ : kp_K) (v1 : Int32) (v2 : Int32) : Option (Int32) :=
  if v1 < (-1 : Int32) then
    (some (-1 : Int32))
  else
  p_cl (pX1_isIn v2 (0 : Int32) (3 : Int32)) fun t8 =>
  if t8 = 0 then
    (some (-1 : Int32))
  else
  if 0 ≤ v1 then
    (if v1 < (κ.1 13 16) then
      (p_ck v1 900 <|
      p_lt (κ.1 26 v1.toNatClampNeg) fun t59 =>
      if v2 = 0 then
        (p_cd (256 : Int32) <|
        some (t59 / (256 : Int32)))
      else
      if v2 = (1 : Int32) then
        (p_cd (32 : Int32) <|
        p_cd (8 : Int32) <|
        some ((t59 / (32 : Int32)) - (t59 / (32 : Int32)) / (8 : Int32) * (8 : Int32)))
      else
      if v2 = (2 : Int32) then
        (p_cd (4 : Int32) <|
        p_cd (8 : Int32) <|
        some ((t59 / (4 : Int32)) - (t59 / (4 : Int32)) / (8 : Int32) * (8 : Int32)))
      else
      p_cd (4 : Int32) <|
      some (t59 - t59 / (4 : Int32) * (4 : Int32)))
    else
    some (-2 : Int32))
  else
  if v2 = 0 then
    (some (κ.1 13 16))
  else
  some (-1 : Int32)
def pX1_answer (hb : Nat) (hu : hd_T) (κ : kp_K) (v1 : Int32) : Option (Int32) :=
  p_hs (κ.2.2 0 4) hb <|
  p_cl (pX1_isIn v1 (0 : Int32) ((Int32.ofNat (hu.2.1 3)) - (1 : Int32))) fun t14 =>
  if t14 = 0 then
    (some (-1 : Int32))
  else
  p_ck v1 16 <|
  some (κ.1 25 v1.toNatClampNeg)
def bX1_addPoint_160 (F : Nat) (hb : Nat) (hu : hd_T) (κ : kp_K) : Option (kp_K) :=
  p_lt (s_i κ 0 11 ((κ.1 0 11) + (1 : Int32))) fun k167 =>
  some k167
def bX1_addPoint_82 (F : Nat) (hb : Nat) (hu : hd_T) (k33 : kp_K → Int32 → Option (kp_K)) (κ : kp_K) (v4 : Int32) (s0 : Int32) (s1 : Int32) : Option (kp_K) :=
  p_ck s1 700 <|
  p_lt (s_i κ 58 s1.toNatClampNeg s0) fun k82 =>
  k33 k82 (v4 + (1 : Int32))
def bX1_addPoint_33 (F : Nat) (hb : Nat) (hu : hd_T) : Nat → kp_K → Int32 → Option (kp_K)
  | 0, _, _ => none
  | n + 1, κ, v4 =>
    if (7 : Int32) ≤ v4 then
      (if (κ.1 0 11) ≤ 0 then
        (bX1_addPoint_160 F hb hu κ)
      else
      p_lt ((κ.1 0 11) - (1 : Int32)) fun i106 =>
      p_ck i106 100 <|
      if (κ.1 55 i106.toNatClampNeg) = (1 : Int32) then
        (p_hs (κ.2.2 0 4) hb <|
        p_lt ((κ.1 0 11) - (1 : Int32)) fun i128 =>
        p_ck i128 100 <|
        p_lt (κ.1 56 i128.toNatClampNeg) fun t129 =>
        p_ck t129 (hu.2.1 2) <|
        p_ck (((7 : Int32) * (κ.1 0 11)) + (hu.1 22 t129.toNatClampNeg)) 700 <|
        p_lt (s_i κ 58 (((7 : Int32) * (κ.1 0 11)) + (hu.1 22 t129.toNatClampNeg)).toNatClampNeg (hu.1 23 t129.toNatClampNeg)) fun k159 =>
        bX1_addPoint_160 F hb hu k159)
      else
      bX1_addPoint_160 F hb hu κ)
    else
    if (κ.1 0 11) = 0 then
      (bX1_addPoint_82 F hb hu (bX1_addPoint_33 F hb hu n) κ v4 (-1 : Int32) (((7 : Int32) * (κ.1 0 11)) + v4))
    else
    p_lt (((7 : Int32) * ((κ.1 0 11) - (1 : Int32))) + v4) fun i81 =>
    p_ck i81 700 <|
    bX1_addPoint_82 F hb hu (bX1_addPoint_33 F hb hu n) κ v4 (κ.1 58 i81.toNatClampNeg) (((7 : Int32) * (κ.1 0 11)) + v4)
def pX1_addPoint (F : Nat) (hb : Nat) (hu : hd_T) (κ : kp_K) (v1 : Int32) (v2 : Int32) (v3 : Int32) : Option (kp_K) :=
  p_ck (κ.1 0 11) 100 <|
  p_lt (s_i κ 55 (κ.1 0 11).toNatClampNeg v1) fun k9 =>
  p_ck (k9.1 0 11) 100 <|
  p_lt (s_i k9 56 (k9.1 0 11).toNatClampNeg v2) fun k19 =>
  p_ck (k19.1 0 11) 100 <|
  p_lt (s_i k19 57 (k19.1 0 11).toNatClampNeg v3) fun k29 =>
  bX1_addPoint_33 F hb hu F k29 (0 : Int32)
def bX1_layPoints_93 (F : Nat) (hb : Nat) (hu : hd_T) (k7 : kp_K → Int32 → Int32 → Option (kp_K)) : Nat → kp_K → Int32 → Int32 → Int32 → Option (kp_K)
  | 0, _, _, _, _ => none
  | n + 1, κ, v1, v2, v3 =>
    p_hs (κ.2.2 0 4) hb <|
    if (Int32.ofNat (hu.2.1 3)) ≤ v3 then
      (k7 κ v1 (v2 + (1 : Int32)))
    else
    p_hs (κ.2.2 0 4) hb <|
    p_ck v3 (hu.2.1 3) <|
    if (hu.1 30 v3.toNatClampNeg) = v2 then
      (p_hs (κ.2.2 0 4) hb <|
      if (hu.1 31 v3.toNatClampNeg) = v1 then
        (p_cl (pX1_addPoint F hb hu κ (2 : Int32) v3 v2) fun k153 =>
        bX1_layPoints_93 F hb hu k7 n k153 v1 v2 (v3 + (1 : Int32)))
      else
      bX1_layPoints_93 F hb hu k7 n κ v1 v2 (v3 + (1 : Int32)))
    else
    bX1_layPoints_93 F hb hu k7 n κ v1 v2 (v3 + (1 : Int32))
def bX1_layPoints_22 (F : Nat) (hb : Nat) (hu : hd_T) (k7 : kp_K → Int32 → Int32 → Option (kp_K)) : Nat → kp_K → Int32 → Int32 → Int32 → Option (kp_K)
  | 0, _, _, _, _ => none
  | n + 1, κ, v1, v2, v3 =>
    p_hs (κ.2.2 0 4) hb <|
    if (Int32.ofNat (hu.2.1 2)) ≤ v3 then
      (bX1_layPoints_93 F hb hu k7 F κ v1 v2 (0 : Int32))
    else
    p_hs (κ.2.2 0 4) hb <|
    p_ck v3 (hu.2.1 2) <|
    if (hu.1 20 v3.toNatClampNeg) = v2 then
      (p_hs (κ.2.2 0 4) hb <|
      if (hu.1 21 v3.toNatClampNeg) = v1 then
        (p_cl (pX1_addPoint F hb hu κ (1 : Int32) v3 v2) fun k82 =>
        bX1_layPoints_22 F hb hu k7 n k82 v1 v2 (v3 + (1 : Int32)))
      else
      bX1_layPoints_22 F hb hu k7 n κ v1 v2 (v3 + (1 : Int32)))
    else
    bX1_layPoints_22 F hb hu k7 n κ v1 v2 (v3 + (1 : Int32))
def bX1_layPoints_7 (F : Nat) (hb : Nat) (hu : hd_T) : Nat → kp_K → Int32 → Int32 → Option (kp_K)
  | 0, _, _, _ => none
  | n + 1, κ, v1, v2 =>
    if (61 : Int32) ≤ v2 then
      (some κ)
    else
    p_cl (pX1_addPoint F hb hu κ (0 : Int32) (0 : Int32) v2) fun k17 =>
    bX1_layPoints_22 F hb hu (bX1_layPoints_7 F hb hu n) F k17 v1 v2 (0 : Int32)
def pX1_layPoints (F : Nat) (hb : Nat) (hu : hd_T) (κ : kp_K) (v1 : Int32) : Option (kp_K) :=
  p_lt (s_i κ 0 11 (0 : Int32)) fun k2 =>
  bX1_layPoints_7 F hb hu F k2 v1 (0 : Int32)
def bX1_layCounts_56 (F : Nat) (hb : Nat) (hu : hd_T) (k2 : kp_K → Int32 → Int32 → Option (kp_K)) (κ : kp_K) (v1 : Int32) (v2 : Int32) (s0 : Int32) (s1 : Int32) (s2 : Int32) : Option (kp_K) :=
  p_ck s2 16 <|
  p_lt (s_i κ 60 s2.toNatClampNeg (s1 * s0)) fun k57 =>
  k2 k57 v1 (v2 + (1 : Int32))
def bX1_layCounts_2 (F : Nat) (hb : Nat) (hu : hd_T) : Nat → kp_K → Int32 → Int32 → Option (kp_K)
  | 0, _, _, _ => none
  | n + 1, κ, v1, v2 =>
    p_hs (κ.2.2 0 4) hb <|
    if (Int32.ofNat (hu.2.1 3)) ≤ v2 then
      (some κ)
    else
    p_hs (κ.2.2 0 4) hb <|
    p_ck v2 (hu.2.1 3) <|
    p_cl (pX1_worth hb hu κ (hu.1 32 v2.toNatClampNeg)) fun t41 =>
    if v1 = 0 then
      (bX1_layCounts_56 F hb hu (bX1_layCounts_2 F hb hu n) κ v1 v2 (1 : Int32) t41 v2)
    else
    bX1_layCounts_56 F hb hu (bX1_layCounts_2 F hb hu n) κ v1 v2 (hu.1 33 v2.toNatClampNeg) t41 v2
def pX1_layCounts (F : Nat) (hb : Nat) (hu : hd_T) (κ : kp_K) (v1 : Int32) : Option (kp_K) :=
  bX1_layCounts_2 F hb hu F κ v1 (0 : Int32)
def pX1_at (v0 : Int32) (v1 : Int32) (v2 : Int32) : Option (Int32) :=
  if v2 = 0 then
    (some ((((v0 * (128 : Int32)) + v1) * (2 : Int32)) + (0 : Int32)))
  else
  some ((((v0 * (128 : Int32)) + v1) * (2 : Int32)) + (1 : Int32))
def pX1_comingFact (hb : Nat) (hu : hd_T) (κ : kp_K) (v1 : Int32) : Option (Int32) :=
  p_hs (κ.2.2 0 4) hb <|
  p_ck v1 100 <|
  p_lt (κ.1 56 v1.toNatClampNeg) fun t13 =>
  p_ck t13 (hu.2.1 2) <|
  some (hu.1 22 t13.toNatClampNeg)
def pX1_isTime (hb : Nat) (hu : hd_T) (κ : kp_K) (v1 : Int32) (v2 : Int32) (v3 : Int32) (v4 : Int32) : Option (Int32) :=
  p_ck v2 100 <|
  if (κ.1 55 v2.toNatClampNeg) = (1 : Int32) then
    (if v4 = 0 then
      (p_cl (pX1_comingFact hb hu κ v2) fun t18 =>
      p_cl (pX1_isOf v3 t18) fun t21 =>
      if t21 = 0 then
        (p_cl (pJ19_bitCount v3) fun t28 =>
        p_hs (κ.2.2 0 4) hb <|
        p_ck v1 (hu.2.1 0) <|
        if t28 < (hu.1 1 v1.toNatClampNeg) then
          (some (0 : Int32))
        else
        some (1 : Int32))
      else
      some (0 : Int32))
    else
    some (0 : Int32))
  else
  some (0 : Int32)
def pX1_behind (hb : Nat) (hu : hd_T) (κ : kp_K) (v1 : Int32) (v2 : Int32) (v3 : Int32) : Option (Int32) :=
  if 0 ≤ v3 then
    (p_cl (pX1_comingFact hb hu κ v1) fun t35 =>
    p_cl (pX1_at (v1 + (1 : Int32)) ((v2 &&& (((1 : Int32) <<< (v3 &&& 31)) ^^^ (-1 : Int32))) ||| ((1 : Int32) <<< (t35 &&& 31))) (1 : Int32)) fun t41 =>
    p_ck t41 25856 <|
    some (κ.1 59 t41.toNatClampNeg))
  else
  p_cl (pX1_at (v1 + (1 : Int32)) v2 (0 : Int32)) fun t13 =>
  p_ck t13 25856 <|
  some (κ.1 59 t13.toNatClampNeg)
def bX1_choice_5 (F : Nat) (hb : Nat) (hu : hd_T) : Nat → kp_K → Int32 → Int32 → Int32 → Int32 → Option (Int32)
  | 0, _, _, _, _, _ => none
  | n + 1, κ, v1, v2, v3, v4 =>
    if (7 : Int32) ≤ v4 then
      (some v3)
    else
    p_cl (pX1_isOf v2 v4) fun t15 =>
    if t15 = 0 then
      (bX1_choice_5 F hb hu n κ v1 v2 v3 (v4 + (1 : Int32)))
    else
    p_cl (pX1_behind hb hu κ v1 v2 v4) fun t26 =>
    p_cl (pX1_behind hb hu κ v1 v2 v3) fun t33 =>
    if t26 ≤ t33 then
      (bX1_choice_5 F hb hu n κ v1 v2 v3 (v4 + (1 : Int32)))
    else
    bX1_choice_5 F hb hu n κ v1 v2 v4 (v4 + (1 : Int32))
def pX1_choice (F : Nat) (hb : Nat) (hu : hd_T) (κ : kp_K) (v1 : Int32) (v2 : Int32) : Option (Int32) :=
  bX1_choice_5 F hb hu F κ v1 v2 (-1 : Int32) (0 : Int32)
def pX1_gain (hb : Nat) (hu : hd_T) (κ : kp_K) (v1 : Int32) (v2 : Int32) : Option (Int32) :=
  p_ck v1 100 <|
  if (κ.1 55 v1.toNatClampNeg) = (2 : Int32) then
    (p_ck v1 100 <|
    p_lt (κ.1 56 v1.toNatClampNeg) fun t18 =>
    p_hs (κ.2.2 0 4) hb <|
    p_ck t18 (hu.2.1 3) <|
    p_cl (pX1_isOf v2 (hu.1 32 t18.toNatClampNeg)) fun t37 =>
    if t37 = 0 then
      (some (0 : Int32))
    else
    p_ck t18 16 <|
    some (κ.1 60 t18.toNatClampNeg))
  else
  some (0 : Int32)
def bX1_dawned_5 (F : Nat) : Nat → kp_K → Int32 → Int32 → Int32 → Option (Int32)
  | 0, _, _, _, _ => none
  | n + 1, κ, v1, v3, v4 =>
    if (7 : Int32) ≤ v4 then
      (some v3)
    else
    p_lt (((7 : Int32) * v1) + v4) fun i23 =>
    p_ck i23 700 <|
    p_ck v1 100 <|
    if (κ.1 57 v1.toNatClampNeg) ≤ (κ.1 58 i23.toNatClampNeg) then
      (bX1_dawned_5 F n κ v1 v3 (v4 + (1 : Int32)))
    else
    p_lt (v3 &&& (((1 : Int32) <<< (v4 &&& 31)) ^^^ (-1 : Int32))) fun t41 =>
    bX1_dawned_5 F n κ v1 t41 (v4 + (1 : Int32))
def pX1_dawned (F : Nat) (κ : kp_K) (v1 : Int32) (v2 : Int32) : Option (Int32) :=
  bX1_dawned_5 F F κ v1 v2 (0 : Int32)
def pX1_next (F : Nat) (hb : Nat) (hu : hd_T) (κ : kp_K) (v1 : Int32) (v2 : Int32) (v3 : Int32) : Option (Int32) :=
  p_ck v2 100 <|
  if (κ.1 55 v2.toNatClampNeg) = 0 then
    (p_cl (pX1_dawned F κ v2 v3) fun t12 =>
    some t12)
  else
  p_ck v2 100 <|
  if (κ.1 55 v2.toNatClampNeg) = (1 : Int32) then
    (p_cl (pJ19_bitCount v3) fun t27 =>
    p_hs (κ.2.2 0 4) hb <|
    p_ck v1 (hu.2.1 0) <|
    if (hu.1 1 v1.toNatClampNeg) ≤ t27 then
      (some v3)
    else
    p_cl (pX1_comingFact hb hu κ v2) fun t54 =>
    some (v3 ||| ((1 : Int32) <<< (t54 &&& 31))))
  else
  some v3
def bX1_layMost_190 (F : Nat) (hb : Nat) (hu : hd_T) (k63 : kp_K → Int32 → Int32 → Int32 → Option (kp_K)) (k70 : kp_K → Int32 → Int32 → Int32 → Int32 → Option (kp_K)) (k79 : kp_K → Int32 → Int32 → Int32 → Int32 → Int32 → Option (kp_K)) (κ : kp_K) (v1 : Int32) (v2 : Int32) (v3 : Int32) (v4 : Int32) (v5 : Int32) (s0 : Int32) (s1 : Int32) : Option (kp_K) :=
  p_ck s1 25856 <|
  p_lt (s_i κ 59 s1.toNatClampNeg s0) fun k190 =>
  k79 k190 v1 v2 v3 v4 (v5 + (1 : Int32))
def bX1_layMost_117 (F : Nat) (hb : Nat) (hu : hd_T) (k63 : kp_K → Int32 → Int32 → Int32 → Option (kp_K)) (k70 : kp_K → Int32 → Int32 → Int32 → Int32 → Option (kp_K)) (k79 : kp_K → Int32 → Int32 → Int32 → Int32 → Int32 → Option (kp_K)) (κ : kp_K) (v1 : Int32) (v2 : Int32) (v3 : Int32) (v4 : Int32) (v5 : Int32) (v6 : Int32) (s0 : Int32) : Option (kp_K) :=
  p_cl (pX1_at v3 v4 v6) fun t128 =>
  p_cl (pX1_isTime hb hu κ v1 v3 v4 v6) fun t138 =>
  if t138 = 0 then
    (p_cl (pX1_gain hb hu κ v3 v4) fun t165 =>
    p_cl (pX1_next F hb hu κ v1 v3 v4) fun t180 =>
    p_cl (pX1_at (v3 + (1 : Int32)) t180 s0) fun t185 =>
    p_ck t185 25856 <|
    bX1_layMost_190 F hb hu k63 k70 k79 κ v1 v2 v3 v4 v5 (t165 + (κ.1 59 t185.toNatClampNeg)) t128)
  else
  p_cl (pX1_choice F hb hu κ v3 v4) fun t152 =>
  p_cl (pX1_behind hb hu κ v3 v4 t152) fun t155 =>
  bX1_layMost_190 F hb hu k63 k70 k79 κ v1 v2 v3 v4 v5 t155 t128
def bX1_layMost_116 (F : Nat) (hb : Nat) (hu : hd_T) (k63 : kp_K → Int32 → Int32 → Int32 → Option (kp_K)) (k70 : kp_K → Int32 → Int32 → Int32 → Int32 → Option (kp_K)) (k79 : kp_K → Int32 → Int32 → Int32 → Int32 → Int32 → Option (kp_K)) (κ : kp_K) (v1 : Int32) (v2 : Int32) (v3 : Int32) (v4 : Int32) (v5 : Int32) (v6 : Int32) : Option (kp_K) :=
  bX1_layMost_117 F hb hu k63 k70 k79 κ v1 v2 v3 v4 v5 v6 (0 : Int32)
def bX1_layMost_96 (F : Nat) (hb : Nat) (hu : hd_T) (k63 : kp_K → Int32 → Int32 → Int32 → Option (kp_K)) (k70 : kp_K → Int32 → Int32 → Int32 → Int32 → Option (kp_K)) (k79 : kp_K → Int32 → Int32 → Int32 → Int32 → Int32 → Option (kp_K)) (κ : kp_K) (v1 : Int32) (v2 : Int32) (v3 : Int32) (v4 : Int32) (v5 : Int32) (s0 : Int32) : Option (kp_K) :=
  if s0 = 0 then
    (bX1_layMost_116 F hb hu k63 k70 k79 κ v1 v2 v3 v4 v5 s0)
  else
  p_ck v3 100 <|
  if (κ.1 55 v3.toNatClampNeg) = 0 then
    (bX1_layMost_116 F hb hu k63 k70 k79 κ v1 v2 v3 v4 v5 s0)
  else
  bX1_layMost_117 F hb hu k63 k70 k79 κ v1 v2 v3 v4 v5 s0 (1 : Int32)
def bX1_layMost_79 (F : Nat) (hb : Nat) (hu : hd_T) (k63 : kp_K → Int32 → Int32 → Int32 → Option (kp_K)) (k70 : kp_K → Int32 → Int32 → Int32 → Int32 → Option (kp_K)) : Nat → kp_K → Int32 → Int32 → Int32 → Int32 → Int32 → Option (kp_K)
  | 0, _, _, _, _, _, _ => none
  | n + 1, κ, v1, v2, v3, v4, v5 =>
    if (2 : Int32) ≤ v5 then
      (k70 κ v1 v2 v3 (v4 + (1 : Int32)))
    else
    if v5 = (1 : Int32) then
      (bX1_layMost_96 F hb hu k63 k70 (bX1_layMost_79 F hb hu k63 k70 n) κ v1 v2 v3 v4 v5 (1 : Int32))
    else
    bX1_layMost_96 F hb hu k63 k70 (bX1_layMost_79 F hb hu k63 k70 n) κ v1 v2 v3 v4 v5 (0 : Int32)
def bX1_layMost_70 (F : Nat) (hb : Nat) (hu : hd_T) (k63 : kp_K → Int32 → Int32 → Int32 → Option (kp_K)) : Nat → kp_K → Int32 → Int32 → Int32 → Int32 → Option (kp_K)
  | 0, _, _, _, _, _ => none
  | n + 1, κ, v1, v2, v3, v4 =>
    if v2 ≤ v4 then
      (k63 κ v1 v2 (v3 + (-1 : Int32)))
    else
    bX1_layMost_79 F hb hu k63 (bX1_layMost_70 F hb hu k63 n) F κ v1 v2 v3 v4 (0 : Int32)
def bX1_layMost_63 (F : Nat) (hb : Nat) (hu : hd_T) : Nat → kp_K → Int32 → Int32 → Int32 → Option (kp_K)
  | 0, _, _, _, _ => none
  | n + 1, κ, v1, v2, v3 =>
    if v3 < 0 then
      (some κ)
    else
    bX1_layMost_70 F hb hu (bX1_layMost_63 F hb hu n) F κ v1 v2 v3 (0 : Int32)
def bX1_layMost_15 (F : Nat) (hb : Nat) (hu : hd_T) : Nat → kp_K → Int32 → Int32 → Int32 → Option (kp_K)
  | 0, _, _, _, _ => none
  | n + 1, κ, v1, v2, v3 =>
    if v2 ≤ v3 then
      (p_lt ((κ.1 0 11) - (1 : Int32)) fun t62 =>
      bX1_layMost_63 F hb hu F κ v1 v2 t62)
    else
    p_cl (pX1_at (κ.1 0 11) v3 (0 : Int32)) fun t30 =>
    p_ck t30 25856 <|
    p_lt (s_i κ 59 t30.toNatClampNeg (0 : Int32)) fun k34 =>
    p_cl (pX1_at (k34.1 0 11) v3 (1 : Int32)) fun t45 =>
    p_ck t45 25856 <|
    p_lt (s_i k34 59 t45.toNatClampNeg (0 : Int32)) fun k49 =>
    bX1_layMost_15 F hb hu n k49 v1 v2 (v3 + (1 : Int32))
def pX1_layMost (F : Nat) (hb : Nat) (hu : hd_T) (κ : kp_K) (v1 : Int32) : Option (kp_K) :=
  p_hs (κ.2.2 0 4) hb <|
  p_lt ((1 : Int32) <<< ((Int32.ofNat (hu.2.1 1)) &&& 31)) fun t12 =>
  bX1_layMost_15 F hb hu F κ v1 t12 (0 : Int32)
def pX1_layBest (F : Nat) (hb : Nat) (hu : hd_T) (κ : kp_K) (v1 : Int32) : Option (kp_K) :=
  p_cl (pX1_layPoints F hb hu κ v1) fun k2 =>
  p_cl (pX1_layCounts F hb hu k2 (1 : Int32)) fun k7 =>
  p_cl (pX1_layMost F hb hu k7 v1) fun k12 =>
  some k12
def pX1_best (F : Nat) (hb : Nat) (hu : hd_T) (κ : kp_K) (v1 : Int32) : Option (Int32 × kp_K) :=
  p_cl (pX1_isDesk hb hu κ v1) fun t2 =>
  if t2 = 0 then
    (some ((-1 : Int32), κ))
  else
  p_cl (pX1_layBest F hb hu κ v1) fun k12 =>
  p_cl (pX1_at (0 : Int32) (0 : Int32) (0 : Int32)) fun t22 =>
  p_ck t22 25856 <|
  some ((k12.1 59 t22.toNatClampNeg), k12)
def bX1_goAlong_161 (F : Nat) (hb : Nat) (hu : hd_T) (k17 : kp_K → Int32 → Int32 → Option Nat → Int32 → Int32 → Int32 → Int32 → Option (Int32 × kp_K)) (κ : kp_K) (v1 : Int32) (v2 : Int32) (o3 : Option Nat) (v4 : Int32) (v5 : Int32) (v6 : Int32) (v7 : Int32) (v8 : Int32) : Option (Int32 × kp_K) :=
  p_lt (s_i κ 0 18 ((κ.1 0 18) + (1 : Int32))) fun k168 =>
  if 0 ≤ v8 then
    (p_cl (pX1_comingFact hb hu k168 v7) fun t192 =>
    p_lt ((v4 &&& (((1 : Int32) <<< (v8 &&& 31)) ^^^ (-1 : Int32))) ||| ((1 : Int32) <<< (t192 &&& 31))) fun t197 =>
    k17 k168 v1 v2 o3 t197 (1 : Int32) v6 (v7 + (1 : Int32)))
  else
  k17 k168 v1 v2 o3 v4 v5 v6 (v7 + (1 : Int32))
def bX1_goAlong_109 (F : Nat) (hb : Nat) (hu : hd_T) (k17 : kp_K → Int32 → Int32 → Option Nat → Int32 → Int32 → Int32 → Int32 → Option (Int32 × kp_K)) (κ : kp_K) (v1 : Int32) (v2 : Int32) (o3 : Option Nat) (v4 : Int32) (v5 : Int32) (v6 : Int32) (v7 : Int32) : Option (Int32 × kp_K) :=
  p_cl (pX1_isTime hb hu κ v1 v7 v4 v5) fun t117 =>
  if t117 = 0 then
    (p_cl (pX1_next F hb hu κ v1 v7 v4) fun t129 =>
    k17 κ v1 v2 o3 t129 v5 v6 (v7 + (1 : Int32)))
  else
  p_cl (pX1_choice F hb hu κ v7 v4) fun t142 =>
  if (κ.1 0 18) = v2 then
    (p_lt (s_i κ 0 19 t142) fun k158 =>
    bX1_goAlong_161 F hb hu k17 k158 v1 v2 o3 v4 v5 v6 v7 t142)
  else
  bX1_goAlong_161 F hb hu k17 κ v1 v2 o3 v4 v5 v6 v7 t142
def bX1_goAlong_39 (F : Nat) (hb : Nat) (hu : hd_T) (k17 : kp_K → Int32 → Int32 → Option Nat → Int32 → Int32 → Int32 → Int32 → Option (Int32 × kp_K)) (κ : kp_K) (v1 : Int32) (v2 : Int32) (o3 : Option Nat) (v4 : Int32) (v5 : Int32) (v6 : Int32) (v7 : Int32) : Option (Int32 × kp_K) :=
  p_ck v7 100 <|
  if (κ.1 55 v7.toNatClampNeg) = (2 : Int32) then
    (if o3 = none then
      (bX1_goAlong_109 F hb hu k17 κ v1 v2 o3 v4 v5 v6 v7)
    else
    p_ck v7 100 <|
    p_lt (κ.1 56 v7.toNatClampNeg) fun i62 =>
    p_zn o3 fun z_o3 n_o3 =>
    p_ck i62 n_o3 <|
    if (κ.1 z_o3 i62.toNatClampNeg) = 0 then
      (bX1_goAlong_109 F hb hu k17 κ v1 v2 o3 v4 v5 v6 v7)
    else
    p_cl (pX1_gain hb hu κ v7 v4) fun t71 =>
    if t71 ≤ 0 then
      (bX1_goAlong_109 F hb hu k17 κ v1 v2 o3 v4 v5 v6 v7)
    else
    p_hs (κ.2.2 0 4) hb <|
    p_ck v7 100 <|
    p_lt (κ.1 56 v7.toNatClampNeg) fun t94 =>
    p_ck t94 (hu.2.1 3) <|
    p_cl (pX1_worth hb hu κ (hu.1 32 t94.toNatClampNeg)) fun t103 =>
    p_lt (v6 + t103) fun t107 =>
    bX1_goAlong_109 F hb hu k17 κ v1 v2 o3 v4 v5 t107 v7)
  else
  bX1_goAlong_109 F hb hu k17 κ v1 v2 o3 v4 v5 v6 v7
def bX1_goAlong_17 (F : Nat) (hb : Nat) (hu : hd_T) : Nat → kp_K → Int32 → Int32 → Option Nat → Int32 → Int32 → Int32 → Int32 → Option (Int32 × kp_K)
  | 0, _, _, _, _, _, _, _, _ => none
  | n + 1, κ, v1, v2, o3, v4, v5, v6, v7 =>
    if (κ.1 0 11) ≤ v7 then
      (some (v6, κ))
    else
    p_ck v7 100 <|
    if (κ.1 55 v7.toNatClampNeg) = 0 then
      (bX1_goAlong_39 F hb hu (bX1_goAlong_17 F hb hu n) κ v1 v2 o3 v4 (0 : Int32) v6 v7)
    else
    bX1_goAlong_39 F hb hu (bX1_goAlong_17 F hb hu n) κ v1 v2 o3 v4 v5 v6 v7
def pX1_goAlong (F : Nat) (hb : Nat) (hu : hd_T) (κ : kp_K) (v1 : Int32) (v2 : Int32) (o3 : Option Nat) : Option (Int32 × kp_K) :=
  p_lt (s_i κ 0 18 (0 : Int32)) fun k11 =>
  bX1_goAlong_17 F hb hu F k11 v1 v2 o3 (0 : Int32) (0 : Int32) (0 : Int32) (0 : Int32)
def pX1_goes (F : Nat) (hb : Nat) (hu : hd_T) (κ : kp_K) (v1 : Int32) (v2 : Int32) : Option (Int32 × kp_K) :=
  p_cl (pX1_isDesk hb hu κ v1) fun t2 =>
  if t2 = 0 then
    (some ((-1 : Int32), κ))
  else
  if 0 ≤ v2 then
    (p_cl (pX1_layBest F hb hu κ v1) fun k16 =>
    p_cl (pX1_goAlong F hb hu k16 v1 v2 none) fun q23 => p_lt q23.1 fun t23 => p_lt q23.2 fun k23 =>
    if v2 < (k23.1 0 18) then
      (if 0 ≤ (k23.1 0 19) then
        (some ((k23.1 0 19), k23))
      else
      some ((-2 : Int32), k23))
    else
    some ((-3 : Int32), k23))
  else
  some ((-1 : Int32), κ)
def bX1_knew_141 (F : Nat) (hb : Nat) (hu : hd_T) : Nat → kp_K → Int32 → Int32 → Option (Int32 × kp_K)
  | 0, _, _, _ => none
  | n + 1, κ, v1, v6 =>
    p_hs (κ.2.2 0 4) hb <|
    if (Int32.ofNat (hu.2.1 3)) ≤ v6 then
      (p_cl (pX1_layMost F hb hu κ v1) fun k182 =>
      p_cl (pX1_at (0 : Int32) (0 : Int32) (0 : Int32)) fun t192 =>
      p_ck t192 25856 <|
      some ((k182.1 59 t192.toNatClampNeg), k182))
    else
    p_ck v6 16 <|
    if (κ.1 61 v6.toNatClampNeg) = 0 then
      (p_ck v6 16 <|
      p_lt (s_i κ 60 v6.toNatClampNeg (0 : Int32)) fun k173 =>
      bX1_knew_141 F hb hu n k173 v1 (v6 + (1 : Int32)))
    else
    bX1_knew_141 F hb hu n κ v1 (v6 + (1 : Int32))
def bX1_knew_105 (F : Nat) (hb : Nat) (hu : hd_T) (k30 : kp_K → Int32 → Int32 → Int64 → Int32 → Option (Int32 × kp_K)) (κ : kp_K) (v1 : Int32) (v3 : Int32) (v4 : Int64) (v6 : Int32) (s0 : Int32) (s1 : Int32) : Option (Int32 × kp_K) :=
  p_cz s0 <|
  p_ck s1 16 <|
  p_lt (s_i κ 61 s1.toNatClampNeg s0) fun k105 =>
  k30 k105 v1 v3 v4 (v6 + (1 : Int32))
def bX1_knew_30 (F : Nat) (hb : Nat) (hu : hd_T) : Nat → kp_K → Int32 → Int32 → Int64 → Int32 → Option (Int32 × kp_K)
  | 0, _, _, _, _, _ => none
  | n + 1, κ, v1, v3, v4, v6 =>
    p_hs (κ.2.2 0 4) hb <|
    if (Int32.ofNat (hu.2.1 3)) ≤ v6 then
      (p_cl (pX1_layBest F hb hu κ v1) fun k114 =>
      if v3 = (1 : Int32) then
        (p_cl (pX1_goAlong F hb hu k114 v1 (-1 : Int32) (some 61)) fun q129 => p_lt q129.1 fun t129 => p_lt q129.2 fun k129 =>
        some (t129, k129))
      else
      p_cl (pX1_layCounts F hb hu k114 (0 : Int32)) fun k135 =>
      bX1_knew_141 F hb hu F k135 v1 (0 : Int32))
    else
    p_lt (((v4 * (1103515245 : Int64)) + (12345 : Int64)) &&& (2147483647 : Int64)) fun t59 =>
    p_cdl (65536 : Int64) <|
    p_cdl (100 : Int64) <|
    p_hs (κ.2.2 0 4) hb <|
    p_ck v6 (hu.2.1 3) <|
    if 0 ≤ (lg_cmp ((t59 / (65536 : Int64)) - (t59 / (65536 : Int64)) / (100 : Int64) * (100 : Int64)) ((hu.1 33 v6.toNatClampNeg).toInt64)) then
      (bX1_knew_105 F hb hu (bX1_knew_30 F hb hu n) κ v1 v3 t59 v6 (0 : Int32) v6)
    else
    bX1_knew_105 F hb hu (bX1_knew_30 F hb hu n) κ v1 v3 t59 v6 (1 : Int32) v6
def pX1_knew (F : Nat) (hb : Nat) (hu : hd_T) (κ : kp_K) (v1 : Int32) (v2 : Int32) (v3 : Int32) : Option (Int32 × kp_K) :=
  p_cl (pX1_isDesk hb hu κ v1) fun t2 =>
  if t2 = 0 then
    (some ((-1 : Int32), κ))
  else
  if v2 < 0 then
    (some ((-1 : Int32), κ))
  else
  p_cl (pX1_isIn v3 (0 : Int32) (1 : Int32)) fun t15 =>
  if t15 = 0 then
    (some ((-1 : Int32), κ))
  else
  p_lt v2.toInt64 fun t25 =>
  bX1_knew_30 F hb hu F κ v1 v3 t25 (0 : Int32)
def pX1_isFact (hb : Nat) (hu : hd_T) (κ : kp_K) (v1 : Int32) : Option (Int32) :=
  p_hs (κ.2.2 0 4) hb <|
  p_cl (pX1_isIn v1 (0 : Int32) ((Int32.ofNat (hu.2.1 1)) - (1 : Int32))) fun t14 =>
  p_cz t14 <|
  some t14
def bX1_shareOf_139 (F : Nat) (hb : Nat) (hu : hd_T) (k6 : kp_K → Int32 → Int32 → Int32 → Int32 → Int32 → Option (Int32)) (κ : kp_K) (v1 : Int32) (v2 : Int32) (v3 : Int32) (v5 : Int32) (s0 : Int32) : Option (Int32) :=
  p_cl (pX1_worth hb hu κ v1) fun t141 =>
  p_lt (s0 + t141) fun t149 =>
  k6 κ v1 v2 v3 t149 (v5 + (1 : Int32))
def bX1_shareOf_147 (F : Nat) (hb : Nat) (hu : hd_T) (k6 : kp_K → Int32 → Int32 → Int32 → Int32 → Int32 → Option (Int32)) (κ : kp_K) (v1 : Int32) (v2 : Int32) (v3 : Int32) (v5 : Int32) (s0 : Int32) : Option (Int32) :=
  p_lt (s0 + (0 : Int32)) fun t149 =>
  k6 κ v1 v2 v3 t149 (v5 + (1 : Int32))
def bX1_shareOf_129 (F : Nat) (hb : Nat) (hu : hd_T) (k6 : kp_K → Int32 → Int32 → Int32 → Int32 → Int32 → Option (Int32)) (κ : kp_K) (v1 : Int32) (v2 : Int32) (v3 : Int32) (v5 : Int32) (v8 : Int32) (v9 : Int32) (s0 : Int32) : Option (Int32) :=
  if v8 = 0 then
    (if v9 = 0 then
      (bX1_shareOf_147 F hb hu k6 κ v1 v2 v3 v5 s0)
    else
    bX1_shareOf_139 F hb hu k6 κ v1 v2 v3 v5 s0)
  else
  bX1_shareOf_139 F hb hu k6 κ v1 v2 v3 v5 s0
def bX1_shareOf_103 (F : Nat) (hb : Nat) (hu : hd_T) (k6 : kp_K → Int32 → Int32 → Int32 → Int32 → Int32 → Option (Int32)) (κ : kp_K) (v1 : Int32) (v2 : Int32) (v3 : Int32) (v4 : Int32) (v5 : Int32) (v7 : Int32) (v8 : Int32) (s0 : Int32) : Option (Int32) :=
  if v3 = 0 then
    (bX1_shareOf_129 F hb hu k6 κ v1 v2 v3 v5 v8 s0 v4)
  else
  if v7 < 0 then
    (bX1_shareOf_129 F hb hu k6 κ v1 v2 v3 v5 v8 s0 v4)
  else
  if v8 = 0 then
    (bX1_shareOf_147 F hb hu k6 κ v1 v2 v3 v5 v4)
  else
  if s0 = 0 then
    (bX1_shareOf_147 F hb hu k6 κ v1 v2 v3 v5 v4)
  else
  bX1_shareOf_139 F hb hu k6 κ v1 v2 v3 v5 v4
def bX1_shareOf_102 (F : Nat) (hb : Nat) (hu : hd_T) (k6 : kp_K → Int32 → Int32 → Int32 → Int32 → Int32 → Option (Int32)) (κ : kp_K) (v1 : Int32) (v2 : Int32) (v3 : Int32) (v4 : Int32) (v5 : Int32) (v7 : Int32) (v8 : Int32) : Option (Int32) :=
  bX1_shareOf_103 F hb hu k6 κ v1 v2 v3 v4 v5 v7 v8 (0 : Int32)
def bX1_shareOf_6 (F : Nat) (hb : Nat) (hu : hd_T) : Nat → kp_K → Int32 → Int32 → Int32 → Int32 → Int32 → Option (Int32)
  | 0, _, _, _, _, _, _ => none
  | n + 1, κ, v1, v2, v3, v4, v5 =>
    p_hs (κ.2.2 0 4) hb <|
    if (Int32.ofNat (hu.2.1 3)) ≤ v5 then
      (some v4)
    else
    p_hs (κ.2.2 0 4) hb <|
    p_ck v5 (hu.2.1 3) <|
    if (hu.1 32 v5.toNatClampNeg) = v1 then
      (p_hs (κ.2.2 0 4) hb <|
      p_lt (hu.1 31 v5.toNatClampNeg) fun t62 =>
      p_ck t62 (hu.2.1 0) <|
      p_lt (hu.1 2 t62.toNatClampNeg) fun t71 =>
      p_cl (pX1_isOf v2 (hu.1 31 v5.toNatClampNeg)) fun t79 =>
      if t71 < 0 then
        (bX1_shareOf_102 F hb hu (bX1_shareOf_6 F hb hu n) κ v1 v2 v3 v4 v5 t71 t79)
      else
      p_cl (pX1_isOf v2 t71) fun t92 =>
      if t92 = 0 then
        (bX1_shareOf_102 F hb hu (bX1_shareOf_6 F hb hu n) κ v1 v2 v3 v4 v5 t71 t79)
      else
      bX1_shareOf_103 F hb hu (bX1_shareOf_6 F hb hu n) κ v1 v2 v3 v4 v5 t71 t79 (1 : Int32))
    else
    bX1_shareOf_6 F hb hu n κ v1 v2 v3 v4 (v5 + (1 : Int32))
def pX1_shareOf (F : Nat) (hb : Nat) (hu : hd_T) (κ : kp_K) (v1 : Int32) (v2 : Int32) (v3 : Int32) : Option (Int32) :=
  bX1_shareOf_6 F hb hu F κ v1 v2 v3 (0 : Int32) (0 : Int32)
def bX1_keeping_40 (F : Nat) (k8 : Int32 → Int32 → Int32 → Int32 → Int32 → Option (Int32)) (v1 : Int32) (v2 : Int32) (v3 : Int32) (v4 : Int32) (v5 : Int32) : Option (Int32) :=
  p_lt (v4 * (7 : Int32)) fun t45 =>
  k8 v1 v2 v3 t45 (v5 + (1 : Int32))
def bX1_keeping_8 (F : Nat) : Nat → Int32 → Int32 → Int32 → Int32 → Int32 → Option (Int32)
  | 0, _, _, _, _, _ => none
  | n + 1, v1, v2, v3, v4, v5 =>
    if (4 : Int32) ≤ v5 then
      (some v3)
    else
    p_cl (pX1_isOf v2 v5) fun t17 =>
    if t17 = 0 then
      (bX1_keeping_40 F (bX1_keeping_8 F n) v1 v2 v3 v4 v5)
    else
    p_cd v4 <|
    p_cd (7 : Int32) <|
    if ((v1 / v4) - (v1 / v4) / (7 : Int32) * (7 : Int32)) = 0 then
      (some (-1 : Int32))
    else
    p_lt (v3 - v4) fun t39 =>
    bX1_keeping_40 F (bX1_keeping_8 F n) v1 v2 t39 v4 v5
def pX1_keeping (F : Nat) (v1 : Int32) (v2 : Int32) : Option (Int32) :=
  bX1_keeping_8 F F v1 v2 v1 (1 : Int32) (0 : Int32)
def bX1_layShares_105 (F : Nat) (hb : Nat) (hu : hd_T) (k43 : kp_K → Int32 → Int32 → Option (kp_K)) (k81 : kp_K → Int32 → Int32 → Int32 → Option (kp_K)) : Nat → kp_K → Int32 → Int32 → Int32 → Int32 → Int32 → Option (kp_K)
  | 0, _, _, _, _, _, _ => none
  | n + 1, κ, v1, v3, v4, v5, v6 =>
    if (2401 : Int32) ≤ v6 then
      (k81 κ v1 v3 (v4 + (1 : Int32)))
    else
    p_cl (pX1_keeping F v6 v4) fun t118 =>
    if t118 < 0 then
      (bX1_layShares_105 F hb hu k43 k81 n κ v1 v3 v4 v5 (v6 + (1 : Int32)))
    else
    p_lt (((2401 : Int32) * v3) + v6) fun i152 =>
    p_ck i152 19208 <|
    p_lt (((2401 : Int32) * (v3 + (1 : Int32))) + t118) fun i169 =>
    p_ck i169 19208 <|
    p_ck (((2401 : Int32) * v3) + v6) 19208 <|
    p_lt (s_i κ 62 (((2401 : Int32) * v3) + v6).toNatClampNeg (if (κ.1 62 i152.toNatClampNeg) < (v5 + (κ.1 62 i169.toNatClampNeg)) then (v5 + (κ.1 62 i169.toNatClampNeg)) else (κ.1 62 i152.toNatClampNeg))) fun k174 =>
    bX1_layShares_105 F hb hu k43 k81 n k174 v1 v3 v4 v5 (v6 + (1 : Int32))
def bX1_layShares_81 (F : Nat) (hb : Nat) (hu : hd_T) (k43 : kp_K → Int32 → Int32 → Option (kp_K)) : Nat → kp_K → Int32 → Int32 → Int32 → Option (kp_K)
  | 0, _, _, _, _ => none
  | n + 1, κ, v1, v3, v4 =>
    p_cl (pX1_desks hb hu κ) fun t85 =>
    if ((1 : Int32) <<< (t85 &&& 31)) ≤ v4 then
      (k43 κ v1 (v3 + (-1 : Int32)))
    else
    p_cl (pX1_shareOf F hb hu κ v3 v4 v1) fun t97 =>
    bX1_layShares_105 F hb hu k43 (bX1_layShares_81 F hb hu k43 n) F κ v1 v3 v4 t97 (0 : Int32)
def bX1_layShares_50 (F : Nat) (hb : Nat) (hu : hd_T) (k43 : kp_K → Int32 → Int32 → Option (kp_K)) : Nat → kp_K → Int32 → Int32 → Int32 → Option (kp_K)
  | 0, _, _, _, _ => none
  | n + 1, κ, v1, v3, v4 =>
    if (2401 : Int32) ≤ v4 then
      (bX1_layShares_81 F hb hu k43 F κ v1 v3 (0 : Int32))
    else
    p_ck (((2401 : Int32) * v3) + v4) 19208 <|
    p_lt (s_i κ 62 (((2401 : Int32) * v3) + v4).toNatClampNeg (0 : Int32)) fun k71 =>
    bX1_layShares_50 F hb hu k43 n k71 v1 v3 (v4 + (1 : Int32))
def bX1_layShares_43 (F : Nat) (hb : Nat) (hu : hd_T) : Nat → kp_K → Int32 → Int32 → Option (kp_K)
  | 0, _, _, _ => none
  | n + 1, κ, v1, v3 =>
    if v3 < 0 then
      (some κ)
    else
    bX1_layShares_50 F hb hu (bX1_layShares_43 F hb hu n) F κ v1 v3 (0 : Int32)
def bX1_layShares_13 (F : Nat) (hb : Nat) (hu : hd_T) : Nat → kp_K → Int32 → Int32 → Int32 → Option (kp_K)
  | 0, _, _, _, _ => none
  | n + 1, κ, v1, v2, v3 =>
    if (2401 : Int32) ≤ v3 then
      (p_lt (v2 - (1 : Int32)) fun t42 =>
      bX1_layShares_43 F hb hu F κ v1 t42)
    else
    p_ck (((2401 : Int32) * v2) + v3) 19208 <|
    p_lt (s_i κ 62 (((2401 : Int32) * v2) + v3).toNatClampNeg (0 : Int32)) fun k32 =>
    bX1_layShares_13 F hb hu n k32 v1 v2 (v3 + (1 : Int32))
def pX1_layShares (F : Nat) (hb : Nat) (hu : hd_T) (κ : kp_K) (v1 : Int32) : Option (kp_K) :=
  p_hs (κ.2.2 0 4) hb <|
  p_lt (Int32.ofNat (hu.2.1 1)) fun t10 =>
  bX1_layShares_13 F hb hu F κ v1 t10 (0 : Int32)
def bX1_allFree_9 (F : Nat) (hb : Nat) (hu : hd_T) : Nat → kp_K → Int32 → Int32 → Option (Int32)
  | 0, _, _, _ => none
  | n + 1, κ, v1, v2 =>
    if v2 < 0 then
      (some v1)
    else
    p_hs (κ.2.2 0 4) hb <|
    p_ck v2 (hu.2.1 0) <|
    p_lt (((7 : Int32) * v1) + (hu.1 1 v2.toNatClampNeg)) fun t35 =>
    bX1_allFree_9 F hb hu n κ t35 (v2 + (-1 : Int32))
def pX1_allFree (F : Nat) (hb : Nat) (hu : hd_T) (κ : kp_K) : Option (Int32) :=
  p_cl (pX1_desks hb hu κ) fun t3 =>
  p_lt (t3 - (1 : Int32)) fun t8 =>
  bX1_allFree_9 F hb hu F κ (0 : Int32) t8
def bX1_share_55 (F : Nat) (hb : Nat) (hu : hd_T) (k46 : kp_K → Int32 → Int32 → Int32 → Int32 → Int32 → Option (Int32 × kp_K)) : Nat → kp_K → Int32 → Int32 → Int32 → Int32 → Int32 → Option (Int32 × kp_K)
  | 0, _, _, _, _, _, _ => none
  | n + 1, κ, v1, v2, v3, v4, v5 =>
    p_cl (pX1_keeping F v3 v4) fun t59 =>
    if t59 < 0 then
      (bX1_share_55 F hb hu k46 n κ v1 v2 v3 (v4 + (1 : Int32)) v5)
    else
    p_cl (pX1_shareOf F hb hu κ v5 v4 v1) fun t71 =>
    p_cl (pX1_keeping F v3 v4) fun t90 =>
    p_lt (((2401 : Int32) * (v5 + (1 : Int32))) + t90) fun i94 =>
    p_ck i94 19208 <|
    p_lt (((2401 : Int32) * v5) + v3) fun i108 =>
    p_ck i108 19208 <|
    if (t71 + (κ.1 62 i94.toNatClampNeg)) = (κ.1 62 i108.toNatClampNeg) then
      (p_cl (pX1_keeping F v3 v4) fun t122 =>
      k46 κ v1 v2 t122 v4 (v5 + (1 : Int32)))
    else
    bX1_share_55 F hb hu k46 n κ v1 v2 v3 (v4 + (1 : Int32)) v5
def bX1_share_46 (F : Nat) (hb : Nat) (hu : hd_T) : Nat → kp_K → Int32 → Int32 → Int32 → Int32 → Int32 → Option (Int32 × kp_K)
  | 0, _, _, _, _, _, _ => none
  | n + 1, κ, v1, v2, v3, v4, v5 =>
    if v2 < v5 then
      (some (v4, κ))
    else
    bX1_share_55 F hb hu (bX1_share_46 F hb hu n) F κ v1 v2 v3 (0 : Int32) v5
def bX1_share_19 (F : Nat) (hb : Nat) (hu : hd_T) (κ : kp_K) (v1 : Int32) (v2 : Int32) : Option (Int32 × kp_K) :=
  p_cl (pX1_layShares F hb hu κ v1) fun k21 =>
  p_cl (pX1_allFree F hb hu k21) fun t25 =>
  if 0 ≤ v2 then
    (bX1_share_46 F hb hu F k21 v1 v2 t25 (0 : Int32) (0 : Int32))
  else
  p_ck t25 19208 <|
  some ((k21.1 62 t25.toNatClampNeg), k21)
def pX1_share (F : Nat) (hb : Nat) (hu : hd_T) (κ : kp_K) (v1 : Int32) (v2 : Int32) : Option (Int32 × kp_K) :=
  if v2 < (-1 : Int32) then
    (some ((-1 : Int32), κ))
  else
  if v2 < 0 then
    (bX1_share_19 F hb hu κ v1 v2)
  else
  p_cl (pX1_isFact hb hu κ v2) fun t11 =>
  if t11 = 0 then
    (some ((-1 : Int32), κ))
  else
  bX1_share_19 F hb hu κ v1 v2
def bX1_fewest_36 (F : Nat) (hb : Nat) (hu : hd_T) (k13 : kp_K → Int32 → Int32 → Int32 → Option (Int32)) : Nat → kp_K → Int32 → Int32 → Int32 → Int32 → Int32 → Option (Int32)
  | 0, _, _, _, _, _, _ => none
  | n + 1, κ, v1, v2, v3, v4, v5 =>
    if v2 ≤ v5 then
      (p_cl (pX1_worth hb hu κ v3) fun t81 =>
      if t81 ≤ 0 then
        (p_lt (v1 + (0 : Int32)) fun t94 =>
        k13 κ t94 v2 (v3 + (1 : Int32)))
      else
      p_lt (v1 + v4) fun t94_3 =>
      k13 κ t94_3 v2 (v3 + (1 : Int32)))
    else
    p_cl (pX1_shareOf F hb hu κ v3 v5 (0 : Int32)) fun t47 =>
    p_cl (pX1_shareOf F hb hu κ v3 v2 (0 : Int32)) fun t54 =>
    if t47 = t54 then
      (p_cl (pJ19_bitCount v5) fun t64 =>
      p_lt (if t64 < v4 then t64 else v4) fun t70 =>
      bX1_fewest_36 F hb hu k13 n κ v1 v2 v3 t70 (v5 + (1 : Int32)))
    else
    bX1_fewest_36 F hb hu k13 n κ v1 v2 v3 v4 (v5 + (1 : Int32))
def bX1_fewest_13 (F : Nat) (hb : Nat) (hu : hd_T) : Nat → kp_K → Int32 → Int32 → Int32 → Option (Int32)
  | 0, _, _, _, _ => none
  | n + 1, κ, v1, v2, v3 =>
    p_hs (κ.2.2 0 4) hb <|
    if (Int32.ofNat (hu.2.1 1)) ≤ v3 then
      (some v1)
    else
    p_cl (pJ19_bitCount v2) fun t28 =>
    bX1_fewest_36 F hb hu (bX1_fewest_13 F hb hu n) F κ v1 v2 v3 t28 (0 : Int32)
def pX1_fewest (F : Nat) (hb : Nat) (hu : hd_T) (κ : kp_K) : Option (Int32) :=
  p_cl (pX1_desks hb hu κ) fun t4 =>
  p_lt (((1 : Int32) <<< (t4 &&& 31)) - (1 : Int32)) fun t10 =>
  bX1_fewest_13 F hb hu F κ (0 : Int32) t10 (0 : Int32)
def pX1_code (v0 : Int64) (v2 : Int32) : Option (Int32) :=
  some (((v0 >>> (((8 : Int32) * v2).toInt64 &&& 63)) &&& (255 : Int64)).toInt32)
def bX1_areCodes_15 (F : Nat) (hb : Nat) (hu : hd_T) : Nat → kp_K → Int32 → Int64 → Int32 → Option (Int32)
  | 0, _, _, _, _ => none
  | n + 1, κ, v1, v2, v4 =>
    if v1 ≤ v4 then
      (some (1 : Int32))
    else
    p_cl (pX1_code v2 v4) fun t24 =>
    p_hs (κ.2.2 0 4) hb <|
    if (t24 >>> ((Int32.ofNat (hu.2.1 1)) &&& 31)) = 0 then
      (bX1_areCodes_15 F hb hu n κ v1 v2 (v4 + (1 : Int32)))
    else
    some (0 : Int32)
def pX1_areCodes (F : Nat) (hb : Nat) (hu : hd_T) (κ : kp_K) (v1 : Int32) (v2 : Int64) : Option (Int32) :=
  p_cl (pX1_isIn v1 (0 : Int32) (7 : Int32)) fun t4 =>
  if t4 = 0 then
    (some (0 : Int32))
  else
  bX1_areCodes_15 F hb hu F κ v1 v2 (0 : Int32)
def bX1_makes_17 (F : Nat) (k3 : Int32 → Int64 → Int32 → Int32 → Option (Int32)) : Nat → Int32 → Int64 → Int32 → Int32 → Int32 → Int32 → Option (Int32)
  | 0, _, _, _, _, _, _ => none
  | n + 1, v0, v1, v3, v4, v5, v6 =>
    if v0 ≤ v6 then
      (if v5 = ((1 : Int32) <<< (v3 &&& 31)) then
        (some v4)
      else
      k3 v0 v1 v3 (v4 + (1 : Int32)))
    else
    p_cl (pX1_isOf v4 v6) fun t27 =>
    if t27 = 0 then
      (bX1_makes_17 F k3 n v0 v1 v3 v4 v5 (v6 + (1 : Int32)))
    else
    p_cl (pX1_code v1 v6) fun t38 =>
    p_lt (v5 ^^^ t38) fun t42 =>
    bX1_makes_17 F k3 n v0 v1 v3 v4 t42 (v6 + (1 : Int32))
def bX1_makes_3 (F : Nat) : Nat → Int32 → Int64 → Int32 → Int32 → Option (Int32)
  | 0, _, _, _, _ => none
  | n + 1, v0, v1, v3, v4 =>
    if ((1 : Int32) <<< (v0 &&& 31)) ≤ v4 then
      (some (-1 : Int32))
    else
    bX1_makes_17 F (bX1_makes_3 F n) F v0 v1 v3 v4 (0 : Int32) (0 : Int32)
def pX1_makes (F : Nat) (v0 : Int32) (v1 : Int64) (v3 : Int32) : Option (Int32) :=
  bX1_makes_3 F F v0 v1 v3 (1 : Int32)
def bX1_gives_17 (F : Nat) (hb : Nat) (hu : hd_T) : Nat → kp_K → Int32 → Int64 → Int32 → Int32 → Option (Int32)
  | 0, _, _, _, _, _ => none
  | n + 1, κ, v1, v2, v4, v5 =>
    p_hs (κ.2.2 0 4) hb <|
    if (Int32.ofNat (hu.2.1 1)) ≤ v5 then
      (some v4)
    else
    p_cl (pX1_makes F v1 v2 v5) fun t38 =>
    if t38 ≤ 0 then
      (p_lt (v4 ||| (0 : Int32)) fun t53 =>
      bX1_gives_17 F hb hu n κ v1 v2 t53 (v5 + (1 : Int32)))
    else
    p_lt (v4 ||| ((1 : Int32) <<< (v5 &&& 31))) fun t53_3 =>
    bX1_gives_17 F hb hu n κ v1 v2 t53_3 (v5 + (1 : Int32))
def pX1_gives (F : Nat) (hb : Nat) (hu : hd_T) (κ : kp_K) (v1 : Int32) (v2 : Int64) : Option (Int32) :=
  p_cl (pX1_areCodes F hb hu κ v1 v2) fun t3 =>
  if t3 = 0 then
    (some (-1 : Int32))
  else
  bX1_gives_17 F hb hu F κ v1 v2 (0 : Int32) (0 : Int32)
def pX1_shows (F : Nat) (hb : Nat) (hu : hd_T) (κ : kp_K) (v1 : Int32) (v2 : Int64) (v4 : Int32) : Option (Int32) :=
  p_cl (pX1_areCodes F hb hu κ v1 v2) fun t3 =>
  if t3 = 0 then
    (some (-1 : Int32))
  else
  p_cl (pX1_isFact hb hu κ v4) fun t12 =>
  if t12 = 0 then
    (some (-1 : Int32))
  else
  p_cl (pX1_makes F v1 v2 v4) fun t24 =>
  if 0 ≤ t24 then
    (some t24)
  else
  some (-2 : Int32)
def pX1_asks (hb : Nat) (hu : hd_T) (κ : kp_K) (v1 : Int32) : Option (Int32) :=
  p_hs (κ.2.2 0 4) hb <|
  p_ck v1 (hu.2.1 0) <|
  some (hu.1 2 v1.toNatClampNeg)
def bX1_noons_5 (F : Nat) (hb : Nat) (hu : hd_T) : Nat → kp_K → Int32 → Int32 → Int32 → Option (Int32)
  | 0, _, _, _, _ => none
  | n + 1, κ, v1, v3, v4 =>
    p_cl (pX1_desks hb hu κ) fun t8 =>
    if t8 < v4 then
      (some (-1 : Int32))
    else
    if v3 < 0 then
      (some (-1 : Int32))
    else
    if v3 = v1 then
      (some v4)
    else
    p_cl (pX1_asks hb hu κ v3) fun t28 =>
    bX1_noons_5 F hb hu n κ v1 t28 (v4 + (1 : Int32))
def pX1_noons (F : Nat) (hb : Nat) (hu : hd_T) (κ : kp_K) (v1 : Int32) (v2 : Int32) : Option (Int32) :=
  bX1_noons_5 F hb hu F κ v1 v2 (0 : Int32)
def pX1_rumour (F : Nat) (hb : Nat) (hu : hd_T) (κ : kp_K) (v1 : Int32) (v2 : Int32) : Option (Int32) :=
  p_cl (pX1_isDesk hb hu κ v1) fun t2 =>
  if t2 = 0 then
    (some (-1 : Int32))
  else
  p_cl (pX1_isDesk hb hu κ v2) fun t10 =>
  if t10 = 0 then
    (some (-1 : Int32))
  else
  p_cl (pX1_noons F hb hu κ v1 v2) fun t21 =>
  if 0 ≤ t21 then
    (some t21)
  else
  some (-2 : Int32)
def bX1_holds_30 (F : Nat) (hb : Nat) (hu : hd_T) (κ : kp_K) (v1 : Int32) (v2 : Int32) (v4 : Int32) (v5 : Int32) : Option (Int32) :=
  if v5 < 0 then
    (some v1)
  else
  if v4 < 0 then
    (some v2)
  else
  if v5 < v4 then
    (some v2)
  else
  some v1
def pX1_holds (F : Nat) (hb : Nat) (hu : hd_T) (κ : kp_K) (v1 : Int32) (v2 : Int32) (v3 : Int32) : Option (Int32) :=
  p_cl (pX1_noons F hb hu κ v1 v3) fun t3 =>
  p_cl (pX1_noons F hb hu κ v2 v3) fun t11 =>
  if 0 ≤ t3 then
    (bX1_holds_30 F hb hu κ v1 v2 t3 t11)
  else
  if 0 ≤ t11 then
    (bX1_holds_30 F hb hu κ v1 v2 t3 t11)
  else
  some (-1 : Int32)
def bX1_differ_35 (F : Nat) (hb : Nat) (hu : hd_T) : Nat → kp_K → Int32 → Int32 → Int32 → Int32 → Option (Int32)
  | 0, _, _, _, _, _ => none
  | n + 1, κ, v1, v2, v3, v4 =>
    p_cl (pX1_desks hb hu κ) fun t38 =>
    if t38 ≤ v4 then
      (some (-2 : Int32))
    else
    p_cl (pX1_asks hb hu κ v4) fun t47 =>
    if 0 ≤ t47 then
      (p_cl (pX1_holds F hb hu κ v1 v2 v4) fun t61 =>
      p_cl (pX1_asks hb hu κ v4) fun t72 =>
      p_cl (pX1_holds F hb hu κ v1 v2 t72) fun t75 =>
      if t61 < 0 then
        (bX1_differ_35 F hb hu n κ v1 v2 v3 (v4 + (1 : Int32)))
      else
      if t75 < 0 then
        (bX1_differ_35 F hb hu n κ v1 v2 v3 (v4 + (1 : Int32)))
      else
      if t61 = t75 then
        (bX1_differ_35 F hb hu n κ v1 v2 v3 (v4 + (1 : Int32)))
      else
      if v3 = 0 then
        (some v4)
      else
      p_cl (pX1_asks hb hu κ v4) fun t109 =>
      some t109)
    else
    bX1_differ_35 F hb hu n κ v1 v2 v3 (v4 + (1 : Int32))
def pX1_differ (F : Nat) (hb : Nat) (hu : hd_T) (κ : kp_K) (v1 : Int32) (v2 : Int32) (v3 : Int32) : Option (Int32) :=
  p_cl (pX1_isDesk hb hu κ v1) fun t2 =>
  if t2 = 0 then
    (some (-1 : Int32))
  else
  p_cl (pX1_isDesk hb hu κ v2) fun t10 =>
  if t10 = 0 then
    (some (-1 : Int32))
  else
  if v1 = v2 then
    (some (-1 : Int32))
  else
  p_cl (pX1_isIn v3 (0 : Int32) (1 : Int32)) fun t24 =>
  if t24 = 0 then
    (some (-1 : Int32))
  else
  bX1_differ_35 F hb hu F κ v1 v2 v3 (0 : Int32)
def bX1_ignorant_69 (F : Nat) (hb : Nat) (hu : hd_T) (k14 : kp_K → Int32 → Int32 → Int32 → Option (Int32)) (κ : kp_K) (v1 : Int32) (v2 : Int32) (v3 : Int32) (v4 : Int32) : Option (Int32) :=
  if v4 < 0 then
    (p_lt (v2 ||| ((1 : Int32) <<< (v3 &&& 31))) fun t96 =>
    k14 κ v1 t96 (v3 + (1 : Int32)))
  else
  p_cl (pX5_lineOf F 0 κ v4 v1) fun t82 =>
  if 0 ≤ t82 then
    (p_lt (v2 ||| (0 : Int32)) fun t96_3 =>
    k14 κ v1 t96_3 (v3 + (1 : Int32)))
  else
  p_lt (v2 ||| ((1 : Int32) <<< (v3 &&& 31))) fun t96_4 =>
  k14 κ v1 t96_4 (v3 + (1 : Int32))
def bX1_ignorant_28 (F : Nat) (hb : Nat) (hu : hd_T) (k14 : kp_K → Int32 → Int32 → Int32 → Option (Int32)) : Nat → kp_K → Int32 → Int32 → Int32 → Int32 → Int32 → Option (Int32)
  | 0, _, _, _, _, _, _ => none
  | n + 1, κ, v1, v2, v3, v4, v5 =>
    p_cl (pX1_desks hb hu κ) fun t31 =>
    if t31 ≤ v5 then
      (bX1_ignorant_69 F hb hu k14 κ v1 v2 v3 v4)
    else
    if v4 < 0 then
      (bX1_ignorant_69 F hb hu k14 κ v1 v2 v3 v4)
    else
    p_cl (pX5_lineOf F 0 κ v4 v1) fun t49 =>
    if 0 ≤ t49 then
      (bX1_ignorant_69 F hb hu k14 κ v1 v2 v3 v4)
    else
    p_cl (pX1_asks hb hu κ v4) fun t58 =>
    bX1_ignorant_28 F hb hu k14 n κ v1 v2 v3 t58 (v5 + (1 : Int32))
def bX1_ignorant_14 (F : Nat) (hb : Nat) (hu : hd_T) : Nat → kp_K → Int32 → Int32 → Int32 → Option (Int32)
  | 0, _, _, _, _ => none
  | n + 1, κ, v1, v2, v3 =>
    p_cl (pX1_desks hb hu κ) fun t16 =>
    if t16 ≤ v3 then
      (some v2)
    else
    bX1_ignorant_28 F hb hu (bX1_ignorant_14 F hb hu n) F κ v1 v2 v3 v3 (0 : Int32)
def pX1_ignorant (F : Nat) (hb : Nat) (hu : hd_T) (κ : kp_K) (v1 : Int32) : Option (Int32) :=
  p_cl (pX1_isFact hb hu κ v1) fun t2 =>
  if t2 = 0 then
    (some (-1 : Int32))
  else
  bX1_ignorant_14 F hb hu F κ v1 (0 : Int32) (0 : Int32)
def bX1_spy_64 (F : Nat) (hb : Nat) (hu : hd_T) (k28 : kp_K → Int32 → Int32 → Int32 → Int32 → Option (Int32)) (κ : kp_K) (v1 : Int32) (v2 : Int32) (v4 : Int32) (s0 : Int32) : Option (Int32) :=
  p_lt (s0 + (0 : Int32)) fun t66 =>
  k28 κ v1 v2 t66 (v4 + (1 : Int32))
def bX1_spy_28 (F : Nat) (hb : Nat) (hu : hd_T) : Nat → kp_K → Int32 → Int32 → Int32 → Int32 → Option (Int32)
  | 0, _, _, _, _, _ => none
  | n + 1, κ, v1, v2, v3, v4 =>
    p_cl (pX1_desks hb hu κ) fun t31 =>
    if t31 ≤ v4 then
      (some v3)
    else
    p_cl (pX1_isOf v1 v4) fun t41 =>
    if t41 = 0 then
      (bX1_spy_64 F hb hu (bX1_spy_28 F hb hu n) κ v1 v2 v4 v3)
    else
    p_cl (pX5_lineOf F 0 κ v4 v2) fun t54 =>
    if t54 < 0 then
      (bX1_spy_64 F hb hu (bX1_spy_28 F hb hu n) κ v1 v2 v4 v3)
    else
    p_lt (v3 + (1 : Int32)) fun t66 =>
    bX1_spy_28 F hb hu n κ v1 v2 t66 (v4 + (1 : Int32))
def pX1_spy (F : Nat) (hb : Nat) (hu : hd_T) (κ : kp_K) (v1 : Int32) (v2 : Int32) : Option (Int32) :=
  if v1 < 0 then
    (some (-1 : Int32))
  else
  p_cl (pX1_desks hb hu κ) fun t6 =>
  if (v1 >>> (t6 &&& 31)) = 0 then
    (p_cl (pX1_isFact hb hu κ v2) fun t15 =>
    if t15 = 0 then
      (some (-1 : Int32))
    else
    bX1_spy_28 F hb hu F κ v1 v2 (0 : Int32) (0 : Int32))
  else
  some (-1 : Int32)
def pX1_hears (κ : kp_K) (v1 : Int32) (v2 : Int32) : Option (Int32 × kp_K) :=
  p_ck (κ.1 0 25) 24 <|
  p_lt (s_i κ 63 (κ.1 0 25).toNatClampNeg v1) fun k9 =>
  p_ck (k9.1 0 25) 24 <|
  p_lt (s_i k9 64 (k9.1 0 25).toNatClampNeg v2) fun k19 =>
  p_lt (s_i k19 0 25 ((k19.1 0 25) + (1 : Int32))) fun k27 =>
  some (((k27.1 0 25) - (1 : Int32)), k27)
def pX1_hear (hb : Nat) (hu : hd_T) (κ : kp_K) (v1 : Int32) (v2 : Int32) : Option (Int32 × kp_K) :=
  if (24 : Int32) ≤ (κ.1 0 25) then
    (some ((-1 : Int32), κ))
  else
  p_hs (κ.2.2 0 4) hb <|
  p_cl (pX1_isIn v1 (0 : Int32) ((Int32.ofNat (hu.2.1 3)) - (1 : Int32))) fun t23 =>
  if t23 = 0 then
    (some ((-1 : Int32), κ))
  else
  p_cl (pX1_isIn v2 (0 : Int32) (2 : Int32)) fun t32 =>
  if t32 = 0 then
    (some ((-1 : Int32), κ))
  else
  p_cl (pX1_hears κ v1 v2) fun q41 => p_lt q41.1 fun t41 => p_lt q41.2 fun k41 =>
  some (t41, k41)
def pX1_strike (κ : kp_K) (v1 : Int32) : Option (Int32 × kp_K) :=
  if (24 : Int32) ≤ (κ.1 0 25) then
    (some ((-1 : Int32), κ))
  else
  p_cl (pX1_isIn v1 (0 : Int32) ((κ.1 0 25) - (1 : Int32))) fun t17 =>
  if t17 = 0 then
    (some ((-1 : Int32), κ))
  else
  p_cl (pX1_hears κ (-1 : Int32) v1) fun q26 => p_lt q26.1 fun t26 => p_lt q26.2 fun k26 =>
  some (t26, k26)
def pX1_known (κ : kp_K) (v1 : Int32) : Option (Int32 × kp_K) :=
  p_cl (pX1_isIn v1 (-1 : Int32) (κ.1 0 25)) fun t6 =>
  if t6 = 0 then
    (some ((0 : Int32), κ))
  else
  p_lt (s_i κ 0 26 v1) fun k16 =>
  some ((1 : Int32), k16)
def pX1_knownBy (κ : kp_K) : Option (Int32) :=
  if 0 ≤ (κ.1 0 26) then
    (some (κ.1 0 26))
  else
  some (κ.1 0 25)
def pX4_clear (ch : Nat) (κ : kp_K) (o1 : Option Nat) : Option (kp_K) :=
  p_lt (s_r κ ch 0 o1) fun k2 =>
  p_lt (s_i k2 ch 1 (0 : Int32)) fun k7 =>
  p_lt (s_i k7 ch 2 (0 : Int32)) fun k12 =>
  p_lt (s_i k12 ch 3 (0 : Int32)) fun k17 =>
  p_lt (s_i k17 ch 4 (0 : Int32)) fun k22 =>
  p_lt (s_i k22 ch 5 (-1 : Int32)) fun k27 =>
  p_lt (s_i k27 ch 6 (-1 : Int32)) fun k32 =>
  some k32
def bX5_begin_63 (F : Nat) (r : Nat) : Nat → kp_K → Int32 → Option (kp_K)
  | 0, _, _ => none
  | n + 1, κ, v2 =>
    if (16 : Int32) ≤ v2 then
      (some κ)
    else
    p_ck v2 16 <|
    p_lt (s_i κ (25 + 14 * r) v2.toNatClampNeg (-2 : Int32)) fun k76 =>
    bX5_begin_63 F r n k76 (v2 + (1 : Int32))
def bX5_begin_22 (F : Nat) (r : Nat) : Nat → kp_K → Int32 → Option (kp_K)
  | 0, _, _ => none
  | n + 1, κ, v2 =>
    if (4 : Int32) ≤ v2 then
      (bX5_begin_63 F r F κ (0 : Int32))
    else
    p_ck v2 4 <|
    p_lt (s_i κ (14 + 14 * r) v2.toNatClampNeg (0 : Int32)) fun k33 =>
    p_ck v2 4 <|
    p_lt (s_i k33 (15 + 14 * r) v2.toNatClampNeg (0 : Int32)) fun k40 =>
    p_ck v2 4 <|
    p_lt (s_i k40 (16 + 14 * r) v2.toNatClampNeg (-1 : Int32)) fun k47 =>
    p_ck v2 4 <|
    p_lt (s_i k47 (17 + 14 * r) v2.toNatClampNeg (0 : Int32)) fun k54 =>
    bX5_begin_22 F r n k54 (v2 + (1 : Int32))
def pX5_begin (F : Nat) (r : Nat) (κ : kp_K) (a1 : Nat) : Option (kp_K) :=
  p_lt (s_r κ (13 + 14 * r) 0 (some a1)) fun k2 =>
  p_lt (s_i k2 (13 + 14 * r) 1 (0 : Int32)) fun k7 =>
  p_lt (s_i k7 (13 + 14 * r) 16 (0 : Int32)) fun k12 =>
  p_lt (s_i k12 (13 + 14 * r) 13 (0 : Int32)) fun k17 =>
  bX5_begin_22 F r F k17 (0 : Int32)
def bX1_isFit_27 (F : Nat) (hb : Nat) (hu : hd_T) : Nat → kp_K → Int32 → Option (Int32 × kp_K)
  | 0, _, _ => none
  | n + 1, κ, v2 =>
    p_cl (pX1_knownBy κ) fun t29 =>
    if t29 ≤ v2 then
      (some ((1 : Int32), κ))
    else
    p_ck v2 24 <|
    if (κ.1 65 v2.toNatClampNeg) = 0 then
      (p_ck v2 24 <|
      if (κ.1 63 v2.toNatClampNeg) < 0 then
        (bX1_isFit_27 F hb hu n κ (v2 + (1 : Int32)))
      else
      p_ck v2 24 <|
      p_lt (κ.1 63 v2.toNatClampNeg) fun i66 =>
      p_ck i66 16 <|
      p_ck v2 24 <|
      if (κ.1 39 i66.toNatClampNeg) = (κ.1 64 v2.toNatClampNeg) then
        (bX1_isFit_27 F hb hu n κ (v2 + (1 : Int32)))
      else
      some ((0 : Int32), κ))
    else
    bX1_isFit_27 F hb hu n κ (v2 + (1 : Int32))
def pX1_isFit (F : Nat) (hb : Nat) (hu : hd_T) (κ : kp_K) (o1 : Option Nat) : Option (Int32 × kp_K) :=
  p_cl (pX4_clear 12 κ o1) fun k9 =>
  p_cl (pX5_begin F 1 k9 12) fun k12 =>
  p_cl (pX5_to F hb hu 1 k12 (61 : Int32)) fun k21 =>
  bX1_isFit_27 F hb hu F k21 (0 : Int32)
def bX1_fits_105 (F : Nat) (hb : Nat) (hu : hd_T) : Nat → kp_K → Int32 → Int32 → Int32 → Option (Int32 × kp_K)
  | 0, _, _, _, _ => none
  | n + 1, κ, v1, v2, v3 =>
    if v1 ≤ v3 then
      (some (v2, κ))
    else
    p_hs (κ.2.2 0 4) hb <|
    p_ck v3 (hu.2.1 5) <|
    p_cl (pX1_isFit F hb hu κ (hu.2.2.1 (10 + v3.toNatClampNeg))) fun q129 => p_lt q129.1 fun t129 => p_lt q129.2 fun k129 =>
    if t129 = 0 then
      (p_lt (v2 ||| (0 : Int32)) fun t143 =>
      bX1_fits_105 F hb hu n k129 v1 t143 (v3 + (1 : Int32)))
    else
    p_lt (v2 ||| ((1 : Int32) <<< (v3 &&& 31))) fun t143_4 =>
    bX1_fits_105 F hb hu n k129 v1 t143_4 (v3 + (1 : Int32))
def bX1_fits_30 (F : Nat) (hb : Nat) (hu : hd_T) : Nat → kp_K → Int32 → Option (Int32 × kp_K)
  | 0, _, _ => none
  | n + 1, κ, v1 =>
    if v1 < 0 then
      (p_hs (κ.2.2 0 4) hb <|
      p_lt (Int32.ofNat (hu.2.1 5)) fun t80 =>
      p_hs (κ.2.2 0 4) hb <|
      p_cl (pX1_isFit F hb hu κ (hu.2.2.1 6)) fun q89 => p_lt q89.1 fun t89 => p_lt q89.2 fun k89 =>
      if t89 = 0 then
        (bX1_fits_105 F hb hu F k89 t80 (0 : Int32) (0 : Int32))
      else
      p_lt ((1 : Int32) <<< (t80 &&& 31)) fun t102 =>
      bX1_fits_105 F hb hu F k89 t80 t102 (0 : Int32))
    else
    p_ck v1 24 <|
    if (κ.1 65 v1.toNatClampNeg) = 0 then
      (p_ck v1 24 <|
      if 0 ≤ (κ.1 63 v1.toNatClampNeg) then
        (bX1_fits_30 F hb hu n κ (v1 + (-1 : Int32)))
      else
      p_ck v1 24 <|
      p_ck (κ.1 64 v1.toNatClampNeg) 24 <|
      p_lt (s_i κ 65 (κ.1 64 v1.toNatClampNeg).toNatClampNeg (1 : Int32)) fun k63 =>
      bX1_fits_30 F hb hu n k63 (v1 + (-1 : Int32)))
    else
    bX1_fits_30 F hb hu n κ (v1 + (-1 : Int32))
def bX1_fits_2 (F : Nat) (hb : Nat) (hu : hd_T) : Nat → kp_K → Int32 → Option (Int32 × kp_K)
  | 0, _, _ => none
  | n + 1, κ, v1 =>
    p_cl (pX1_knownBy κ) fun t4 =>
    if t4 ≤ v1 then
      (p_cl (pX1_knownBy κ) fun t24 =>
      p_lt (t24 - (1 : Int32)) fun t29 =>
      bX1_fits_30 F hb hu F κ t29)
    else
    p_ck v1 24 <|
    p_lt (s_i κ 65 v1.toNatClampNeg (0 : Int32)) fun k16 =>
    bX1_fits_2 F hb hu n k16 (v1 + (1 : Int32))
def pX1_fits (F : Nat) (hb : Nat) (hu : hd_T) (κ : kp_K) : Option (Int32 × kp_K) :=
  bX1_fits_2 F hb hu F κ (0 : Int32)
def pX1_lays (hb : Nat) (hu : hd_T) (κ : kp_K) (v1 : Int32) (v2 : Int32) : Option (Int32 × kp_K) :=
  p_hs (κ.2.2 0 4) hb <|
  p_cl (pX4_clear 12 κ (hu.2.2.1 6)) fun k11 =>
  if v1 = (0 : Int32) then
    (p_lt (s_i k11 12 1 (1 : Int32)) fun k61 =>
    if v2 = 0 then
      (some ((1 : Int32), k61))
    else
    some ((0 : Int32), k61))
  else
  if v1 = (1 : Int32) then
    (p_lt (s_i k11 12 2 (1 : Int32)) fun k79 =>
    if v2 = 0 then
      (some ((1 : Int32), k79))
    else
    some ((0 : Int32), k79))
  else
  if v1 = (2 : Int32) then
    (p_lt (s_i k11 12 3 (1 : Int32)) fun k97 =>
    if v2 = 0 then
      (some ((1 : Int32), k97))
    else
    some ((0 : Int32), k97))
  else
  if v1 = (3 : Int32) then
    (p_lt (s_i k11 12 4 (1 : Int32)) fun k115 =>
    if v2 = 0 then
      (some ((1 : Int32), k115))
    else
    some ((0 : Int32), k115))
  else
  if v1 = (4 : Int32) then
    (p_lt (s_i k11 12 5 v2) fun k133 =>
    p_cl (pX1_isDesk hb hu k133 v2) fun t138 =>
    p_cz t138 <|
    some (t138, k133))
  else
  if v1 = (5 : Int32) then
    (p_lt (s_i k11 12 6 v2) fun k147 =>
    p_hs (k147.2.2 0 4) hb <|
    p_cl (pX1_isIn v2 (0 : Int32) ((Int32.ofNat (hu.2.1 2)) - (1 : Int32))) fun t164 =>
    p_cz t164 <|
    some (t164, k147))
  else
  some ((0 : Int32), k11)
def pX1_tried (F : Nat) (hb : Nat) (hu : hd_T) (κ : kp_K) (v1 : Int32) (v2 : Int32) (v3 : Int32) : Option (Int32 × kp_K) :=
  p_cl (pX1_isDesk hb hu κ v3) fun t2 =>
  if t2 = 0 then
    (some ((-1 : Int32), κ))
  else
  p_cl (pX1_lays hb hu κ v1 v2) fun q11 => p_lt q11.1 fun t11 => p_lt q11.2 fun k11 =>
  if t11 = 0 then
    (some ((-1 : Int32), k11))
  else
  p_cl (pX5_begin F 1 k11 12) fun k27 =>
  p_cl (pX5_to F hb hu 1 k27 (k27.1 13 1)) fun k41 =>
  p_ck v3 4 <|
  some ((k41.1 29 v3.toNatClampNeg), k41)
def pX5_copy (r : Nat) (κ : kp_K) (r1 : Nat) : Option (kp_K) :=
  p_ch (κ.2.2 (13 + 14 * r1) 0) fun a2 =>
  p_lt (s_r κ (13 + 14 * r) 0 (some a2)) fun k5 =>
  p_lt (s_i k5 (13 + 14 * r) 1 (k5.1 (13 + 14 * r1) 1)) fun k13 =>
  p_lt (s_i k13 (13 + 14 * r) 16 (k13.1 (13 + 14 * r1) 16)) fun k21 =>
  p_lt (s_c k21 (14 + 14 * r1) (14 + 14 * r) (0 : Int32).toNatClampNeg (0 : Int32).toNatClampNeg (4 : Int32).toNatClampNeg) fun k35 =>
  p_lt (s_c k35 (15 + 14 * r1) (15 + 14 * r) (0 : Int32).toNatClampNeg (0 : Int32).toNatClampNeg (4 : Int32).toNatClampNeg) fun k49 =>
  p_lt (s_c k49 (16 + 14 * r1) (16 + 14 * r) (0 : Int32).toNatClampNeg (0 : Int32).toNatClampNeg (4 : Int32).toNatClampNeg) fun k63 =>
  p_lt (s_c k63 (18 + 14 * r1) (18 + 14 * r) (0 : Int32).toNatClampNeg (0 : Int32).toNatClampNeg (28 : Int32).toNatClampNeg) fun k78 =>
  p_lt (s_c k78 (19 + 14 * r1) (19 + 14 * r) (0 : Int32).toNatClampNeg (0 : Int32).toNatClampNeg (28 : Int32).toNatClampNeg) fun k93 =>
  p_lt (s_c k93 (20 + 14 * r1) (20 + 14 * r) (0 : Int32).toNatClampNeg (0 : Int32).toNatClampNeg (28 : Int32).toNatClampNeg) fun k108 =>
  p_lt (s_c k108 (25 + 14 * r1) (25 + 14 * r) (0 : Int32).toNatClampNeg (0 : Int32).toNatClampNeg (16 : Int32).toNatClampNeg) fun k123 =>
  p_lt (s_c k123 (26 + 14 * r1) (26 + 14 * r) (0 : Int32).toNatClampNeg (0 : Int32).toNatClampNeg (900 : Int32).toNatClampNeg) fun k139 =>
  some k139
def pX1_keep (κ : kp_K) : Option (Int32 × kp_K) :=
  p_lt (s_i κ 0 27 (1 : Int32)) fun k2 =>
  p_cl (pX5_copy 2 k2 0) fun k13 =>
  some ((k13.1 13 1), k13)
def pX1_back (κ : kp_K) : Option (Int32 × kp_K) :=
  if (κ.1 0 27) = 0 then
    (some ((-1 : Int32), κ))
  else
  p_cl (pX5_copy 0 κ 2) fun k17 =>
  some ((k17.1 13 1), k17)
def bX1_count_133 (F : Nat) (hb : Nat) (hu : hd_T) : Nat → kp_K → Int32 → Int32 → Option (Int32)
  | 0, _, _, _ => none
  | n + 1, κ, v2, v3 =>
    p_cl (pX1_desks hb hu κ) fun t135 =>
    if t135 ≤ v3 then
      (some v2)
    else
    p_ck v3 4 <|
    p_lt (v2 + (κ.1 15 v3.toNatClampNeg)) fun t152 =>
    bX1_count_133 F hb hu n κ t152 (v3 + (1 : Int32))
def pX1_count (F : Nat) (hb : Nat) (hu : hd_T) (κ : kp_K) (v1 : Int32) : Option (Int32) :=
  if v1 = (0 : Int32) then
    (p_cl (pX1_desks hb hu κ) fun t57 =>
    some t57)
  else
  if v1 = (1 : Int32) then
    (p_hs (κ.2.2 0 4) hb <|
    some (Int32.ofNat (hu.2.1 1)))
  else
  if v1 = (2 : Int32) then
    (p_hs (κ.2.2 0 4) hb <|
    some (Int32.ofNat (hu.2.1 2)))
  else
  if v1 = (3 : Int32) then
    (p_hs (κ.2.2 0 4) hb <|
    some (Int32.ofNat (hu.2.1 3)))
  else
  if v1 = (4 : Int32) then
    (p_hs (κ.2.2 0 4) hb <|
    some (Int32.ofNat (hu.2.1 5)))
  else
  if v1 = (5 : Int32) then
    (p_hs (κ.2.2 0 4) hb <|
    some (hu.2.2.2.1 9))
  else
  if v1 = (6 : Int32) then
    (some (κ.1 13 1))
  else
  if v1 = (7 : Int32) then
    (some (κ.1 0 25))
  else
  if v1 = (8 : Int32) then
    (p_cl (pX1_knownBy κ) fun t127 =>
    some t127)
  else
  if v1 = (9 : Int32) then
    (bX1_count_133 F hb hu F κ (0 : Int32) (0 : Int32))
  else
  some (-1 : Int32)
