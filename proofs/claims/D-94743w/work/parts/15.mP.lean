/-! the reference: its methods as pure programs: printed by gen -/
set_option maxRecDepth 100000
def DG : Nat := 700
def pX6_thrown (κ : kp_K) : Option (Int32) :=
  some (κ.1 66 0)
def bX6_feed_73 (F : Nat) (k20 : kp_K → Int32 → Int32 → Int32 → Int32 → Int32 → Int32 → Option (Int32 × kp_K)) (κ : kp_K) (v1 : Int32) (v2 : Int32) (v3 : Int32) (v4 : Int32) (v5 : Int32) (v6 : Int32) (s0 : Int32) : Option (Int32 × kp_K) :=
  p_cd (4 : Int32) <|
  p_ck ((κ.1 66 2) + v6) 900 <|
  p_lt (s_i κ 67 ((κ.1 66 2) + v6).toNatClampNeg ((s0 >>> (((24 : Int32) - ((8 : Int32) * (v6 - v6 / (4 : Int32) * (4 : Int32)))) &&& 31)) &&& (255 : Int32))) fun k103 =>
  k20 k103 v1 v2 v3 v4 v5 (v6 + (1 : Int32))
def bX6_feed_20 (F : Nat) : Nat → kp_K → Int32 → Int32 → Int32 → Int32 → Int32 → Int32 → Option (Int32 × kp_K)
  | 0, _, _, _, _, _, _, _ => none
  | n + 1, κ, v1, v2, v3, v4, v5, v6 =>
    if (20 : Int32) ≤ v6 then
      (p_lt (s_i κ 66 2 ((κ.1 66 2) + (20 : Int32))) fun k118 =>
      some ((k118.1 66 2), k118))
    else
    if (4 : Int32) ≤ v6 then
      (if (8 : Int32) ≤ v6 then
        (if (12 : Int32) ≤ v6 then
          (if (16 : Int32) ≤ v6 then
            (bX6_feed_73 F (bX6_feed_20 F n) κ v1 v2 v3 v4 v5 v6 v5)
          else
          bX6_feed_73 F (bX6_feed_20 F n) κ v1 v2 v3 v4 v5 v6 v4)
        else
        bX6_feed_73 F (bX6_feed_20 F n) κ v1 v2 v3 v4 v5 v6 v3)
      else
      bX6_feed_73 F (bX6_feed_20 F n) κ v1 v2 v3 v4 v5 v6 v2)
    else
    bX6_feed_73 F (bX6_feed_20 F n) κ v1 v2 v3 v4 v5 v6 v1
def pX6_feed (F : Nat) (κ : kp_K) (v1 : Int32) (v2 : Int32) (v3 : Int32) (v4 : Int32) (v5 : Int32) : Option (Int32 × kp_K) :=
  p_lt (s_i κ 66 0 (0 : Int32)) fun k2 =>
  if (k2.1 66 2) ≤ (880 : Int32) then
    (bX6_feed_20 F F k2 v1 v2 v3 v4 v5 (0 : Int32))
  else
  some ((-1 : Int32), k2)
def pX6_here (κ : kp_K) : Option (Int32) :=
  if (κ.1 66 26) ≤ (κ.1 66 27) then
    (some (-1 : Int32))
  else
  p_lt (κ.1 66 27) fun i19 =>
  p_ck i19 900 <|
  some (κ.1 67 i19.toNatClampNeg)
def pX6_isSmall (v0 : Int32) : Option (Int32) :=
  if v0 < (97 : Int32) then
    (some (0 : Int32))
  else
  if (122 : Int32) < v0 then
    (some (0 : Int32))
  else
  some (1 : Int32)
def bX6_word_97 (F : Nat) (k4 : kp_K → Int32 → Int32 → Option (Int32)) : Nat → kp_K → Int32 → Int32 → Option (Int32)
  | 0, _, _, _ => none
  | n + 1, κ, v1, v2 =>
    p_cl (pJ3_charAt 2 v2) fun t100 =>
    if t100 = (32 : Int32) then
      (k4 κ (v1 + (1 : Int32)) (v2 + (1 : Int32)))
    else
    bX6_word_97 F k4 n κ v1 (v2 + (1 : Int32))
def bX6_word_69 (F : Nat) (k4 : kp_K → Int32 → Int32 → Option (Int32)) (κ : kp_K) (v1 : Int32) (v2 : Int32) (v3 : Int32) : Option (Int32) :=
  p_cl (pJ3_charAt 2 (v2 + v3)) fun t74 =>
  if t74 = (32 : Int32) then
    (if ((κ.1 66 28) + v3) = (κ.1 66 27) then
      (some v1)
    else
    bX6_word_97 F k4 F κ v1 v2)
  else
  bX6_word_97 F k4 F κ v1 v2
def bX6_word_15 (F : Nat) (k4 : kp_K → Int32 → Int32 → Option (Int32)) : Nat → kp_K → Int32 → Int32 → Int32 → Option (Int32)
  | 0, _, _, _, _ => none
  | n + 1, κ, v1, v2, v3 =>
    p_cl (pJ3_charAt 2 (v2 + v3)) fun t20 =>
    if t20 = (32 : Int32) then
      (bX6_word_69 F k4 κ v1 v2 v3)
    else
    if (κ.1 66 27) ≤ ((κ.1 66 28) + v3) then
      (bX6_word_69 F k4 κ v1 v2 v3)
    else
    p_lt ((κ.1 66 28) + v3) fun i51 =>
    p_ck i51 900 <|
    p_cl (pJ3_charAt 2 (v2 + v3)) fun t57 =>
    if (κ.1 67 i51.toNatClampNeg) = t57 then
      (bX6_word_15 F k4 n κ v1 v2 (v3 + (1 : Int32)))
    else
    bX6_word_69 F k4 κ v1 v2 v3
def bX6_word_4 (F : Nat) : Nat → kp_K → Int32 → Int32 → Option (Int32)
  | 0, _, _, _ => none
  | n + 1, κ, v1, v2 =>
    p_cl (pJ3_length 2) fun t7 =>
    if t7 ≤ v2 then
      (some (-1 : Int32))
    else
    bX6_word_15 F (bX6_word_4 F n) F κ v1 v2 (0 : Int32)
def pX6_word (F : Nat) (κ : kp_K) : Option (Int32) :=
  bX6_word_4 F F κ (0 : Int32) (0 : Int32)
def bX6_name_53 (F : Nat) (k7 : kp_K → Int32 → Option (kp_K)) (κ : kp_K) (v1 : Int32) (s0 : Int32) (s1 : Int32) : Option (kp_K) :=
  p_lt (s_i κ 66 30 (s1 ||| s0)) fun k54 =>
  k7 k54 (v1 + (1 : Int32))
def bX6_name_7 (F : Nat) : Nat → kp_K → Int32 → Option (kp_K)
  | 0, _, _ => none
  | n + 1, κ, v1 =>
    if (6 : Int32) ≤ v1 then
      (some κ)
    else
    if (κ.1 66 27) ≤ ((κ.1 66 28) + v1) then
      (bX6_name_53 F (bX6_name_7 F n) κ v1 (0 : Int32) ((κ.1 66 30) <<< ((5 : Int32) &&& 31)))
    else
    p_lt ((κ.1 66 28) + v1) fun i43 =>
    p_ck i43 900 <|
    bX6_name_53 F (bX6_name_7 F n) κ v1 (((κ.1 67 i43.toNatClampNeg) - (97 : Int32)) + (1 : Int32)) ((κ.1 66 30) <<< ((5 : Int32) &&& 31))
def pX6_name (F : Nat) (κ : kp_K) : Option (kp_K) :=
  p_lt (s_i κ 66 30 (0 : Int32)) fun k2 =>
  bX6_name_7 F F k2 (0 : Int32)
def pX6_isDigit (v0 : Int32) : Option (Int32) :=
  if v0 < (48 : Int32) then
    (some (0 : Int32))
  else
  if (57 : Int32) < v0 then
    (some (0 : Int32))
  else
  some (1 : Int32)
def bX6_sign_150 (κ : kp_K) : Option (kp_K) :=
  if (κ.1 66 30) < (256 : Int32) then
    (some κ)
  else
  p_lt (s_i κ 66 27 ((κ.1 66 27) + (1 : Int32))) fun k167 =>
  some k167
def bX6_sign_128 (κ : kp_K) (v1 : Int32) : Option (kp_K) :=
  if v1 = (62 : Int32) then
    (p_cl (pX6_here κ) fun t135 =>
    if t135 = (61 : Int32) then
      (p_lt (s_i κ 66 30 (258 : Int32)) fun k147 =>
      bX6_sign_150 k147)
    else
    bX6_sign_150 κ)
  else
  bX6_sign_150 κ
def bX6_sign_106 (κ : kp_K) (v1 : Int32) : Option (kp_K) :=
  if v1 = (60 : Int32) then
    (p_cl (pX6_here κ) fun t113 =>
    if t113 = (62 : Int32) then
      (p_lt (s_i κ 66 30 (257 : Int32)) fun k125 =>
      bX6_sign_128 k125 v1)
    else
    bX6_sign_128 κ v1)
  else
  bX6_sign_128 κ v1
def bX6_sign_76 (κ : kp_K) (v1 : Int32) (s0 : Int32) : Option (kp_K) :=
  p_lt (s_i κ 66 29 s0) fun k76 =>
  p_lt (s_i k76 66 30 v1) fun k81 =>
  if v1 = (60 : Int32) then
    (p_cl (pX6_here k81) fun t91 =>
    if t91 = (61 : Int32) then
      (p_lt (s_i k81 66 30 (256 : Int32)) fun k103 =>
      bX6_sign_106 k103 v1)
    else
    bX6_sign_106 k81 v1)
  else
  bX6_sign_106 k81 v1
def bX6_sign_71 (κ : kp_K) (v1 : Int32) : Option (kp_K) :=
  bX6_sign_76 κ v1 (3 : Int32)
def pX6_sign (κ : kp_K) (v1 : Int32) : Option (kp_K) :=
  p_lt (s_i κ 66 27 ((κ.1 66 27) + (1 : Int32))) fun k7 =>
  if v1 = (59 : Int32) then
    (bX6_sign_71 k7 v1)
  else
  if v1 = (40 : Int32) then
    (bX6_sign_71 k7 v1)
  else
  if v1 = (41 : Int32) then
    (bX6_sign_71 k7 v1)
  else
  if v1 = (43 : Int32) then
    (bX6_sign_71 k7 v1)
  else
  if v1 = (45 : Int32) then
    (bX6_sign_71 k7 v1)
  else
  if v1 = (42 : Int32) then
    (bX6_sign_71 k7 v1)
  else
  if v1 = (47 : Int32) then
    (bX6_sign_71 k7 v1)
  else
  if v1 = (60 : Int32) then
    (bX6_sign_71 k7 v1)
  else
  if v1 = (61 : Int32) then
    (bX6_sign_71 k7 v1)
  else
  if v1 = (62 : Int32) then
    (bX6_sign_71 k7 v1)
  else
  bX6_sign_76 k7 v1 (5 : Int32)
def bX6_token_18 (F : Nat) (k0 : kp_K → Option (kp_K)) (κ : kp_K) : Option (kp_K) :=
  p_lt (s_i κ 66 27 ((κ.1 66 27) + (1 : Int32))) fun k25 =>
  k0 k25
def bX6_token_205 (F : Nat) (k162 : kp_K → Option (kp_K)) (κ : kp_K) (s0 : Int32) : Option (kp_K) :=
  p_lt (s_i κ 66 30 s0) fun k205 =>
  p_lt (s_i k205 66 27 ((k205.1 66 27) + (1 : Int32))) fun k215 =>
  k162 k215
def bX6_token_162 (F : Nat) : Nat → kp_K → Option (kp_K)
  | 0, _ => none
  | n + 1, κ =>
    p_cl (pX6_here κ) fun t163 =>
    p_cl (pX6_isDigit t163) fun t166 =>
    if t166 = 0 then
      (some κ)
    else
    if (κ.1 66 30) ≤ (9999 : Int32) then
      (p_cl (pX6_here κ) fun t198 =>
      bX6_token_205 F (bX6_token_162 F n) κ ((((10 : Int32) * (κ.1 66 30)) + t198) - (48 : Int32)))
    else
    bX6_token_205 F (bX6_token_162 F n) κ (κ.1 66 30)
def bX6_token_127 (F : Nat) (κ : kp_K) (s0 : Int32) : Option (kp_K) :=
  p_lt (s_i κ 66 29 s0) fun k127 =>
  if (k127.1 66 29) = (1 : Int32) then
    (p_cl (pX6_name F k127) fun k139 =>
    some k139)
  else
  some k127
def bX6_token_64 (F : Nat) : Nat → kp_K → Option (kp_K)
  | 0, _ => none
  | n + 1, κ =>
    p_cl (pX6_here κ) fun t65 =>
    p_cl (pX6_isSmall t65) fun t68 =>
    if t68 = 0 then
      (p_cl (pX6_word F κ) fun t89 =>
      p_lt (s_i κ 66 30 t89) fun k92 =>
      if (k92.1 66 30) = (-1 : Int32) then
        (if ((k92.1 66 27) - (k92.1 66 28)) ≤ (6 : Int32) then
          (bX6_token_127 F k92 (1 : Int32))
        else
        bX6_token_127 F k92 (5 : Int32))
      else
      bX6_token_127 F k92 (0 : Int32))
    else
    p_lt (s_i κ 66 27 ((κ.1 66 27) + (1 : Int32))) fun k81 =>
    bX6_token_64 F n k81
def bX6_token_0 (F : Nat) : Nat → kp_K → Option (kp_K)
  | 0, _ => none
  | n + 1, κ =>
    p_cl (pX6_here κ) fun t1 =>
    if t1 = (10 : Int32) then
      (bX6_token_18 F (bX6_token_0 F n) κ)
    else
    p_cl (pX6_here κ) fun t10 =>
    if t10 = (32 : Int32) then
      (bX6_token_18 F (bX6_token_0 F n) κ)
    else
    p_lt (s_i κ 66 28 (κ.1 66 27)) fun k36 =>
    p_cl (pX6_here k36) fun t40 =>
    if t40 = (-1 : Int32) then
      (p_lt (s_i k36 66 29 (4 : Int32)) fun k51 =>
      some k51)
    else
    p_cl (pX6_isSmall t40) fun t58 =>
    if t58 = 0 then
      (p_cl (pX6_isDigit t40) fun t146 =>
      if t146 = 0 then
        (p_cl (pX6_sign k36 t40) fun k223 =>
        some k223)
      else
      p_lt (s_i k36 66 29 (2 : Int32)) fun k154 =>
      p_lt (s_i k154 66 30 (0 : Int32)) fun k159 =>
      bX6_token_162 F F k159)
    else
    bX6_token_64 F F k36
def pX6_token (F : Nat) (κ : kp_K) : Option (kp_K) :=
  bX6_token_0 F F κ
def pX6_wrong (κ : kp_K) (v1 : Int32) : Option (kp_K) :=
  if (κ.1 66 31) = 0 then
    (p_lt (s_i κ 66 31 v1) fun k10 =>
    p_lt (s_i k10 66 32 (k10.1 66 28)) fun k18 =>
    some k18)
  else
  some κ
def pX6_fresher (κ : kp_K) (v1 : Int32) : Option (Int32) :=
  p_lt ((8 : Int32) + v1) fun i8 =>
  p_ck i8 16 <|
  some (κ.1 68 i8.toNatClampNeg)
def bX6_isFull_72 (κ : kp_K) (v1 : Int32) : Option (Int32) :=
  if v1 = (8 : Int32) then
    (p_cl (pX6_fresher κ (5 : Int32)) fun t80 =>
    if t80 = (4 : Int32) then
      (some (1 : Int32))
    else
    some (0 : Int32))
  else
  some (0 : Int32)
def bX6_isFull_58 (κ : kp_K) (v1 : Int32) : Option (Int32) :=
  if v1 = (5 : Int32) then
    (p_cl (pX6_fresher κ (4 : Int32)) fun t65 =>
    if t65 = (4 : Int32) then
      (some (1 : Int32))
    else
    bX6_isFull_72 κ v1)
  else
  bX6_isFull_72 κ v1
def bX6_isFull_43 (κ : kp_K) (v1 : Int32) : Option (Int32) :=
  if v1 = (4 : Int32) then
    (p_cl (pX6_fresher κ (3 : Int32)) fun t50 =>
    if t50 = (16 : Int32) then
      (some (1 : Int32))
    else
    bX6_isFull_58 κ v1)
  else
  bX6_isFull_58 κ v1
def bX6_isFull_28 (κ : kp_K) (v1 : Int32) : Option (Int32) :=
  if v1 = (3 : Int32) then
    (p_cl (pX6_fresher κ (2 : Int32)) fun t35 =>
    if t35 = (16 : Int32) then
      (some (1 : Int32))
    else
    bX6_isFull_43 κ v1)
  else
  bX6_isFull_43 κ v1
def bX6_isFull_13 (κ : kp_K) (v1 : Int32) : Option (Int32) :=
  if v1 = (2 : Int32) then
    (p_cl (pX6_fresher κ (1 : Int32)) fun t20 =>
    if t20 = (7 : Int32) then
      (some (1 : Int32))
    else
    bX6_isFull_28 κ v1)
  else
  bX6_isFull_28 κ v1
def pX6_isFull (κ : kp_K) (v1 : Int32) : Option (Int32) :=
  if v1 = 0 then
    (p_cl (pX6_fresher κ (0 : Int32)) fun t6 =>
    if t6 = (4 : Int32) then
      (some (1 : Int32))
    else
    bX6_isFull_13 κ v1)
  else
  bX6_isFull_13 κ v1
def bX6_found_3 (F : Nat) : Nat → kp_K → Nat → Int32 → Int32 → Int32 → Int32 → Option (Int32)
  | 0, _, _, _, _, _, _ => none
  | n + 1, κ, a0, v1, v2, v3, v4 =>
    if v2 ≤ v4 then
      (some (-1 : Int32))
    else
    p_lt (v1 + v4) fun i14 =>
    p_cl (aLen a0) fun n_a0 =>
    p_ck i14 n_a0 <|
    if (κ.1 a0 i14.toNatClampNeg) = v3 then
      (some v4)
    else
    bX6_found_3 F n κ a0 v1 v2 v3 (v4 + (1 : Int32))
def pX6_found (F : Nat) (κ : kp_K) (a0 : Nat) (v1 : Int32) (v2 : Int32) (v3 : Int32) : Option (Int32) :=
  bX6_found_3 F F κ a0 v1 v2 v3 (0 : Int32)
def bX6_fresh_44 (F : Nat) (κ : kp_K) : Option (Int32 × kp_K) :=
  if (κ.1 66 31) = 0 then
    (p_lt (κ.1 66 30) fun t57 =>
    p_cl (pX6_token F κ) fun k60 =>
    some (t57, k60))
  else
  some ((0 : Int32), κ)
def pX6_fresh (F : Nat) (κ : kp_K) (a1 : Nat) (v2 : Int32) (v3 : Int32) : Option (Int32 × kp_K) :=
  if (κ.1 66 31) = 0 then
    (if (κ.1 66 29) = (1 : Int32) then
      (p_cl (pX6_found F κ a1 v2 v3 (κ.1 66 30)) fun t32 =>
      if t32 = (-1 : Int32) then
        (bX6_fresh_44 F κ)
      else
      p_cl (pX6_wrong κ (3 : Int32)) fun k41 =>
      bX6_fresh_44 F k41)
    else
    p_cl (pX6_wrong κ (1 : Int32)) fun k19 =>
    bX6_fresh_44 F k19)
  else
  some ((0 : Int32), κ)
def bX6_numeral_46 (F : Nat) (κ : kp_K) (v1 : Int32) : Option (Int32 × kp_K) :=
  if (κ.1 66 31) = 0 then
    (p_lt (κ.1 66 30) fun t59 =>
    p_cl (pX6_token F κ) fun k61 =>
    some (t59, k61))
  else
  some (v1, κ)
def bX6_numeral_41 (F : Nat) (κ : kp_K) (v1 : Int32) : Option (Int32 × kp_K) :=
  p_cl (pX6_wrong κ (2 : Int32)) fun k43 =>
  bX6_numeral_46 F k43 v1
def pX6_numeral (F : Nat) (κ : kp_K) (v1 : Int32) (v2 : Int32) : Option (Int32 × kp_K) :=
  if (κ.1 66 31) = 0 then
    (if (κ.1 66 29) = (2 : Int32) then
      (if (κ.1 66 30) < v1 then
        (bX6_numeral_41 F κ v1)
      else
      if (κ.1 66 30) ≤ v2 then
        (bX6_numeral_46 F κ v1)
      else
      bX6_numeral_41 F κ v1)
    else
    p_cl (pX6_wrong κ (1 : Int32)) fun k19 =>
    bX6_numeral_46 F k19 v1)
  else
  some (v1, κ)
def pX6_oneMore (κ : kp_K) (v1 : Int32) : Option (kp_K) :=
  p_lt ((8 : Int32) + v1) fun t8 =>
  p_ck t8 16 <|
  p_ck t8 16 <|
  p_lt (s_i κ 68 t8.toNatClampNeg ((κ.1 68 t8.toNatClampNeg) + (1 : Int32))) fun k12 =>
  some k12
def bX6_atHand_44 (F : Nat) (κ : kp_K) (a1 : Nat) (v2 : Int32) (v3 : Int32) : Option (Int32 × kp_K) :=
  if (κ.1 66 31) = 0 then
    (p_cl (pX6_found F κ a1 v2 v3 (κ.1 66 30)) fun t62 =>
    some (t62, κ))
  else
  some ((0 : Int32), κ)
def pX6_atHand (F : Nat) (κ : kp_K) (a1 : Nat) (v2 : Int32) (v3 : Int32) : Option (Int32 × kp_K) :=
  if (κ.1 66 31) = 0 then
    (if (κ.1 66 29) = (1 : Int32) then
      (p_cl (pX6_found F κ a1 v2 v3 (κ.1 66 30)) fun t32 =>
      if t32 = (-1 : Int32) then
        (p_cl (pX6_wrong κ (4 : Int32)) fun k41 =>
        bX6_atHand_44 F k41 a1 v2 v3)
      else
      bX6_atHand_44 F κ a1 v2 v3)
    else
    p_cl (pX6_wrong κ (1 : Int32)) fun k19 =>
    bX6_atHand_44 F k19 a1 v2 v3)
  else
  some ((0 : Int32), κ)
def pX6_goOn (F : Nat) (κ : kp_K) : Option (kp_K) :=
  if (κ.1 66 31) = 0 then
    (p_cl (pX6_token F κ) fun k8 =>
    some k8)
  else
  some κ
def bX6_asksLine_75 (F : Nat) (κ : kp_K) (v1 : Int32) (v2 : Int32) : Option (kp_K) :=
  if (κ.1 66 31) = 0 then
    (p_ck ((4 : Int32) + v1) 8 <|
    p_lt (s_i κ 71 ((4 : Int32) + v1).toNatClampNeg v2) fun k91 =>
    p_cl (pX6_token F k91) fun k93 =>
    some k93)
  else
  some κ
def bX6_asksLine_39 (F : Nat) (κ : kp_K) (v1 : Int32) : Option (kp_K) :=
  p_cl (pX6_goOn F κ) fun k40 =>
  p_cl (pX6_fresher k40 (0 : Int32)) fun t51 =>
  p_cl (pX6_atHand F k40 69 (4 : Int32) t51) fun q54 => p_lt q54.1 fun t54 => p_lt q54.2 fun k54 =>
  if (k54.1 66 31) = 0 then
    (if v1 = t54 then
      (p_cl (pX6_wrong k54 (5 : Int32)) fun k72 =>
      bX6_asksLine_75 F k72 v1 t54)
    else
    bX6_asksLine_75 F k54 v1 t54)
  else
  bX6_asksLine_75 F k54 v1 t54
def pX6_asksLine (F : Nat) (κ : kp_K) : Option (kp_K) :=
  p_cl (pX6_fresher κ (0 : Int32)) fun t8 =>
  p_cl (pX6_atHand F κ 69 (4 : Int32) t8) fun q11 => p_lt q11.1 fun t11 => p_lt q11.2 fun k11 =>
  if (k11.1 66 31) = 0 then
    (p_lt ((4 : Int32) + t11) fun i29 =>
    p_ck i29 8 <|
    if (k11.1 71 i29.toNatClampNeg) = (-1 : Int32) then
      (bX6_asksLine_39 F k11 t11)
    else
    p_cl (pX6_wrong k11 (3 : Int32)) fun k36 =>
    bX6_asksLine_39 F k36 t11)
  else
  bX6_asksLine_39 F k11 t11
def pX6_ahead (F : Nat) (κ : kp_K) (a1 : Nat) (v2 : Int32) (v3 : Int32) : Option (Int32 × kp_K) :=
  p_cl (pX6_atHand F κ a1 v2 v3) fun q4 => p_lt q4.1 fun t4 => p_lt q4.2 fun k4 =>
  p_cl (pX6_goOn F k4) fun k10 =>
  some (t4, k10)
def pX6_desk (F : Nat) (κ : kp_K) : Option (Int32 × kp_K) :=
  p_cl (pX6_fresher κ (0 : Int32)) fun t8 =>
  p_cl (pX6_ahead F κ 69 (4 : Int32) t8) fun q11 => p_lt q11.1 fun t11 => p_lt q11.2 fun k11 =>
  some (t11, k11)
def pX6_fact (F : Nat) (κ : kp_K) : Option (Int32 × kp_K) :=
  p_cl (pX6_fresher κ (1 : Int32)) fun t9 =>
  p_cl (pX6_ahead F κ 72 (7 : Int32) t9) fun q12 => p_lt q12.1 fun t12 => p_lt q12.2 fun k12 =>
  some (t12, k12)
def pX6_comesLine (F : Nat) (κ : kp_K) (v1 : Int32) : Option (kp_K) :=
  p_cl (pX6_numeral F κ (0 : Int32) (60 : Int32)) fun q9 => p_lt q9.1 fun t9 => p_lt q9.2 fun k9 =>
  p_ck v1 32 <|
  p_lt (s_i k9 74 v1.toNatClampNeg t9) fun k12 =>
  p_cl (pX6_desk F k12) fun q19 => p_lt q19.1 fun t19 => p_lt q19.2 fun k19 =>
  p_ck v1 32 <|
  p_lt (s_i k19 75 v1.toNatClampNeg t19) fun k22 =>
  p_cl (pX6_fact F k22) fun q29 => p_lt q29.1 fun t29 => p_lt q29.2 fun k29 =>
  p_ck v1 32 <|
  p_lt (s_i k29 76 v1.toNatClampNeg t29) fun k32 =>
  p_ck v1 32 <|
  p_cl (pX6_numeral F k32 (k32.1 74 v1.toNatClampNeg) (99 : Int32)) fun q47 => p_lt q47.1 fun t47 => p_lt q47.2 fun k47 =>
  p_ck v1 32 <|
  p_lt (s_i k47 77 v1.toNatClampNeg t47) fun k50 =>
  p_cl (pX6_oneMore k50 (2 : Int32)) fun k53 =>
  some k53
def pX6_questionLine (F : Nat) (κ : kp_K) (v1 : Int32) : Option (kp_K) :=
  p_cl (pX6_numeral F κ (0 : Int32) (60 : Int32)) fun q9 => p_lt q9.1 fun t9 => p_lt q9.2 fun k9 =>
  p_ck v1 32 <|
  p_lt (s_i k9 78 v1.toNatClampNeg t9) fun k12 =>
  p_cl (pX6_desk F k12) fun q19 => p_lt q19.1 fun t19 => p_lt q19.2 fun k19 =>
  p_ck v1 32 <|
  p_lt (s_i k19 79 v1.toNatClampNeg t19) fun k22 =>
  p_cl (pX6_fact F k22) fun q29 => p_lt q29.1 fun t29 => p_lt q29.2 fun k29 =>
  p_ck v1 32 <|
  p_lt (s_i k29 80 v1.toNatClampNeg t29) fun k32 =>
  p_cl (pX6_numeral F k32 (0 : Int32) (100 : Int32)) fun q42 => p_lt q42.1 fun t42 => p_lt q42.2 fun k42 =>
  p_ck v1 32 <|
  p_lt (s_i k42 81 v1.toNatClampNeg t42) fun k45 =>
  p_cl (pX6_oneMore k45 (3 : Int32)) fun k48 =>
  some k48
def pX6_isWord (κ : kp_K) (v1 : Int32) : Option (Int32) :=
  if (κ.1 66 31) = 0 then
    (if (κ.1 66 29) = 0 then
      (if (κ.1 66 30) = v1 then
        (some (1 : Int32))
      else
      some (0 : Int32))
    else
    some (0 : Int32))
  else
  some (0 : Int32)
def pX6_knot (κ : kp_K) : Option (kp_K) :=
  if (κ.1 66 31) = 0 then
    (if (κ.1 66 36) = (64 : Int32) then
      (p_cl (pX6_wrong κ (2 : Int32)) fun k19 =>
      some k19)
    else
    p_lt (s_i κ 66 36 ((κ.1 66 36) + (1 : Int32))) fun k32 =>
    some k32)
  else
  some κ
def pX6_puts (κ : kp_K) (v1 : Int32) (v2 : Int32) : Option (kp_K) :=
  if (κ.1 66 31) = 0 then
    (p_cl (pX6_fresher κ (7 : Int32)) fun t17 =>
    p_ck ((64 : Int32) + t17) 128 <|
    p_lt (s_i κ 87 ((64 : Int32) + t17).toNatClampNeg v1) fun k22 =>
    p_cl (pX6_fresher k22 (7 : Int32)) fun t32 =>
    p_ck ((64 : Int32) + t32) 128 <|
    p_lt (s_i k22 88 ((64 : Int32) + t32).toNatClampNeg v2) fun k37 =>
    p_cl (pX6_oneMore k37 (7 : Int32)) fun k41 =>
    some k41)
  else
  some κ
def pX6_isSign (κ : kp_K) (v1 : Int32) : Option (Int32) :=
  if (κ.1 66 31) = 0 then
    (if (κ.1 66 29) = (3 : Int32) then
      (if (κ.1 66 30) = v1 then
        (some (1 : Int32))
      else
      some (0 : Int32))
    else
    some (0 : Int32))
  else
  some (0 : Int32)
def bX6_expression_4 (F : Nat) (rc : Nat → kp_K → Option kp_K) : Nat → kp_K → Option (kp_K)
  | 0, _ => none
  | n + 1, κ =>
    p_cl (pX6_isWord κ (11 : Int32)) fun t7 =>
    if t7 = 0 then
      (some κ)
    else
    p_cl (pX6_knot κ) fun k14 =>
    p_cl (pX6_goOn F k14) fun k18 =>
    p_cl (rc 1 k18) fun k22 =>
    p_cl (pX6_puts k22 (2 : Int32) (262 : Int32)) fun k30 =>
    bX6_expression_4 F rc n k30
def pX6_expression (F : Nat) (rc : Nat → kp_K → Option kp_K) (κ : kp_K) : Option (kp_K) :=
  p_cl (rc 1 κ) fun k1 =>
  bX6_expression_4 F rc F k1
def bX6_conjunction_4 (F : Nat) (rc : Nat → kp_K → Option kp_K) : Nat → kp_K → Option (kp_K)
  | 0, _ => none
  | n + 1, κ =>
    p_cl (pX6_isWord κ (12 : Int32)) fun t7 =>
    if t7 = 0 then
      (some κ)
    else
    p_cl (pX6_knot κ) fun k14 =>
    p_cl (pX6_goOn F k14) fun k18 =>
    p_cl (rc 2 k18) fun k22 =>
    p_cl (pX6_puts k22 (2 : Int32) (261 : Int32)) fun k30 =>
    bX6_conjunction_4 F rc n k30
def pX6_conjunction (F : Nat) (rc : Nat → kp_K → Option kp_K) (κ : kp_K) : Option (kp_K) :=
  p_cl (rc 2 κ) fun k1 =>
  bX6_conjunction_4 F rc F k1
def bX6_negation_87 (F : Nat) (rc : Nat → kp_K → Option kp_K) (κ : kp_K) : Option (kp_K) :=
  p_lt (κ.1 66 30) fun t91 =>
  p_cl (pX6_knot κ) fun k93 =>
  p_cl (pX6_goOn F k93) fun k97 =>
  p_cl (rc 3 k97) fun k101 =>
  p_cl (pX6_puts k101 (2 : Int32) t91) fun k107 =>
  some k107
def pX6_negation (F : Nat) (rc : Nat → kp_K → Option kp_K) (κ : kp_K) : Option (kp_K) :=
  p_cl (pX6_isWord κ (13 : Int32)) fun t3 =>
  if t3 = 0 then
    (p_cl (rc 3 κ) fun k31 =>
    if (k31.1 66 31) = 0 then
      (if (k31.1 66 29) = (3 : Int32) then
        (if (k31.1 66 30) = (60 : Int32) then
          (bX6_negation_87 F rc k31)
        else
        if (k31.1 66 30) = (62 : Int32) then
          (bX6_negation_87 F rc k31)
        else
        if (k31.1 66 30) = (61 : Int32) then
          (bX6_negation_87 F rc k31)
        else
        if (256 : Int32) ≤ (k31.1 66 30) then
          (bX6_negation_87 F rc k31)
        else
        some k31)
      else
      some k31)
    else
    some k31)
  else
  p_cl (pX6_knot κ) fun k10 =>
  p_cl (pX6_goOn F k10) fun k14 =>
  p_cl (rc 2 k14) fun k18 =>
  p_cl (pX6_puts k18 (2 : Int32) (260 : Int32)) fun k26 =>
  some k26
def bX6_sum_22 (F : Nat) (rc : Nat → kp_K → Option kp_K) (k4 : kp_K → Option (kp_K)) (κ : kp_K) : Option (kp_K) :=
  p_lt (κ.1 66 30) fun t26 =>
  p_cl (pX6_knot κ) fun k28 =>
  p_cl (pX6_goOn F k28) fun k32 =>
  p_cl (rc 4 k32) fun k36 =>
  p_cl (pX6_puts k36 (2 : Int32) t26) fun k42 =>
  k4 k42
def bX6_sum_4 (F : Nat) (rc : Nat → kp_K → Option kp_K) : Nat → kp_K → Option (kp_K)
  | 0, _ => none
  | n + 1, κ =>
    p_cl (pX6_isSign κ (43 : Int32)) fun t7 =>
    if t7 = 0 then
      (p_cl (pX6_isSign κ (45 : Int32)) fun t16 =>
      if t16 = 0 then
        (some κ)
      else
      bX6_sum_22 F rc (bX6_sum_4 F rc n) κ)
    else
    bX6_sum_22 F rc (bX6_sum_4 F rc n) κ
def pX6_sum (F : Nat) (rc : Nat → kp_K → Option kp_K) (κ : kp_K) : Option (kp_K) :=
  p_cl (rc 4 κ) fun k1 =>
  bX6_sum_4 F rc F k1
def bX6_product_22 (F : Nat) (rc : Nat → kp_K → Option kp_K) (k4 : kp_K → Option (kp_K)) (κ : kp_K) : Option (kp_K) :=
  p_lt (κ.1 66 30) fun t26 =>
  p_cl (pX6_knot κ) fun k28 =>
  p_cl (pX6_goOn F k28) fun k32 =>
  p_cl (rc 5 k32) fun k36 =>
  p_cl (pX6_puts k36 (2 : Int32) t26) fun k42 =>
  k4 k42
def bX6_product_4 (F : Nat) (rc : Nat → kp_K → Option kp_K) : Nat → kp_K → Option (kp_K)
  | 0, _ => none
  | n + 1, κ =>
    p_cl (pX6_isSign κ (42 : Int32)) fun t7 =>
    if t7 = 0 then
      (p_cl (pX6_isSign κ (47 : Int32)) fun t16 =>
      if t16 = 0 then
        (some κ)
      else
      bX6_product_22 F rc (bX6_product_4 F rc n) κ)
    else
    bX6_product_22 F rc (bX6_product_4 F rc n) κ
def pX6_product (F : Nat) (rc : Nat → kp_K → Option kp_K) (κ : kp_K) : Option (kp_K) :=
  p_cl (rc 5 κ) fun k1 =>
  bX6_product_4 F rc F k1
def bX6_primary_194 (F : Nat) (rc : Nat → kp_K → Option kp_K) (κ : kp_K) (s0 : Int32) (s1 : Int32) : Option (kp_K) :=
  p_cl (pX6_puts κ s1 s0) fun k194 =>
  p_cl (pX6_goOn F k194) fun k198 =>
  some k198
def bX6_primary_176 (F : Nat) (rc : Nat → kp_K → Option kp_K) (κ : kp_K) (v1 : Int32) (s0 : Int32) : Option (kp_K) :=
  if v1 = 0 then
    (bX6_primary_194 F rc κ ((κ.1 66 30) - (14 : Int32)) s0)
  else
  bX6_primary_194 F rc κ (κ.1 66 30) s0
def bX6_primary_162 (F : Nat) (rc : Nat → kp_K → Option kp_K) (κ : kp_K) (v1 : Int32) : Option (kp_K) :=
  p_cl (pX6_knot κ) fun k163 =>
  if v1 = 0 then
    (bX6_primary_176 F rc k163 v1 (1 : Int32))
  else
  bX6_primary_176 F rc k163 v1 (0 : Int32)
def bX6_primary_157 (F : Nat) (rc : Nat → kp_K → Option kp_K) (κ : kp_K) (v1 : Int32) : Option (kp_K) :=
  p_cl (pX6_wrong κ (1 : Int32)) fun k159 =>
  bX6_primary_162 F rc k159 v1
def bX6_primary_137 (F : Nat) (rc : Nat → kp_K → Option kp_K) (κ : kp_K) (v1 : Int32) : Option (kp_K) :=
  if v1 = 0 then
    (if (κ.1 66 29) = 0 then
      (if (14 : Int32) ≤ (κ.1 66 30) then
        (bX6_primary_162 F rc κ v1)
      else
      bX6_primary_157 F rc κ v1)
    else
    bX6_primary_157 F rc κ v1)
  else
  bX6_primary_162 F rc κ v1
def bX6_primary_114 (F : Nat) (rc : Nat → kp_K → Option kp_K) (κ : kp_K) (s0 : Int32) : Option (kp_K) :=
  if s0 = 0 then
    (bX6_primary_137 F rc κ s0)
  else
  if (κ.1 66 30) ≤ (9999 : Int32) then
    (bX6_primary_137 F rc κ s0)
  else
  p_cl (pX6_wrong κ (2 : Int32)) fun k131 =>
  bX6_primary_162 F rc k131 s0
def bX6_primary_78 (F : Nat) (rc : Nat → kp_K → Option kp_K) (κ : kp_K) : Option (kp_K) :=
  if (κ.1 66 31) = 0 then
    (p_lt (s_i κ 66 35 ((κ.1 66 35) - (1 : Int32))) fun k93 =>
    p_cl (pX6_token F k93) fun k97 =>
    some k97)
  else
  some κ
def bX6_primary_31 (F : Nat) (rc : Nat → kp_K → Option kp_K) (κ : kp_K) : Option (kp_K) :=
  if (κ.1 66 31) = 0 then
    (p_lt (s_i κ 66 35 ((κ.1 66 35) + (1 : Int32))) fun k46 =>
    p_cl (pX6_token F k46) fun k50 =>
    p_cl (rc 0 k50) fun k54 =>
    if (k54.1 66 31) = 0 then
      (p_cl (pX6_isSign k54 (41 : Int32)) fun t67 =>
      if t67 = 0 then
        (p_cl (pX6_wrong k54 (1 : Int32)) fun k75 =>
        bX6_primary_78 F rc k75)
      else
      bX6_primary_78 F rc k54)
    else
    bX6_primary_78 F rc k54)
  else
  some κ
def pX6_primary (F : Nat) (rc : Nat → kp_K → Option kp_K) (κ : kp_K) : Option (kp_K) :=
  if (κ.1 66 31) = 0 then
    (p_cl (pX6_isSign κ (40 : Int32)) fun t11 =>
    if t11 = 0 then
      (if (κ.1 66 29) = (2 : Int32) then
        (bX6_primary_114 F rc κ (1 : Int32))
      else
      bX6_primary_114 F rc κ (0 : Int32))
    else
    if (κ.1 66 35) = (8 : Int32) then
      (p_cl (pX6_wrong κ (2 : Int32)) fun k28 =>
      bX6_primary_31 F rc k28)
    else
    bX6_primary_31 F rc κ)
  else
  some κ
def gX6 (F : Nat) : Nat → Nat → kp_K → Option kp_K
  | 0, _, _ => none
  | d + 1, i, κ => if i = 0 then pX6_expression F (gX6 F d) κ else if i = 1 then pX6_conjunction F (gX6 F d) κ else if i = 2 then pX6_negation F (gX6 F d) κ else if i = 3 then pX6_sum F (gX6 F d) κ else if i = 4 then pX6_product F (gX6 F d) κ else if i = 5 then pX6_primary F (gX6 F d) κ else none
def bX6_lawLine_64 (F : Nat) (κ : kp_K) (v1 : Int32) : Option (kp_K) :=
  if (κ.1 66 31) = 0 then
    (p_lt (s_i κ 66 24 ((κ.1 66 24) ||| ((2 : Int32) <<< (v1 &&& 31)))) fun k81 =>
    p_cl (pX6_token F k81) fun k85 =>
    p_cl (pX6_fresher k85 (7 : Int32)) fun t99 =>
    p_ck ((6 : Int32) + v1) 12 <|
    p_lt (s_i k85 85 ((6 : Int32) + v1).toNatClampNeg t99) fun k102 =>
    p_cl (gX6 F DG 0 k102) fun k104 =>
    p_cl (pX6_fresher k104 (7 : Int32)) fun t118 =>
    p_ck ((6 : Int32) + v1) 12 <|
    p_lt (s_i k104 86 ((6 : Int32) + v1).toNatClampNeg t118) fun k121 =>
    some k121)
  else
  some κ
def bX6_lawLine_30 (F : Nat) (κ : kp_K) : Option (kp_K) :=
  p_lt ((κ.1 66 30) - (9 : Int32)) fun t37 =>
  if (κ.1 66 31) = 0 then
    (if (((κ.1 66 24) >>> (((1 : Int32) + t37) &&& 31)) &&& (1 : Int32)) = (1 : Int32) then
      (p_cl (pX6_wrong κ (3 : Int32)) fun k61 =>
      bX6_lawLine_64 F k61 t37)
    else
    bX6_lawLine_64 F κ t37)
  else
  bX6_lawLine_64 F κ t37
def bX6_lawLine_25 (F : Nat) (κ : kp_K) : Option (kp_K) :=
  p_cl (pX6_wrong κ (1 : Int32)) fun k27 =>
  bX6_lawLine_30 F k27
def pX6_lawLine (F : Nat) (κ : kp_K) : Option (kp_K) :=
  if (κ.1 66 29) = 0 then
    (if (κ.1 66 30) = (9 : Int32) then
      (bX6_lawLine_30 F κ)
    else
    if (κ.1 66 30) = (10 : Int32) then
      (bX6_lawLine_30 F κ)
    else
    bX6_lawLine_25 F κ)
  else
  bX6_lawLine_25 F κ
def bX6_line_16 (F : Nat) (κ : kp_K) : Option (kp_K) :=
  p_cl (pX6_wrong κ (1 : Int32)) fun k18 =>
  some k18
def bX6_line_453 (F : Nat) (κ : kp_K) : Option (kp_K) :=
  p_lt (s_i κ 66 25 ((κ.1 66 25) + (1 : Int32))) fun k460 =>
  some k460
def bX6_line_424 (F : Nat) (κ : kp_K) : Option (kp_K) :=
  if (κ.1 66 31) = 0 then
    (p_cl (pX6_isSign κ (59 : Int32)) fun t435 =>
    if t435 = 0 then
      (p_cl (pX6_wrong κ (1 : Int32)) fun k443 =>
      bX6_line_453 F k443)
    else
    p_cl (pX6_token F κ) fun k450 =>
    bX6_line_453 F k450)
  else
  some κ
def bX6_line_64 (F : Nat) (κ : kp_K) (v1 : Int32) : Option (kp_K) :=
  if (κ.1 66 31) = 0 then
    (p_cl (pX6_token F κ) fun k73 =>
    if v1 = (0 : Int32) then
      (p_cl (pX6_fresher k73 (0 : Int32)) fun t131 =>
      p_cl (pX6_fresher k73 (0 : Int32)) fun t143 =>
      p_cl (pX6_fresh F k73 69 (4 : Int32) t143) fun q146 => p_lt q146.1 fun t146 => p_lt q146.2 fun k146 =>
      p_ck ((4 : Int32) + t131) 8 <|
      p_lt (s_i k146 69 ((4 : Int32) + t131).toNatClampNeg t146) fun k149 =>
      p_cl (pX6_fresher k149 (0 : Int32)) fun t157 =>
      p_cl (pX6_numeral F k149 (1 : Int32) (6 : Int32)) fun q165 => p_lt q165.1 fun t165 => p_lt q165.2 fun k165 =>
      p_ck ((4 : Int32) + t157) 8 <|
      p_lt (s_i k165 70 ((4 : Int32) + t157).toNatClampNeg t165) fun k168 =>
      p_cl (pX6_fresher k168 (0 : Int32)) fun t176 =>
      p_ck ((4 : Int32) + t176) 8 <|
      p_lt (s_i k168 71 ((4 : Int32) + t176).toNatClampNeg (-1 : Int32)) fun k181 =>
      p_cl (pX6_oneMore k181 (0 : Int32)) fun k184 =>
      bX6_line_424 F k184)
    else
    if v1 = (1 : Int32) then
      (p_cl (pX6_asksLine F k73) fun k191 =>
      bX6_line_424 F k191)
    else
    if v1 = (2 : Int32) then
      (p_cl (pX6_fresher k73 (1 : Int32)) fun t205 =>
      p_cl (pX6_fresher k73 (1 : Int32)) fun t218 =>
      p_cl (pX6_fresh F k73 72 (7 : Int32) t218) fun q221 => p_lt q221.1 fun t221 => p_lt q221.2 fun k221 =>
      p_ck ((7 : Int32) + t205) 14 <|
      p_lt (s_i k221 72 ((7 : Int32) + t205).toNatClampNeg t221) fun k224 =>
      p_cl (pX6_fresher k224 (1 : Int32)) fun t233 =>
      p_cl (pX6_numeral F k224 (0 : Int32) (99 : Int32)) fun q241 => p_lt q241.1 fun t241 => p_lt q241.2 fun k241 =>
      p_ck ((7 : Int32) + t233) 14 <|
      p_lt (s_i k241 73 ((7 : Int32) + t233).toNatClampNeg t241) fun k244 =>
      p_cl (pX6_oneMore k244 (1 : Int32)) fun k247 =>
      bX6_line_424 F k247)
    else
    if v1 = (3 : Int32) then
      (p_cl (pX6_fresher k73 (2 : Int32)) fun t258 =>
      p_cl (pX6_comesLine F k73 ((16 : Int32) + t258)) fun k262 =>
      bX6_line_424 F k262)
    else
    if v1 = (4 : Int32) then
      (p_cl (pX6_fresher k73 (3 : Int32)) fun t273 =>
      p_cl (pX6_questionLine F k73 ((16 : Int32) + t273)) fun k277 =>
      bX6_line_424 F k277)
    else
    if v1 = (5 : Int32) then
      (p_cl (pX6_fresher k73 (4 : Int32)) fun t290 =>
      p_cl (pX6_numeral F k73 (0 : Int32) (60 : Int32)) fun q298 => p_lt q298.1 fun t298 => p_lt q298.2 fun k298 =>
      p_ck ((4 : Int32) + t290) 8 <|
      p_lt (s_i k298 82 ((4 : Int32) + t290).toNatClampNeg t298) fun k301 =>
      p_cl (pX6_fresher k301 (4 : Int32)) fun t309 =>
      p_cl (pX6_desk F k301) fun q314 => p_lt q314.1 fun t314 => p_lt q314.2 fun k314 =>
      p_ck ((4 : Int32) + t309) 8 <|
      p_lt (s_i k314 83 ((4 : Int32) + t309).toNatClampNeg t314) fun k317 =>
      p_cl (pX6_oneMore k317 (4 : Int32)) fun k320 =>
      bX6_line_424 F k320)
    else
    if v1 = (6 : Int32) then
      (p_lt (s_i k73 66 24 ((k73.1 66 24) ||| (1 : Int32))) fun k333 =>
      p_cl (pX6_numeral F k333 (0 : Int32) (999 : Int32)) fun q347 => p_lt q347.1 fun t347 => p_lt q347.2 fun k347 =>
      p_ck (14 : Int32) 16 <|
      p_lt (s_i k347 68 (14 : Int32).toNatClampNeg t347) fun k350 =>
      bX6_line_424 F k350)
    else
    if v1 = (7 : Int32) then
      (p_cl (pX6_lawLine F k73) fun k355 =>
      bX6_line_424 F k355)
    else
    p_cl (pX6_fresher k73 (5 : Int32)) fun t363 =>
    p_cl (pX6_fresh F k73 84 (4 : Int32) t363) fun q381 => p_lt q381.1 fun t381 => p_lt q381.2 fun k381 =>
    p_ck ((4 : Int32) + t363) 8 <|
    p_lt (s_i k381 84 ((4 : Int32) + t363).toNatClampNeg t381) fun k384 =>
    p_cl (pX6_fresher k384 (7 : Int32)) fun t396 =>
    p_ck ((8 : Int32) + t363) 12 <|
    p_lt (s_i k384 85 ((8 : Int32) + t363).toNatClampNeg t396) fun k399 =>
    p_cl (gX6 F DG 0 k399) fun k401 =>
    p_cl (pX6_fresher k401 (7 : Int32)) fun t415 =>
    p_ck ((8 : Int32) + t363) 12 <|
    p_lt (s_i k401 86 ((8 : Int32) + t363).toNatClampNeg t415) fun k418 =>
    p_cl (pX6_oneMore k418 (5 : Int32)) fun k421 =>
    bX6_line_424 F k421)
  else
  some κ
def pX6_line (F : Nat) (κ : kp_K) : Option (kp_K) :=
  if (κ.1 66 29) = 0 then
    (if (κ.1 66 30) ≤ (8 : Int32) then
      (p_lt (κ.1 66 30) fun t26 =>
      p_cl (pX6_isFull κ t26) fun t29 =>
      if t29 = 0 then
        (if t26 = (6 : Int32) then
          (if ((κ.1 66 24) &&& (1 : Int32)) = (1 : Int32) then
            (p_cl (pX6_wrong κ (3 : Int32)) fun k61 =>
            bX6_line_64 F k61 t26)
          else
          bX6_line_64 F κ t26)
        else
        bX6_line_64 F κ t26)
      else
      p_cl (pX6_wrong κ (2 : Int32)) fun k37 =>
      bX6_line_64 F k37 t26)
    else
    bX6_line_16 F κ)
  else
  bX6_line_16 F κ
def bX6_half_7 (F : Nat) : Nat → kp_K → Nat → Int32 → Int32 → Option (kp_K)
  | 0, _, _, _, _ => none
  | n + 1, κ, a0, v1, v2 =>
    if v1 ≤ v2 then
      (some κ)
    else
    p_lt (v1 + v2) fun i18 =>
    p_cl (aLen a0) fun n_a0 =>
    p_ck i18 n_a0 <|
    p_cl (aLen a0) fun n_a0 =>
    p_ck v2 n_a0 <|
    p_lt (s_i κ a0 v2.toNatClampNeg (κ.1 a0 i18.toNatClampNeg)) fun k19 =>
    bX6_half_7 F n k19 a0 v1 (v2 + (1 : Int32))
def pX6_half (F : Nat) (κ : kp_K) (a0 : Nat) : Option (kp_K) :=
  p_cl (aLen a0) fun n_a0 =>
  p_cd (2 : Int32) <|
  p_lt ((Int32.ofNat n_a0) / (2 : Int32)) fun t4 =>
  bX6_half_7 F F κ a0 t4 (0 : Int32)
def pX6_plain (κ : kp_K) : Option (kp_K) :=
  p_lt (s_i κ 66 37 (-1 : Int32)) fun k2 =>
  p_lt (s_i k2 66 38 (-1 : Int32)) fun k7 =>
  p_lt (s_i k7 66 39 (0 : Int32)) fun k12 =>
  some k12
def bX6_begins_56 (F : Nat) : Nat → kp_K → Int32 → Int32 → Option (kp_K)
  | 0, _, _, _ => none
  | n + 1, κ, v1, v2 =>
    if (16 : Int32) ≤ v2 then
      (some κ)
    else
    p_ck (((16 : Int32) * v1) + v2) 48 <|
    p_lt (s_i κ 99 (((16 : Int32) * v1) + v2).toNatClampNeg (-2 : Int32)) fun k74 =>
    bX6_begins_56 F n k74 v1 (v2 + (1 : Int32))
def bX6_begins_16 (F : Nat) : Nat → kp_K → Int32 → Int32 → Option (kp_K)
  | 0, _, _, _ => none
  | n + 1, κ, v1, v2 =>
    if (4 : Int32) ≤ v2 then
      (bX6_begins_56 F F κ v1 (0 : Int32))
    else
    p_lt (((4 : Int32) * v1) + v2) fun t26 =>
    p_ck t26 12 <|
    p_lt (s_i κ 92 t26.toNatClampNeg (0 : Int32)) fun k33 =>
    p_ck t26 12 <|
    p_lt (s_i k33 96 t26.toNatClampNeg (0 : Int32)) fun k40 =>
    p_ck t26 12 <|
    p_lt (s_i k40 97 t26.toNatClampNeg (-1 : Int32)) fun k47 =>
    bX6_begins_16 F n k47 v1 (v2 + (1 : Int32))
def pX6_begins (F : Nat) (κ : kp_K) (v1 : Int32) : Option (kp_K) :=
  p_ck v1 3 <|
  p_lt (s_i κ 91 v1.toNatClampNeg (0 : Int32)) fun k6 =>
  p_ck v1 3 <|
  p_lt (s_i k6 100 v1.toNatClampNeg (0 : Int32)) fun k13 =>
  bX6_begins_16 F F k13 v1 (0 : Int32)
def bX6_text_155 (F : Nat) (κ : kp_K) : Option (Int32 × kp_K) :=
  p_lt (s_i κ 66 33 (κ.1 66 31)) fun k160 =>
  p_lt (s_i k160 66 34 (k160.1 66 32)) fun k168 =>
  if (k168.1 66 31) = 0 then
    (p_cl (pX6_half F k168 68) fun k184 =>
    p_cl (pX6_half F k184 69) fun k191 =>
    p_cl (pX6_half F k191 70) fun k198 =>
    p_cl (pX6_half F k198 71) fun k205 =>
    p_cl (pX6_half F k205 72) fun k212 =>
    p_cl (pX6_half F k212 73) fun k219 =>
    p_cl (pX6_half F k219 74) fun k226 =>
    p_cl (pX6_half F k226 75) fun k233 =>
    p_cl (pX6_half F k233 76) fun k240 =>
    p_cl (pX6_half F k240 77) fun k247 =>
    p_cl (pX6_half F k247 78) fun k254 =>
    p_cl (pX6_half F k254 79) fun k261 =>
    p_cl (pX6_half F k261 80) fun k268 =>
    p_cl (pX6_half F k268 81) fun k275 =>
    p_cl (pX6_half F k275 82) fun k282 =>
    p_cl (pX6_half F k282 83) fun k289 =>
    p_cl (pX6_half F k289 84) fun k296 =>
    p_cl (pX6_half F k296 85) fun k303 =>
    p_cl (pX6_half F k303 86) fun k310 =>
    p_cl (pX6_half F k310 87) fun k317 =>
    p_cl (pX6_half F k317 88) fun k324 =>
    p_lt (s_i k324 66 71 (0 : Int32)) fun k329 =>
    p_lt (s_i k329 66 72 (-1 : Int32)) fun k334 =>
    p_lt (s_i k334 66 57 (0 : Int32)) fun k339 =>
    p_cl (pX6_plain k339) fun k343 =>
    p_cl (pX6_begins F k343 (0 : Int32)) fun k348 =>
    some ((k348.1 66 25), k348))
  else
  some ((-1 : Int32), k168)
def bX6_text_133 (F : Nat) : Nat → kp_K → Option (Int32 × kp_K)
  | 0, _ => none
  | n + 1, κ =>
    if (κ.1 66 31) = 0 then
      (if (κ.1 66 29) = (4 : Int32) then
        (bX6_text_155 F κ)
      else
      p_cl (pX6_line F κ) fun k149 =>
      bX6_text_133 F n k149)
    else
    bX6_text_155 F κ
def bX6_text_83 (F : Nat) : Nat → kp_K → Int32 → Option (Int32 × kp_K)
  | 0, _, _ => none
  | n + 1, κ, v2 =>
    if (12 : Int32) ≤ v2 then
      (p_lt (s_i κ 66 24 (0 : Int32)) fun k111 =>
      p_lt (s_i k111 66 25 (0 : Int32)) fun k116 =>
      p_lt (s_i k116 66 35 (0 : Int32)) fun k121 =>
      p_lt (s_i k121 66 36 (0 : Int32)) fun k126 =>
      p_cl (pX6_token F k126) fun k130 =>
      bX6_text_133 F F k130)
    else
    p_ck v2 12 <|
    p_lt (s_i κ 85 v2.toNatClampNeg (0 : Int32)) fun k95 =>
    p_ck v2 12 <|
    p_lt (s_i k95 86 v2.toNatClampNeg (0 : Int32)) fun k102 =>
    bX6_text_83 F n k102 (v2 + (1 : Int32))
def bX6_text_73 (F : Nat) (k47 : kp_K → Int32 → Option (Int32 × kp_K)) (κ : kp_K) (v2 : Int32) (s0 : Int32) (s1 : Int32) : Option (Int32 × kp_K) :=
  p_ck s1 16 <|
  p_lt (s_i κ 68 s1.toNatClampNeg s0) fun k73 =>
  k47 k73 (v2 + (1 : Int32))
def bX6_text_47 (F : Nat) : Nat → kp_K → Int32 → Option (Int32 × kp_K)
  | 0, _, _ => none
  | n + 1, κ, v2 =>
    if (8 : Int32) ≤ v2 then
      (bX6_text_83 F F κ (6 : Int32))
    else
    if v2 = (6 : Int32) then
      (bX6_text_73 F (bX6_text_47 F n) κ v2 (99 : Int32) ((8 : Int32) + v2))
    else
    bX6_text_73 F (bX6_text_47 F n) κ v2 (0 : Int32) ((8 : Int32) + v2)
def pX6_text (F : Nat) (κ : kp_K) (v1 : Int32) : Option (Int32 × kp_K) :=
  p_lt (s_i κ 66 0 (0 : Int32)) fun k2 =>
  if v1 < 0 then
    (some ((-2 : Int32), k2))
  else
  if v1 ≤ (k2.1 66 2) then
    (p_lt (s_i k2 66 26 v1) fun k22 =>
    p_lt (s_i k22 66 2 (0 : Int32)) fun k27 =>
    p_lt (s_i k27 66 27 (0 : Int32)) fun k32 =>
    p_lt (s_i k32 66 31 (0 : Int32)) fun k37 =>
    p_lt (s_i k37 66 32 (-1 : Int32)) fun k42 =>
    bX6_text_47 F F k42 (0 : Int32))
  else
  some ((-2 : Int32), k2)
def pX6_fault (κ : kp_K) (v1 : Int32) : Option (Int32 × kp_K) :=
  p_lt (s_i κ 66 0 (0 : Int32)) fun k2 =>
  if v1 = 0 then
    (some ((k2.1 66 33), k2))
  else
  if v1 = (1 : Int32) then
    (some ((k2.1 66 34), k2))
  else
  some ((-1 : Int32), k2)
def pX6_named (F : Nat) (κ : kp_K) (v1 : Int32) (v2 : Int32) : Option (Int32 × kp_K) :=
  p_lt (s_i κ 66 0 (0 : Int32)) fun k2 =>
  if v1 = 0 then
    (p_ck (0 : Int32) 16 <|
    p_cl (pX6_found F k2 69 (0 : Int32) (k2.1 68 (0 : Int32).toNatClampNeg) v2) fun t21 =>
    some (t21, k2))
  else
  if v1 = (1 : Int32) then
    (p_ck (1 : Int32) 16 <|
    p_cl (pX6_found F k2 72 (0 : Int32) (k2.1 68 (1 : Int32).toNatClampNeg) v2) fun t44 =>
    some (t44, k2))
  else
  if v1 = (2 : Int32) then
    (p_ck (5 : Int32) 16 <|
    p_cl (pX6_found F k2 84 (0 : Int32) (k2.1 68 (5 : Int32).toNatClampNeg) v2) fun t67 =>
    some (t67, k2))
  else
  some ((-1 : Int32), k2)
def pX6_isDesk (κ : kp_K) (v1 : Int32) : Option (Int32) :=
  if v1 < 0 then
    (some (0 : Int32))
  else
  p_ck (0 : Int32) 16 <|
  if (κ.1 68 (0 : Int32).toNatClampNeg) ≤ v1 then
    (some (0 : Int32))
  else
  some (1 : Int32)
def pX6_slot (v0 : Int32) (v1 : Int32) (v2 : Int32) : Option (Int32) :=
  some ((((28 : Int32) * v0) + ((7 : Int32) * v1)) + v2)
def bX6_setOf_5 (F : Nat) : Nat → kp_K → Int32 → Int32 → Int32 → Int32 → Option (Int32)
  | 0, _, _, _, _, _ => none
  | n + 1, κ, v1, v2, v3, v4 =>
    p_lt (((4 : Int32) * v1) + v2) fun i16 =>
    p_ck i16 12 <|
    if (κ.1 92 i16.toNatClampNeg) ≤ v4 then
      (some v3)
    else
    p_cl (pX6_slot v1 v2 v4) fun t30 =>
    p_ck t30 84 <|
    p_lt (v3 ||| ((1 : Int32) <<< ((κ.1 93 t30.toNatClampNeg) &&& 31))) fun t36 =>
    bX6_setOf_5 F n κ v1 v2 t36 (v4 + (1 : Int32))
def pX6_setOf (F : Nat) (κ : kp_K) (v1 : Int32) (v2 : Int32) : Option (Int32) :=
  bX6_setOf_5 F F κ v1 v2 (0 : Int32) (0 : Int32)
def bX6_look_27 (F : Nat) (κ : kp_K) (v1 : Int32) (v2 : Int32) (s0 : Int32) : Option (Int32 × kp_K) :=
  p_lt (s_i κ 66 0 s0) fun k27 =>
  if (k27.1 66 0) = 0 then
    (if v2 = (0 : Int32) then
      (p_ck v1 8 <|
      some ((k27.1 70 v1.toNatClampNeg), k27))
    else
    if v2 = (1 : Int32) then
      (p_ck v1 12 <|
      some ((k27.1 92 v1.toNatClampNeg), k27))
    else
    if v2 = (2 : Int32) then
      (p_ck v1 12 <|
      some ((k27.1 96 v1.toNatClampNeg), k27))
    else
    if v2 = (3 : Int32) then
      (p_ck v1 12 <|
      some ((k27.1 97 v1.toNatClampNeg), k27))
    else
    if v2 = (4 : Int32) then
      (p_ck v1 8 <|
      some ((k27.1 71 v1.toNatClampNeg), k27))
    else
    p_cl (pX6_setOf F k27 (0 : Int32) v1) fun t114 =>
    some (t114, k27))
  else
  some ((0 : Int32), k27)
def bX6_look_22 (F : Nat) (κ : kp_K) (v1 : Int32) (v2 : Int32) : Option (Int32 × kp_K) :=
  bX6_look_27 F κ v1 v2 (2 : Int32)
def pX6_look (F : Nat) (κ : kp_K) (v1 : Int32) (v2 : Int32) : Option (Int32 × kp_K) :=
  p_cl (pX6_isDesk κ v1) fun t3 =>
  if t3 = 0 then
    (bX6_look_27 F κ v1 v2 (1 : Int32))
  else
  if v2 < 0 then
    (bX6_look_22 F κ v1 v2)
  else
  if v2 ≤ (5 : Int32) then
    (bX6_look_27 F κ v1 v2 (0 : Int32))
  else
  bX6_look_22 F κ v1 v2
def pX6_line_2 (κ : kp_K) (v1 : Int32) (v2 : Int32) (v3 : Int32) : Option (Int32 × kp_K) :=
  p_lt (s_i κ 66 0 (0 : Int32)) fun k2 =>
  p_cl (pX6_isDesk k2 v1) fun t7 =>
  if t7 = 0 then
    (some ((-1 : Int32), k2))
  else
  if v2 < 0 then
    (some ((-1 : Int32), k2))
  else
  if v3 < 0 then
    (some ((-1 : Int32), k2))
  else
  if v3 ≤ (2 : Int32) then
    (p_ck v1 12 <|
    if v2 < (k2.1 92 v1.toNatClampNeg) then
      (p_cl (pX6_slot (0 : Int32) v1 v2) fun t44 =>
      if v3 = 0 then
        (p_ck t44 84 <|
        some ((k2.1 93 t44.toNatClampNeg), k2))
      else
      if v3 = (1 : Int32) then
        (p_ck t44 84 <|
        some ((k2.1 94 t44.toNatClampNeg), k2))
      else
      p_ck t44 84 <|
      some ((k2.1 95 t44.toNatClampNeg), k2))
    else
    some ((-2 : Int32), k2))
  else
  some ((-1 : Int32), k2)
def pX6_notes (κ : kp_K) (v1 : Int32) (v2 : Int32) (v3 : Int32) (v4 : Int32) : Option (kp_K) :=
  p_ck v1 3 <|
  p_lt (((640 : Int32) * v1) + (κ.1 100 v1.toNatClampNeg)) fun t12 =>
  p_ck v1 3 <|
  if (κ.1 100 v1.toNatClampNeg) = (640 : Int32) then
    (some κ)
  else
  p_ck v1 3 <|
  p_ck t12 1920 <|
  p_lt (s_i κ 101 t12.toNatClampNeg (κ.1 91 v1.toNatClampNeg)) fun k39 =>
  p_ck t12 1920 <|
  p_lt (s_i k39 102 t12.toNatClampNeg v2) fun k47 =>
  p_ck t12 1920 <|
  p_lt (s_i k47 103 t12.toNatClampNeg v3) fun k55 =>
  p_ck t12 1920 <|
  p_lt (s_i k55 104 t12.toNatClampNeg v4) fun k64 =>
  p_ck v1 3 <|
  p_ck v1 3 <|
  p_lt (s_i k64 100 v1.toNatClampNeg ((k64.1 100 v1.toNatClampNeg) + (1 : Int32))) fun k74 =>
  some k74
def bX6_drops_17 (F : Nat) : Nat → kp_K → Int32 → Int32 → Int32 → Option (kp_K)
  | 0, _, _, _, _ => none
  | n + 1, κ, v1, v2, v4 =>
    p_lt (((4 : Int32) * v1) + v2) fun i28 =>
    p_ck i28 12 <|
    if (κ.1 92 i28.toNatClampNeg) ≤ v4 then
      (some κ)
    else
    p_cl (pX6_slot v1 v2 v4) fun t40 =>
    p_cl (pX6_slot v1 v2 (v4 + (1 : Int32))) fun t53 =>
    p_ck t53 84 <|
    p_ck t40 84 <|
    p_lt (s_i κ 93 t40.toNatClampNeg (κ.1 93 t53.toNatClampNeg)) fun k57 =>
    p_cl (pX6_slot v1 v2 v4) fun t66 =>
    p_cl (pX6_slot v1 v2 (v4 + (1 : Int32))) fun t79 =>
    p_ck t79 84 <|
    p_ck t66 84 <|
    p_lt (s_i k57 94 t66.toNatClampNeg (k57.1 94 t79.toNatClampNeg)) fun k83 =>
    p_cl (pX6_slot v1 v2 v4) fun t92 =>
    p_cl (pX6_slot v1 v2 (v4 + (1 : Int32))) fun t105 =>
    p_ck t105 84 <|
    p_ck t92 84 <|
    p_lt (s_i k83 95 t92.toNatClampNeg (k83.1 95 t105.toNatClampNeg)) fun k109 =>
    bX6_drops_17 F n k109 v1 v2 (v4 + (1 : Int32))
def pX6_drops (F : Nat) (κ : kp_K) (v1 : Int32) (v2 : Int32) (v3 : Int32) : Option (kp_K) :=
  p_lt (((4 : Int32) * v1) + v2) fun t9 =>
  p_ck t9 12 <|
  p_ck t9 12 <|
  p_lt (s_i κ 92 t9.toNatClampNeg ((κ.1 92 t9.toNatClampNeg) - (1 : Int32))) fun k13 =>
  bX6_drops_17 F F k13 v1 v2 v3
def pX6_isComing (κ : kp_K) (v1 : Int32) : Option (Int32) :=
  if (κ.1 66 37) = (5 : Int32) then
    (if (κ.1 66 38) = v1 then
      (some (0 : Int32))
    else
    some (1 : Int32))
  else
  some (1 : Int32)
def bX6_lineOf_3 (F : Nat) : Nat → kp_K → Int32 → Int32 → Int32 → Int32 → Option (Int32)
  | 0, _, _, _, _, _ => none
  | n + 1, κ, v1, v2, v3, v4 =>
    p_lt (((4 : Int32) * v1) + v2) fun i14 =>
    p_ck i14 12 <|
    if (κ.1 92 i14.toNatClampNeg) ≤ v4 then
      (some (-1 : Int32))
    else
    p_cl (pX6_slot v1 v2 v4) fun t26 =>
    p_ck t26 84 <|
    if (κ.1 93 t26.toNatClampNeg) = v3 then
      (some v4)
    else
    bX6_lineOf_3 F n κ v1 v2 v3 (v4 + (1 : Int32))
def pX6_lineOf (F : Nat) (κ : kp_K) (v1 : Int32) (v2 : Int32) (v3 : Int32) : Option (Int32) :=
  bX6_lineOf_3 F F κ v1 v2 v3 (0 : Int32)
def pX6_sets (κ : kp_K) (v1 : Int32) (v2 : Int32) (v3 : Int32) (v4 : Int32) (v5 : Int32) : Option (kp_K) :=
  p_cl (pX6_slot v1 v2 v3) fun t7 =>
  p_ck t7 84 <|
  p_lt (s_i κ 93 t7.toNatClampNeg v4) fun k12 =>
  p_cl (pX6_slot v1 v2 v3) fun t20 =>
  p_ck t20 84 <|
  p_lt (s_i k12 94 t20.toNatClampNeg v5) fun k25 =>
  p_cl (pX6_slot v1 v2 v3) fun t33 =>
  p_ck v1 3 <|
  p_ck t33 84 <|
  p_lt (s_i k25 95 t33.toNatClampNeg (k25.1 91 v1.toNatClampNeg)) fun k42 =>
  some k42
def pX6_roomOf (κ : kp_K) (v1 : Int32) : Option (Int32) :=
  if (κ.1 66 37) = (2 : Int32) then
    (p_ck v1 8 <|
    some ((κ.1 70 v1.toNatClampNeg) + (1 : Int32)))
  else
  p_ck v1 8 <|
  some (κ.1 70 v1.toNatClampNeg)
def pX6_isTold (κ : kp_K) (v1 : Int32) : Option (Int32) :=
  p_ck v1 12 <|
  p_ck v1 12 <|
  if (κ.1 86 v1.toNatClampNeg) ≤ (κ.1 85 v1.toNatClampNeg) then
    (some (0 : Int32))
  else
  some (1 : Int32)
def bX6_othersOf_52 (F : Nat) (k6 : kp_K → Int32 → Int32 → Int32 → Int32 → Int32 → Option (Int32)) (κ : kp_K) (v1 : Int32) (v2 : Int32) (v3 : Int32) (v5 : Int32) (s0 : Int32) (s1 : Int32) : Option (Int32) :=
  p_lt (s1 + ((s0 >>> (v3 &&& 31)) &&& (1 : Int32))) fun t57 =>
  k6 κ v1 v2 v3 t57 (v5 + (1 : Int32))
def bX6_othersOf_6 (F : Nat) : Nat → kp_K → Int32 → Int32 → Int32 → Int32 → Int32 → Option (Int32)
  | 0, _, _, _, _, _, _ => none
  | n + 1, κ, v1, v2, v3, v4, v5 =>
    p_ck (0 : Int32) 16 <|
    if (κ.1 68 (0 : Int32).toNatClampNeg) ≤ v5 then
      (some v4)
    else
    if v5 = v2 then
      (bX6_othersOf_6 F n κ v1 v2 v3 v4 (v5 + (1 : Int32)))
    else
    if (κ.1 66 59) = 0 then
      (p_cl (pX6_setOf F κ v1 v5) fun t49 =>
      bX6_othersOf_52 F (bX6_othersOf_6 F n) κ v1 v2 v3 v5 t49 v4)
    else
    p_ck v5 4 <|
    bX6_othersOf_52 F (bX6_othersOf_6 F n) κ v1 v2 v3 v5 (κ.1 105 v5.toNatClampNeg) v4
def pX6_othersOf (F : Nat) (κ : kp_K) (v1 : Int32) (v2 : Int32) (v3 : Int32) : Option (Int32) :=
  bX6_othersOf_6 F F κ v1 v2 v3 (0 : Int32) (0 : Int32)
def bX6_askedOf_61 (F : Nat) (k6 : kp_K → Int32 → Int32 → Int32 → Int32 → Int32 → Option (Int32)) (κ : kp_K) (v1 : Int32) (v2 : Int32) (v3 : Int32) (v5 : Int32) (s0 : Int32) : Option (Int32) :=
  p_lt (s0 + (0 : Int32)) fun t63 =>
  k6 κ v1 v2 v3 t63 (v5 + (1 : Int32))
def bX6_askedOf_6 (F : Nat) : Nat → kp_K → Int32 → Int32 → Int32 → Int32 → Int32 → Option (Int32)
  | 0, _, _, _, _, _, _ => none
  | n + 1, κ, v1, v2, v3, v4, v5 =>
    p_ck (3 : Int32) 16 <|
    if (κ.1 68 (3 : Int32).toNatClampNeg) ≤ v5 then
      (some v4)
    else
    p_ck v5 32 <|
    if (κ.1 79 v5.toNatClampNeg) = v2 then
      (p_ck v5 32 <|
      if (κ.1 80 v5.toNatClampNeg) = v3 then
        (p_ck v5 32 <|
        p_ck v1 3 <|
        if (κ.1 78 v5.toNatClampNeg) < (κ.1 91 v1.toNatClampNeg) then
          (bX6_askedOf_61 F (bX6_askedOf_6 F n) κ v1 v2 v3 v5 v4)
        else
        p_lt (v4 + (1 : Int32)) fun t63 =>
        bX6_askedOf_6 F n κ v1 v2 v3 t63 (v5 + (1 : Int32)))
      else
      bX6_askedOf_61 F (bX6_askedOf_6 F n) κ v1 v2 v3 v5 v4)
    else
    bX6_askedOf_61 F (bX6_askedOf_6 F n) κ v1 v2 v3 v5 v4
def pX6_askedOf (F : Nat) (κ : kp_K) (v1 : Int32) (v2 : Int32) (v3 : Int32) : Option (Int32) :=
  bX6_askedOf_6 F F κ v1 v2 v3 (0 : Int32) (0 : Int32)
def pX6_is (v0 : Int32) : Option (Int64) :=
  if v0 = 0 then
    (some (0 : Int64))
  else
  some (1 : Int64)
def bX6_works_407 (κ : kp_K) (v6 : Int64) : Option (Int32 × kp_K) :=
  p_ck ((κ.1 66 42) - (1 : Int32)) 64 <|
  p_lt (s_l κ 90 ((κ.1 66 42) - (1 : Int32)).toNatClampNeg v6) fun k419 =>
  if 0 < (lg_cmp v6 (1000000000000 : Int64)) then
    (some ((0 : Int32), k419))
  else
  if (lg_cmp v6 (-1000000000000 : Int64)) < 0 then
    (some ((0 : Int32), k419))
  else
  some ((1 : Int32), k419)
def bX6_works_212 (κ : kp_K) (v2 : Int64) (v4 : Int64) : Option (Int32 × kp_K) :=
  p_lt (v4 * v2) fun t216 =>
  bX6_works_407 κ t216
def bX6_works_250 (κ : kp_K) (s0 : Int32) : Option (Int32 × kp_K) :=
  p_cl (pX6_is s0) fun t250 =>
  bX6_works_407 κ t250
def bX6_works_290 (κ : kp_K) (s0 : Int32) : Option (Int32 × kp_K) :=
  p_cl (pX6_is s0) fun t290 =>
  bX6_works_407 κ t290
def bX6_works_270 (κ : kp_K) (s0 : Int32) : Option (Int32 × kp_K) :=
  p_cl (pX6_is s0) fun t270 =>
  bX6_works_407 κ t270
def bX6_works_310 (κ : kp_K) (s0 : Int32) : Option (Int32 × kp_K) :=
  p_cl (pX6_is s0) fun t310 =>
  bX6_works_407 κ t310
def bX6_works_350 (κ : kp_K) (s0 : Int32) : Option (Int32 × kp_K) :=
  p_cl (pX6_is s0) fun t350 =>
  bX6_works_407 κ t350
def bX6_works_330 (κ : kp_K) (s0 : Int32) : Option (Int32 × kp_K) :=
  p_cl (pX6_is s0) fun t330 =>
  bX6_works_407 κ t330
def bX6_works_376 (κ : kp_K) (s0 : Int32) : Option (Int32 × kp_K) :=
  p_cl (pX6_is s0) fun t376 =>
  bX6_works_407 κ t376
def bX6_works_375 (κ : kp_K) : Option (Int32 × kp_K) :=
  bX6_works_376 κ (0 : Int32)
def bX6_works_402 (κ : kp_K) (s0 : Int32) : Option (Int32 × kp_K) :=
  p_cl (pX6_is s0) fun t402 =>
  bX6_works_407 κ t402
def bX6_works_397 (κ : kp_K) : Option (Int32 × kp_K) :=
  bX6_works_402 κ (1 : Int32)
def bX6_works_40 (κ : kp_K) (s0 : Int32) (s1 : Int32) : Option (Int32 × kp_K) :=
  p_cl (pX6_is s0) fun t40 =>
  p_ck s1 64 <|
  p_lt (s_l κ 90 s1.toNatClampNeg t40) fun k43 =>
  some ((1 : Int32), k43)
def pX6_works (κ : kp_K) (v1 : Int32) : Option (Int32 × kp_K) :=
  p_lt ((κ.1 66 42) - (1 : Int32)) fun i10 =>
  p_ck i10 64 <|
  p_lt (κ.2.1 90 i10.toNatClampNeg) fun t11 =>
  if v1 = (260 : Int32) then
    (if (lg_cmp t11 (0 : Int64)) = 0 then
      (bX6_works_40 κ (1 : Int32) ((κ.1 66 42) - (1 : Int32)))
    else
    bX6_works_40 κ (0 : Int32) ((κ.1 66 42) - (1 : Int32)))
  else
  p_lt ((κ.1 66 42) - (2 : Int32)) fun i56 =>
  p_ck i56 64 <|
  p_lt (κ.2.1 90 i56.toNatClampNeg) fun t57 =>
  p_lt (s_i κ 66 42 ((κ.1 66 42) - (1 : Int32))) fun k66 =>
  if v1 = (42 : Int32) then
    (if (lg_cmp t57 (0 : Int64)) = 0 then
      (bX6_works_212 k66 t11 t57)
    else
    p_cdl (if 0 < t57 then t57 else -t57) <|
    if (lg_cmp (if 0 < t11 then t11 else -t11) ((1000000000000 : Int64) / (if 0 < t57 then t57 else -t57))) ≤ 0 then
      (bX6_works_212 k66 t11 t57)
    else
    some ((0 : Int32), k66))
  else
  if v1 = (43 : Int32) then
    (p_lt (t57 + t11) fun t172 =>
    bX6_works_407 k66 t172)
  else
  if v1 = (45 : Int32) then
    (p_lt (t57 - t11) fun t181 =>
    bX6_works_407 k66 t181)
  else
  if v1 = (47 : Int32) then
    (if (lg_cmp t11 (0 : Int64)) = 0 then
      (some ((0 : Int32), k66))
    else
    p_cdl t11 <|
    p_lt (t57 / t11) fun t233 =>
    bX6_works_407 k66 t233)
  else
  if v1 = (60 : Int32) then
    (if 0 ≤ (lg_cmp t57 t11) then
      (bX6_works_250 k66 (0 : Int32))
    else
    bX6_works_250 k66 (1 : Int32))
  else
  if v1 = (61 : Int32) then
    (if (lg_cmp t57 t11) = 0 then
      (bX6_works_290 k66 (1 : Int32))
    else
    bX6_works_290 k66 (0 : Int32))
  else
  if v1 = (62 : Int32) then
    (if (lg_cmp t57 t11) ≤ 0 then
      (bX6_works_270 k66 (0 : Int32))
    else
    bX6_works_270 k66 (1 : Int32))
  else
  if v1 = (256 : Int32) then
    (if 0 < (lg_cmp t57 t11) then
      (bX6_works_310 k66 (0 : Int32))
    else
    bX6_works_310 k66 (1 : Int32))
  else
  if v1 = (257 : Int32) then
    (if (lg_cmp t57 t11) = 0 then
      (bX6_works_350 k66 (0 : Int32))
    else
    bX6_works_350 k66 (1 : Int32))
  else
  if v1 = (258 : Int32) then
    (if (lg_cmp t57 t11) < 0 then
      (bX6_works_330 k66 (0 : Int32))
    else
    bX6_works_330 k66 (1 : Int32))
  else
  if v1 = (261 : Int32) then
    (if (lg_cmp t57 (0 : Int64)) = 0 then
      (bX6_works_375 k66)
    else
    if (lg_cmp t11 (0 : Int64)) = 0 then
      (bX6_works_375 k66)
    else
    bX6_works_376 k66 (1 : Int32))
  else
  if (lg_cmp t57 (0 : Int64)) = 0 then
    (if (lg_cmp t11 (0 : Int64)) = 0 then
      (bX6_works_402 k66 (0 : Int32))
    else
    bX6_works_397 k66)
  else
  bX6_works_397 k66
def bX6_goes0_85 (F : Nat) (k12 : kp_K → Int32 → Int32 → Option (Int32 × kp_K)) (κ : kp_K) (v1 : Int32) (v2 : Int32) (s0 : Int64) (s1 : Int32) : Option (Int32 × kp_K) :=
  p_ck s1 64 <|
  p_lt (s_l κ 90 s1.toNatClampNeg s0) fun k85 =>
  p_lt (s_i k85 66 42 ((k85.1 66 42) + (1 : Int32))) fun k93 =>
  k12 k93 v1 (v2 + (1 : Int32))
def bX6_goes0_12 (F : Nat) : Nat → kp_K → Int32 → Int32 → Option (Int32 × kp_K)
  | 0, _, _, _ => none
  | n + 1, κ, v1, v2 =>
    p_ck v1 12 <|
    if (κ.1 86 v1.toNatClampNeg) ≤ v2 then
      (some ((1 : Int32), κ))
    else
    p_ck v2 128 <|
    if (κ.1 87 v2.toNatClampNeg) = (2 : Int32) then
      (p_ck v2 128 <|
      p_cl (pX6_works κ (κ.1 88 v2.toNatClampNeg)) fun q39 => p_lt q39.1 fun t39 => p_lt q39.2 fun k39 =>
      if t39 = 0 then
        (some ((0 : Int32), k39))
      else
      bX6_goes0_12 F n k39 v1 (v2 + (1 : Int32)))
    else
    p_ck v2 128 <|
    if (κ.1 87 v2.toNatClampNeg) = 0 then
      (p_ck v2 128 <|
      bX6_goes0_85 F (bX6_goes0_12 F n) κ v1 v2 ((κ.1 88 v2.toNatClampNeg).toInt64) (κ.1 66 42))
    else
    p_ck v2 128 <|
    p_lt (κ.1 88 v2.toNatClampNeg) fun i84 =>
    p_ck i84 6 <|
    bX6_goes0_85 F (bX6_goes0_12 F n) κ v1 v2 (κ.2.1 89 i84.toNatClampNeg) (κ.1 66 42)
def pX6_goes0 (F : Nat) (κ : kp_K) (v1 : Int32) : Option (Int32 × kp_K) :=
  p_lt (s_i κ 66 42 (0 : Int32)) fun k2 =>
  p_ck v1 12 <|
  p_lt (k2.1 85 v1.toNatClampNeg) fun t11 =>
  bX6_goes0_12 F F k2 v1 t11
def bX6_lawOf_113 (F : Nat) (κ : kp_K) (v1 : Int32) (s0 : Int32) (s1 : Int32) : Option (Int64 × kp_K) :=
  p_cl (pX6_is s0) fun t113 =>
  p_ck s1 6 <|
  p_lt (s_l κ 89 s1.toNatClampNeg t113) fun k116 =>
  p_cl (pX6_goes0 F k116 v1) fun q119 => p_lt q119.1 fun t119 => p_lt q119.2 fun k119 =>
  if t119 = 0 then
    (some ((0 : Int64), k119))
  else
  p_ck (0 : Int32) 64 <|
  some ((k119.2.1 90 (0 : Int32).toNatClampNeg), k119)
def bX6_lawOf_36 (F : Nat) (κ : kp_K) (v1 : Int32) (v2 : Int32) (v3 : Int32) (v4 : Int32) (v5 : Int32) (v6 : Int32) (s0 : Int64) (s1 : Int32) : Option (Int64 × kp_K) :=
  p_ck s1 6 <|
  p_lt (s_l κ 89 s1.toNatClampNeg s0) fun k36 =>
  p_ck v2 3 <|
  p_ck (1 : Int32) 6 <|
  p_lt (s_l k36 89 (1 : Int32).toNatClampNeg ((v5 - (k36.1 91 v2.toNatClampNeg)).toInt64)) fun k52 =>
  p_ck v4 14 <|
  p_ck (2 : Int32) 6 <|
  p_lt (s_l k52 89 (2 : Int32).toNatClampNeg ((k52.1 73 v4.toNatClampNeg).toInt64)) fun k66 =>
  p_cl (pX6_othersOf F k66 v2 v3 v4) fun t77 =>
  p_ck (3 : Int32) 6 <|
  p_lt (s_l k66 89 (3 : Int32).toNatClampNeg t77.toInt64) fun k81 =>
  p_cl (pX6_askedOf F k81 v2 v3 v4) fun t92 =>
  p_ck (4 : Int32) 6 <|
  p_lt (s_l k81 89 (4 : Int32).toNatClampNeg t92.toInt64) fun k96 =>
  if v6 = (-1 : Int32) then
    (bX6_lawOf_113 F k96 v1 (1 : Int32) (5 : Int32))
  else
  bX6_lawOf_113 F k96 v1 (0 : Int32) (5 : Int32)
def pX6_lawOf (F : Nat) (κ : kp_K) (v1 : Int32) (v2 : Int32) (v3 : Int32) (v4 : Int32) (v5 : Int32) (v6 : Int32) (v7 : Int64) : Option (Int64 × kp_K) :=
  p_cl (pX6_isTold κ v1) fun t2 =>
  if t2 = 0 then
    (some (v7, κ))
  else
  if v6 = (-1 : Int32) then
    (bX6_lawOf_36 F κ v1 v2 v3 v4 v5 v6 (0 : Int64) (0 : Int32))
  else
  p_ck v2 3 <|
  bX6_lawOf_36 F κ v1 v2 v3 v4 v5 v6 (((κ.1 91 v2.toNatClampNeg) - v6).toInt64) (0 : Int32)
def pX6_keepOf (F : Nat) (κ : kp_K) (v1 : Int32) (v2 : Int32) (v3 : Int32) (v4 : Int32) (v5 : Int32) : Option (Int64 × kp_K) :=
  p_ck v1 3 <|
  p_cl (pX6_lawOf F κ (κ.1 66 39) v1 v2 v3 v4 v5 ((v4 - (κ.1 91 v1.toNatClampNeg)).toInt64)) fun q22 => p_lt q22.1 fun t22 => p_lt q22.2 fun k22 =>
  some (t22, k22)
def bX6_leastOf_78 (F : Nat) (k9 : kp_K → Int32 → Int32 → Int32 → Int32 → Int32 → Int64 → Int32 → Option (Int32 × kp_K)) (κ : kp_K) (v1 : Int32) (v2 : Int32) (v3 : Int32) (v4 : Int32) (v8 : Int32) (v10 : Int64) : Option (Int32 × kp_K) :=
  k9 κ v1 v2 v3 v4 v8 v10 (v8 + (1 : Int32))
def bX6_leastOf_9 (F : Nat) : Nat → kp_K → Int32 → Int32 → Int32 → Int32 → Int32 → Int64 → Int32 → Option (Int32 × kp_K)
  | 0, _, _, _, _, _, _, _, _ => none
  | n + 1, κ, v1, v2, v3, v4, v5, v6, v8 =>
    p_lt (((4 : Int32) * v1) + v2) fun i20 =>
    p_ck i20 12 <|
    if (κ.1 92 i20.toNatClampNeg) ≤ v8 then
      (p_cl (pX6_keepOf F κ v1 v2 v3 v4 (-1 : Int32)) fun q99 => p_lt q99.1 fun t99 => p_lt q99.2 fun k99 =>
      if 0 ≤ (lg_cmp t99 v6) then
        (some (v5, k99))
      else
      some ((-1 : Int32), k99))
    else
    p_cl (pX6_slot v1 v2 v8) fun t28 =>
    p_ck t28 84 <|
    p_ck t28 84 <|
    p_ck t28 84 <|
    p_cl (pX6_keepOf F κ v1 v2 (κ.1 93 t28.toNatClampNeg) (κ.1 94 t28.toNatClampNeg) (κ.1 95 t28.toNatClampNeg)) fun q57 => p_lt q57.1 fun t57 => p_lt q57.2 fun k57 =>
    if v8 ≤ 0 then
      (bX6_leastOf_78 F (bX6_leastOf_9 F n) k57 v1 v2 v3 v4 v8 t57)
    else
    if (lg_cmp t57 v6) < 0 then
      (bX6_leastOf_78 F (bX6_leastOf_9 F n) k57 v1 v2 v3 v4 v8 t57)
    else
    bX6_leastOf_9 F n k57 v1 v2 v3 v4 v5 v6 (v8 + (1 : Int32))
def pX6_leastOf (F : Nat) (κ : kp_K) (v1 : Int32) (v2 : Int32) (v3 : Int32) (v4 : Int32) : Option (Int32 × kp_K) :=
  bX6_leastOf_9 F F κ v1 v2 v3 v4 (0 : Int32) (0 : Int64) (0 : Int32)
def bX6_arrives_112 (F : Nat) (κ : kp_K) (v1 : Int32) (v2 : Int32) (v3 : Int32) (v4 : Int32) (v5 : Int32) (s0 : Int32) : Option (kp_K) :=
  if s0 = (-1 : Int32) then
    (p_cl (pX6_notes κ v1 v2 v3 (2 : Int32)) fun k125 =>
    some k125)
  else
  p_cl (pX6_slot v1 v2 s0) fun t140 =>
  p_ck t140 84 <|
  p_cl (pX6_notes κ v1 v2 (κ.1 93 t140.toNatClampNeg) (1 : Int32)) fun k145 =>
  p_cl (pX6_drops F k145 v1 v2 s0) fun k153 =>
  p_ck v5 12 <|
  p_cl (pX6_sets k153 v1 v2 (k153.1 92 v5.toNatClampNeg) v3 v4) fun k169 =>
  p_ck v5 12 <|
  p_ck v5 12 <|
  p_lt (s_i k169 92 v5.toNatClampNeg ((k169.1 92 v5.toNatClampNeg) + (1 : Int32))) fun k182 =>
  p_ck v5 12 <|
  p_lt (s_i k182 98 v5.toNatClampNeg (1 : Int32)) fun k190 =>
  some k190
def pX6_arrives (F : Nat) (κ : kp_K) (v1 : Int32) (v2 : Int32) (v3 : Int32) (v4 : Int32) : Option (kp_K) :=
  p_lt (((4 : Int32) * v1) + v2) fun t5 =>
  p_cl (pX6_lineOf F κ v1 v2 v3) fun t11 =>
  if t11 = (-1 : Int32) then
    (p_ck t5 12 <|
    p_cl (pX6_roomOf κ v2) fun t43 =>
    if t43 ≤ (κ.1 92 t5.toNatClampNeg) then
      (p_ck t5 12 <|
      if (κ.1 98 t5.toNatClampNeg) = 0 then
        (if (κ.1 66 37) = (3 : Int32) then
          (bX6_arrives_112 F κ v1 v2 v3 v4 t5 (0 : Int32))
        else
        p_cl (pX6_leastOf F κ v1 v2 v3 v4) fun q109 => p_lt q109.1 fun t109 => p_lt q109.2 fun k109 =>
        bX6_arrives_112 F k109 v1 v2 v3 v4 t5 t109)
      else
      bX6_arrives_112 F κ v1 v2 v3 v4 t5 (-1 : Int32))
    else
    p_ck t5 12 <|
    p_cl (pX6_sets κ v1 v2 (κ.1 92 t5.toNatClampNeg) v3 v4) fun k62 =>
    p_ck t5 12 <|
    p_ck t5 12 <|
    p_lt (s_i k62 92 t5.toNatClampNeg ((k62.1 92 t5.toNatClampNeg) + (1 : Int32))) fun k75 =>
    some k75)
  else
  p_cl (pX6_sets κ v1 v2 t11 v3 v4) fun k30 =>
  some k30
def bX6_whomOf_27 (κ : kp_K) (v1 : Int32) : Option (Int32) :=
  p_ck v1 8 <|
  some (κ.1 71 v1.toNatClampNeg)
def pX6_whomOf (κ : kp_K) (v1 : Int32) : Option (Int32) :=
  if (κ.1 66 37) = 0 then
    (some (-1 : Int32))
  else
  if (κ.1 66 37) = (4 : Int32) then
    (if (κ.1 66 38) = v1 then
      (some (-1 : Int32))
    else
    bX6_whomOf_27 κ v1)
  else
  bX6_whomOf_27 κ v1
def bX6_wants_6 (F : Nat) : Nat → kp_K → Int32 → Int32 → Int32 → Int64 → Int32 → Option (kp_K)
  | 0, _, _, _, _, _, _ => none
  | n + 1, κ, v1, v2, v3, v4, v6 =>
    p_lt (((4 : Int32) * v1) + v3) fun i17 =>
    p_ck i17 12 <|
    if (κ.1 92 i17.toNatClampNeg) ≤ v6 then
      (some κ)
    else
    p_cl (pX6_slot v1 v3 v6) fun t25 =>
    p_ck v2 4 <|
    p_ck t25 84 <|
    if (((κ.1 105 v2.toNatClampNeg) >>> ((κ.1 93 t25.toNatClampNeg) &&& 31)) &&& (1 : Int32)) = (1 : Int32) then
      (bX6_wants_6 F n κ v1 v2 v3 v4 (v6 + (1 : Int32)))
    else
    p_ck t25 84 <|
    p_ck t25 84 <|
    p_ck t25 84 <|
    p_lt (κ.1 93 t25.toNatClampNeg) fun i83 =>
    p_ck i83 14 <|
    p_cl (pX6_lawOf F κ (1 : Int32) v1 v2 (κ.1 93 t25.toNatClampNeg) (κ.1 94 t25.toNatClampNeg) (-1 : Int32) ((κ.1 73 i83.toNatClampNeg).toInt64)) fun q85 => p_lt q85.1 fun t85 => p_lt q85.2 fun k85 =>
    if 0 < (lg_cmp t85 v4) then
      (p_ck t25 84 <|
      p_ck v2 4 <|
      p_lt (s_i k85 106 v2.toNatClampNeg (k85.1 93 t25.toNatClampNeg)) fun k117 =>
      p_ck t25 84 <|
      p_ck v2 4 <|
      p_lt (s_i k117 107 v2.toNatClampNeg (k117.1 94 t25.toNatClampNeg)) fun k130 =>
      bX6_wants_6 F n k130 v1 v2 v3 t85 (v6 + (1 : Int32)))
    else
    bX6_wants_6 F n k85 v1 v2 v3 v4 (v6 + (1 : Int32))
def pX6_wants (F : Nat) (κ : kp_K) (v1 : Int32) (v2 : Int32) (v3 : Int32) : Option (kp_K) :=
  bX6_wants_6 F F κ v1 v2 v3 (0 : Int64) (0 : Int32)
def bX6_noon_82 (F : Nat) : Nat → kp_K → Int32 → Int32 → Option (kp_K)
  | 0, _, _, _ => none
  | n + 1, κ, v1, v2 =>
    p_ck (0 : Int32) 16 <|
    if (κ.1 68 (0 : Int32).toNatClampNeg) ≤ v2 then
      (p_lt (s_i κ 66 59 (0 : Int32)) fun k128 =>
      some k128)
    else
    p_ck v2 4 <|
    if (κ.1 106 v2.toNatClampNeg) = (-1 : Int32) then
      (bX6_noon_82 F n κ v1 (v2 + (1 : Int32)))
    else
    p_ck v2 4 <|
    p_ck v2 4 <|
    p_cl (pX6_arrives F κ v1 v2 (κ.1 106 v2.toNatClampNeg) (κ.1 107 v2.toNatClampNeg)) fun k117 =>
    bX6_noon_82 F n k117 v1 (v2 + (1 : Int32))
def bX6_noon_37 (F : Nat) : Nat → kp_K → Int32 → Int32 → Option (kp_K)
  | 0, _, _, _ => none
  | n + 1, κ, v1, v2 =>
    p_ck (0 : Int32) 16 <|
    if (κ.1 68 (0 : Int32).toNatClampNeg) ≤ v2 then
      (bX6_noon_82 F F κ v1 (0 : Int32))
    else
    p_ck v2 4 <|
    p_lt (s_i κ 106 v2.toNatClampNeg (-1 : Int32)) fun k53 =>
    p_cl (pX6_whomOf k53 v2) fun t56 =>
    if t56 = (-1 : Int32) then
      (bX6_noon_37 F n k53 v1 (v2 + (1 : Int32)))
    else
    p_cl (pX6_whomOf k53 v2) fun t68 =>
    p_cl (pX6_wants F k53 v1 v2 t68) fun k71 =>
    bX6_noon_37 F n k71 v1 (v2 + (1 : Int32))
def bX6_noon_2 (F : Nat) : Nat → kp_K → Int32 → Int32 → Option (kp_K)
  | 0, _, _, _ => none
  | n + 1, κ, v1, v2 =>
    p_ck (0 : Int32) 16 <|
    if (κ.1 68 (0 : Int32).toNatClampNeg) ≤ v2 then
      (p_lt (s_i κ 66 59 (1 : Int32)) fun k32 =>
      bX6_noon_37 F F k32 v1 (0 : Int32))
    else
    p_cl (pX6_setOf F κ v1 v2) fun t20 =>
    p_ck v2 4 <|
    p_lt (s_i κ 105 v2.toNatClampNeg t20) fun k23 =>
    bX6_noon_2 F n k23 v1 (v2 + (1 : Int32))
def pX6_noon (F : Nat) (κ : kp_K) (v1 : Int32) : Option (kp_K) :=
  bX6_noon_2 F F κ v1 (0 : Int32)
def bX6_burns_2 (F : Nat) : Nat → kp_K → Int32 → Int32 → Int32 → Option (Int32)
  | 0, _, _, _, _ => none
  | n + 1, κ, v1, v2, v3 =>
    p_ck (4 : Int32) 16 <|
    if (κ.1 68 (4 : Int32).toNatClampNeg) ≤ v3 then
      (some (0 : Int32))
    else
    if (κ.1 66 37) = (1 : Int32) then
      (some (0 : Int32))
    else
    p_ck v3 8 <|
    if (κ.1 82 v3.toNatClampNeg) = v2 then
      (p_ck v3 8 <|
      if (κ.1 83 v3.toNatClampNeg) = v1 then
        (some (1 : Int32))
      else
      bX6_burns_2 F n κ v1 v2 (v3 + (1 : Int32)))
    else
    bX6_burns_2 F n κ v1 v2 (v3 + (1 : Int32))
def pX6_burns (F : Nat) (κ : kp_K) (v1 : Int32) (v2 : Int32) : Option (Int32) :=
  bX6_burns_2 F F κ v1 v2 (0 : Int32)
def bX6_hasCome_2 (F : Nat) : Nat → kp_K → Int32 → Int32 → Int32 → Option (Int32)
  | 0, _, _, _, _ => none
  | n + 1, κ, v1, v2, v3 =>
    p_ck (2 : Int32) 16 <|
    if (κ.1 68 (2 : Int32).toNatClampNeg) ≤ v3 then
      (some (0 : Int32))
    else
    p_cl (pX6_isComing κ v3) fun t14 =>
    if t14 = 0 then
      (bX6_hasCome_2 F n κ v1 v2 (v3 + (1 : Int32)))
    else
    p_ck v3 32 <|
    if (κ.1 76 v3.toNatClampNeg) = v1 then
      (p_ck v3 32 <|
      if v2 < (κ.1 74 v3.toNatClampNeg) then
        (bX6_hasCome_2 F n κ v1 v2 (v3 + (1 : Int32)))
      else
      p_ck v3 32 <|
      if (κ.1 77 v3.toNatClampNeg) < v2 then
        (bX6_hasCome_2 F n κ v1 v2 (v3 + (1 : Int32)))
      else
      some (1 : Int32))
    else
    bX6_hasCome_2 F n κ v1 v2 (v3 + (1 : Int32))
def pX6_hasCome (F : Nat) (κ : kp_K) (v1 : Int32) (v2 : Int32) : Option (Int32) :=
  bX6_hasCome_2 F F κ v1 v2 (0 : Int32)
def bX6_asks_85 (F : Nat) (κ : kp_K) (v1 : Int32) (v2 : Int32) (v4 : Int32) (s0 : Int32) (s1 : Int32) : Option (kp_K) :=
  p_ck s1 48 <|
  p_lt (s_i κ 99 s1.toNatClampNeg s0) fun k85 =>
  if v4 = 0 then
    (some k85)
  else
  p_ck v2 32 <|
  p_lt (((4 : Int32) * v1) + (k85.1 79 v2.toNatClampNeg)) fun t105 =>
  p_ck t105 12 <|
  p_ck v2 32 <|
  p_lt (k85.1 80 v2.toNatClampNeg) fun i117 =>
  p_ck i117 14 <|
  p_ck t105 12 <|
  p_lt (s_i k85 96 t105.toNatClampNeg ((k85.1 96 t105.toNatClampNeg) + (k85.1 73 i117.toNatClampNeg))) fun k119 =>
  some k119
def bX6_asks_55 (F : Nat) (κ : kp_K) (v1 : Int32) (v2 : Int32) (v3 : Int32) (s0 : Int32) : Option (kp_K) :=
  if v3 = 0 then
    (if s0 = 0 then
      (bX6_asks_85 F κ v1 v2 s0 (0 : Int32) (((16 : Int32) * v1) + v2))
    else
    bX6_asks_85 F κ v1 v2 s0 (2 : Int32) (((16 : Int32) * v1) + v2))
  else
  bX6_asks_85 F κ v1 v2 s0 (1 : Int32) (((16 : Int32) * v1) + v2)
def bX6_asks_54 (F : Nat) (κ : kp_K) (v1 : Int32) (v2 : Int32) (v3 : Int32) : Option (kp_K) :=
  bX6_asks_55 F κ v1 v2 v3 (0 : Int32)
def bX6_asks_26 (F : Nat) (κ : kp_K) (v1 : Int32) (v2 : Int32) (s0 : Int32) : Option (kp_K) :=
  if s0 = 0 then
    (p_ck v2 32 <|
    p_ck v2 32 <|
    p_cl (pX6_hasCome F κ (κ.1 80 v2.toNatClampNeg) (κ.1 78 v2.toNatClampNeg)) fun t44 =>
    if t44 = 0 then
      (bX6_asks_54 F κ v1 v2 s0)
    else
    bX6_asks_55 F κ v1 v2 s0 (1 : Int32))
  else
  bX6_asks_54 F κ v1 v2 s0
def pX6_asks (F : Nat) (κ : kp_K) (v1 : Int32) (v2 : Int32) : Option (kp_K) :=
  p_ck v2 32 <|
  p_ck v2 32 <|
  p_cl (pX6_lineOf F κ v1 (κ.1 79 v2.toNatClampNeg) (κ.1 80 v2.toNatClampNeg)) fun t14 =>
  if t14 = (-1 : Int32) then
    (bX6_asks_26 F κ v1 v2 (0 : Int32))
  else
  bX6_asks_26 F κ v1 v2 (1 : Int32)
def bX6_passes_290 (F : Nat) : Nat → kp_K → Int32 → Int32 → Int32 → Option (kp_K)
  | 0, _, _, _, _ => none
  | n + 1, κ, v1, v2, v3 =>
    p_ck (0 : Int32) 16 <|
    if (κ.1 68 (0 : Int32).toNatClampNeg) ≤ v3 then
      (p_ck v1 3 <|
      p_ck v1 3 <|
      p_lt (s_i κ 91 v1.toNatClampNeg ((κ.1 91 v1.toNatClampNeg) + (1 : Int32))) fun k368 =>
      some k368)
    else
    p_lt (((4 : Int32) * v1) + v3) fun t305 =>
    p_ck t305 12 <|
    if (κ.1 97 t305.toNatClampNeg) = (-1 : Int32) then
      (p_ck t305 12 <|
      if (κ.1 96 t305.toNatClampNeg) ≤ 0 then
        (bX6_passes_290 F n κ v1 v2 (v3 + (1 : Int32)))
      else
      p_ck t305 12 <|
      p_ck (6 : Int32) 16 <|
      if (κ.1 96 t305.toNatClampNeg) < (κ.1 68 (6 : Int32).toNatClampNeg) then
        (bX6_passes_290 F n κ v1 v2 (v3 + (1 : Int32)))
      else
      p_ck t305 12 <|
      p_lt (s_i κ 97 t305.toNatClampNeg v2) fun k352 =>
      bX6_passes_290 F n k352 v1 v2 (v3 + (1 : Int32)))
    else
    bX6_passes_290 F n κ v1 v2 (v3 + (1 : Int32))
def bX6_passes_256 (F : Nat) : Nat → kp_K → Int32 → Int32 → Int32 → Option (kp_K)
  | 0, _, _, _, _ => none
  | n + 1, κ, v1, v2, v3 =>
    p_ck (3 : Int32) 16 <|
    if (κ.1 68 (3 : Int32).toNatClampNeg) ≤ v3 then
      (bX6_passes_290 F F κ v1 v2 (0 : Int32))
    else
    p_ck v3 32 <|
    if (κ.1 78 v3.toNatClampNeg) = v2 then
      (p_cl (pX6_asks F κ v1 v3) fun k279 =>
      bX6_passes_256 F n k279 v1 v2 (v3 + (1 : Int32)))
    else
    bX6_passes_256 F n κ v1 v2 (v3 + (1 : Int32))
def bX6_passes_197 (F : Nat) (k172 : kp_K → Int32 → Int32 → Int32 → Option (kp_K)) : Nat → kp_K → Int32 → Int32 → Int32 → Int32 → Option (kp_K)
  | 0, _, _, _, _, _ => none
  | n + 1, κ, v1, v2, v3, v4 =>
    p_lt (((4 : Int32) * v1) + v3) fun i208 =>
    p_ck i208 12 <|
    if (κ.1 92 i208.toNatClampNeg) ≤ v4 then
      (p_ck (((4 : Int32) * v1) + v3) 12 <|
      p_lt (s_i κ 92 (((4 : Int32) * v1) + v3).toNatClampNeg (0 : Int32)) fun k247 =>
      k172 k247 v1 v2 (v3 + (1 : Int32)))
    else
    p_cl (pX6_slot v1 v3 v4) fun t223 =>
    p_ck t223 84 <|
    p_cl (pX6_notes κ v1 v3 (κ.1 93 t223.toNatClampNeg) (3 : Int32)) fun k228 =>
    bX6_passes_197 F k172 n k228 v1 v2 v3 (v4 + (1 : Int32))
def bX6_passes_172 (F : Nat) : Nat → kp_K → Int32 → Int32 → Int32 → Option (kp_K)
  | 0, _, _, _, _ => none
  | n + 1, κ, v1, v2, v3 =>
    p_ck (0 : Int32) 16 <|
    if (κ.1 68 (0 : Int32).toNatClampNeg) ≤ v3 then
      (bX6_passes_256 F F κ v1 v2 (0 : Int32))
    else
    p_cl (pX6_burns F κ v3 v2) fun t185 =>
    if t185 = 0 then
      (bX6_passes_172 F n κ v1 v2 (v3 + (1 : Int32)))
    else
    bX6_passes_197 F (bX6_passes_172 F n) F κ v1 v2 v3 (0 : Int32)
def bX6_passes_108 (F : Nat) : Nat → kp_K → Int32 → Int32 → Int32 → Option (kp_K)
  | 0, _, _, _, _ => none
  | n + 1, κ, v1, v2, v3 =>
    p_ck (2 : Int32) 16 <|
    if (κ.1 68 (2 : Int32).toNatClampNeg) ≤ v3 then
      (p_cl (pX6_noon F κ v1) fun k167 =>
      bX6_passes_172 F F k167 v1 v2 (0 : Int32))
    else
    p_ck v3 32 <|
    if (κ.1 74 v3.toNatClampNeg) = v2 then
      (p_cl (pX6_isComing κ v3) fun t130 =>
      if t130 = 0 then
        (bX6_passes_108 F n κ v1 v2 (v3 + (1 : Int32)))
      else
      p_ck v3 32 <|
      p_ck v3 32 <|
      p_ck v3 32 <|
      p_cl (pX6_arrives F κ v1 (κ.1 75 v3.toNatClampNeg) (κ.1 76 v3.toNatClampNeg) (κ.1 77 v3.toNatClampNeg)) fun k156 =>
      bX6_passes_108 F n k156 v1 v2 (v3 + (1 : Int32)))
    else
    bX6_passes_108 F n κ v1 v2 (v3 + (1 : Int32))
def bX6_passes_33 (F : Nat) (k9 : kp_K → Int32 → Int32 → Int32 → Option (kp_K)) : Nat → kp_K → Int32 → Int32 → Int32 → Int32 → Option (kp_K)
  | 0, _, _, _, _, _ => none
  | n + 1, κ, v1, v2, v3, v4 =>
    p_lt (((4 : Int32) * v1) + v3) fun i44 =>
    p_ck i44 12 <|
    if (κ.1 92 i44.toNatClampNeg) ≤ v4 then
      (k9 κ v1 v2 (v3 + (1 : Int32)))
    else
    p_cl (pX6_slot v1 v3 v4) fun t56 =>
    p_ck t56 84 <|
    if (κ.1 94 t56.toNatClampNeg) < v2 then
      (p_cl (pX6_slot v1 v3 v4) fun t81 =>
      p_ck t81 84 <|
      p_cl (pX6_notes κ v1 v3 (κ.1 93 t81.toNatClampNeg) (0 : Int32)) fun k86 =>
      p_cl (pX6_drops F k86 v1 v3 v4) fun k94 =>
      bX6_passes_33 F k9 n k94 v1 v2 v3 v4)
    else
    bX6_passes_33 F k9 n κ v1 v2 v3 (v4 + (1 : Int32))
def bX6_passes_9 (F : Nat) : Nat → kp_K → Int32 → Int32 → Int32 → Option (kp_K)
  | 0, _, _, _, _ => none
  | n + 1, κ, v1, v2, v3 =>
    p_ck (0 : Int32) 16 <|
    if (κ.1 68 (0 : Int32).toNatClampNeg) ≤ v3 then
      (bX6_passes_108 F F κ v1 v2 (0 : Int32))
    else
    p_ck (((4 : Int32) * v1) + v3) 12 <|
    p_lt (s_i κ 98 (((4 : Int32) * v1) + v3).toNatClampNeg (0 : Int32)) fun k29 =>
    bX6_passes_33 F (bX6_passes_9 F n) F k29 v1 v2 v3 (0 : Int32)
def pX6_passes (F : Nat) (κ : kp_K) (v1 : Int32) : Option (kp_K) :=
  p_ck v1 3 <|
  p_lt (κ.1 91 v1.toNatClampNeg) fun t6 =>
  bX6_passes_9 F F κ v1 t6 (0 : Int32)
def bX6_days_36 (F : Nat) : Nat → kp_K → Int32 → Int32 → Option (Int32 × kp_K)
  | 0, _, _, _ => none
  | n + 1, κ, v1, v2 =>
    if v1 ≤ v2 then
      (p_ck (0 : Int32) 3 <|
      some ((κ.1 91 (0 : Int32).toNatClampNeg), κ))
    else
    p_cl (pX6_passes F κ (0 : Int32)) fun k43 =>
    bX6_days_36 F n k43 v1 (v2 + (1 : Int32))
def pX6_days (F : Nat) (κ : kp_K) (v1 : Int32) : Option (Int32 × kp_K) :=
  p_lt (s_i κ 66 0 (0 : Int32)) fun k2 =>
  if v1 < 0 then
    (some ((-1 : Int32), k2))
  else
  if (61 : Int32) < v1 then
    (some ((-1 : Int32), k2))
  else
  p_ck (0 : Int32) 3 <|
  if ((k2.1 91 (0 : Int32).toNatClampNeg) + v1) ≤ (61 : Int32) then
    (p_cl (pX6_plain k2) fun k31 =>
    bX6_days_36 F F k31 v1 (0 : Int32))
  else
  some ((-1 : Int32), k2)
def pX6_went (κ : kp_K) (v1 : Int32) (v2 : Int32) : Option (Int32 × kp_K) :=
  p_lt (s_i κ 66 0 (0 : Int32)) fun k2 =>
  if v1 = (-1 : Int32) then
    (if v2 = 0 then
      (p_ck (0 : Int32) 3 <|
      some ((k2.1 100 (0 : Int32).toNatClampNeg), k2))
    else
    some ((-1 : Int32), k2))
  else
  if v1 < 0 then
    (some ((-1 : Int32), k2))
  else
  if v2 < 0 then
    (some ((-1 : Int32), k2))
  else
  if v2 ≤ (3 : Int32) then
    (p_ck (0 : Int32) 3 <|
    if v1 < (k2.1 100 (0 : Int32).toNatClampNeg) then
      (if v2 = 0 then
        (p_ck v1 1920 <|
        some ((k2.1 101 v1.toNatClampNeg), k2))
      else
      if v2 = (1 : Int32) then
        (p_ck v1 1920 <|
        some ((k2.1 102 v1.toNatClampNeg), k2))
      else
      if v2 = (2 : Int32) then
        (p_ck v1 1920 <|
        some ((k2.1 103 v1.toNatClampNeg), k2))
      else
      p_ck v1 1920 <|
      some ((k2.1 104 v1.toNatClampNeg), k2))
    else
    some ((-2 : Int32), k2))
  else
  some ((-1 : Int32), k2)
def pX6_isQuestion (κ : kp_K) (v1 : Int32) : Option (Int32) :=
  if v1 < 0 then
    (some (0 : Int32))
  else
  p_ck (3 : Int32) 16 <|
  if (κ.1 68 (3 : Int32).toNatClampNeg) ≤ v1 then
    (some (0 : Int32))
  else
  some (1 : Int32)
def pX6_answer (κ : kp_K) (v1 : Int32) : Option (Int32 × kp_K) :=
  p_lt (s_i κ 66 0 (0 : Int32)) fun k2 =>
  p_cl (pX6_isQuestion k2 v1) fun t7 =>
  if t7 = 0 then
    (some ((-1 : Int32), k2))
  else
  p_ck v1 48 <|
  some ((k2.1 99 v1.toNatClampNeg), k2)
def bX6_byOdds_2 (F : Nat) : Nat → kp_K → Int32 → Option (kp_K)
  | 0, _, _ => none
  | n + 1, κ, v1 =>
    p_ck (3 : Int32) 16 <|
    if (κ.1 68 (3 : Int32).toNatClampNeg) ≤ v1 then
      (some κ)
    else
    p_ck v1 32 <|
    p_lt (κ.1 80 v1.toNatClampNeg) fun i27 =>
    p_ck i27 14 <|
    p_ck v1 32 <|
    p_ck v1 16 <|
    p_lt (s_i κ 110 v1.toNatClampNeg ((κ.1 73 i27.toNatClampNeg) * (κ.1 81 v1.toNatClampNeg))) fun k35 =>
    bX6_byOdds_2 F n k35 (v1 + (1 : Int32))
def pX6_byOdds (F : Nat) (κ : kp_K) : Option (kp_K) :=
  bX6_byOdds_2 F F κ (0 : Int32)
def bX6_orders_15 (F : Nat) (k7 : kp_K → Int32 → Int32 → Option (kp_K)) : Nat → kp_K → Int32 → Int32 → Int32 → Option (kp_K)
  | 0, _, _, _, _ => none
  | n + 1, κ, v1, v2, v3 =>
    p_ck (2 : Int32) 16 <|
    if (κ.1 68 (2 : Int32).toNatClampNeg) ≤ v3 then
      (k7 κ v1 (v2 + (1 : Int32)))
    else
    p_ck v3 32 <|
    if (κ.1 75 v3.toNatClampNeg) = v1 then
      (p_ck v3 32 <|
      if (κ.1 74 v3.toNatClampNeg) = v2 then
        (p_ck (κ.1 66 64) 16 <|
        p_lt (s_i κ 109 (κ.1 66 64).toNatClampNeg v3) fun k57 =>
        p_lt (s_i k57 66 64 ((k57.1 66 64) + (1 : Int32))) fun k65 =>
        bX6_orders_15 F k7 n k65 v1 v2 (v3 + (1 : Int32)))
      else
      bX6_orders_15 F k7 n κ v1 v2 (v3 + (1 : Int32)))
    else
    bX6_orders_15 F k7 n κ v1 v2 (v3 + (1 : Int32))
def bX6_orders_7 (F : Nat) : Nat → kp_K → Int32 → Int32 → Option (kp_K)
  | 0, _, _, _ => none
  | n + 1, κ, v1, v2 =>
    if (61 : Int32) ≤ v2 then
      (some κ)
    else
    bX6_orders_15 F (bX6_orders_7 F n) F κ v1 v2 (0 : Int32)
def pX6_orders (F : Nat) (κ : kp_K) (v1 : Int32) : Option (kp_K) :=
  p_lt (s_i κ 66 64 (0 : Int32)) fun k2 =>
  bX6_orders_7 F F k2 v1 (0 : Int32)
def bX6_bitsOf_4 (F : Nat) : Nat → Int32 → Int32 → Int32 → Option (Int32)
  | 0, _, _, _ => none
  | n + 1, v0, v1, v2 =>
    if (31 : Int32) ≤ v2 then
      (some v1)
    else
    p_lt (v1 + ((v0 >>> (v2 &&& 31)) &&& (1 : Int32))) fun t17 =>
    bX6_bitsOf_4 F n v0 t17 (v2 + (1 : Int32))
def pX6_bitsOf (F : Nat) (v0 : Int32) : Option (Int32) :=
  bX6_bitsOf_4 F F v0 (0 : Int32) (0 : Int32)
def pX6_dayOf (κ : kp_K) (v1 : Int32) : Option (Int32) :=
  if (κ.1 66 64) ≤ v1 then
    (some (61 : Int32))
  else
  p_ck v1 16 <|
  p_lt (κ.1 109 v1.toNatClampNeg) fun i18 =>
  p_ck i18 32 <|
  some (κ.1 74 i18.toNatClampNeg)
def pX6_atYet (v0 : Int32) (v1 : Int32) (v2 : Int32) : Option (Int32) :=
  some ((((v0 * (128 : Int32)) + v1) * (2 : Int32)) + v2)
def bX6_tillAt_5 (F : Nat) : Nat → kp_K → Int32 → Int32 → Int32 → Int32 → Option (Int32)
  | 0, _, _, _, _, _ => none
  | n + 1, κ, v1, v2, v3, v4 =>
    if v1 ≤ v4 then
      (some v3)
    else
    p_ck v4 16 <|
    p_lt (κ.1 109 v4.toNatClampNeg) fun i22 =>
    p_ck i22 32 <|
    if (κ.1 76 i22.toNatClampNeg) = v2 then
      (p_ck v4 16 <|
      p_lt (κ.1 109 v4.toNatClampNeg) fun i38 =>
      p_ck i38 32 <|
      p_lt (κ.1 77 i38.toNatClampNeg) fun t39 =>
      bX6_tillAt_5 F n κ v1 v2 t39 (v4 + (1 : Int32)))
    else
    bX6_tillAt_5 F n κ v1 v2 v3 (v4 + (1 : Int32))
def pX6_tillAt (F : Nat) (κ : kp_K) (v1 : Int32) (v2 : Int32) : Option (Int32) :=
  bX6_tillAt_5 F F κ v1 v2 (-1 : Int32) (0 : Int32)
def bX6_living_6 (F : Nat) : Nat → kp_K → Int32 → Int32 → Int32 → Int32 → Int32 → Option (Int32)
  | 0, _, _, _, _, _, _ => none
  | n + 1, κ, v1, v2, v3, v4, v5 =>
    if (7 : Int32) ≤ v5 then
      (some v4)
    else
    if ((v1 >>> (v5 &&& 31)) &&& (1 : Int32)) = (1 : Int32) then
      (p_cl (pX6_tillAt F κ v2 v5) fun t27 =>
      if v3 ≤ t27 then
        (bX6_living_6 F n κ v1 v2 v3 v4 (v5 + (1 : Int32)))
      else
      p_lt (v4 &&& (((1 : Int32) <<< (v5 &&& 31)) ^^^ (-1 : Int32))) fun t43 =>
      bX6_living_6 F n κ v1 v2 v3 t43 (v5 + (1 : Int32)))
    else
    bX6_living_6 F n κ v1 v2 v3 v4 (v5 + (1 : Int32))
def pX6_living (F : Nat) (κ : kp_K) (v1 : Int32) (v2 : Int32) (v3 : Int32) : Option (Int32) :=
  bX6_living_6 F F κ v1 v2 v3 v1 (0 : Int32)
def bX6_brings_6 (F : Nat) : Nat → kp_K → Int32 → Int32 → Int32 → Int32 → Int32 → Int64 → Int32 → Option (Int64)
  | 0, _, _, _, _, _, _, _, _ => none
  | n + 1, κ, v1, v2, v3, v4, v5, v6, v8 =>
    p_ck (3 : Int32) 16 <|
    if (κ.1 68 (3 : Int32).toNatClampNeg) ≤ v8 then
      (some v6)
    else
    p_ck v8 32 <|
    if (κ.1 79 v8.toNatClampNeg) = v1 then
      (p_ck v8 32 <|
      if (κ.1 78 v8.toNatClampNeg) < v4 then
        (bX6_brings_6 F n κ v1 v2 v3 v4 v5 v6 (v8 + (1 : Int32)))
      else
      p_ck v8 32 <|
      if (κ.1 78 v8.toNatClampNeg) < v5 then
        (p_ck v8 32 <|
        p_cl (pX6_living F κ v2 v3 (κ.1 78 v8.toNatClampNeg)) fun t65 =>
        p_ck v8 32 <|
        if ((t65 >>> ((κ.1 80 v8.toNatClampNeg) &&& 31)) &&& (1 : Int32)) = (1 : Int32) then
          (p_ck v8 16 <|
          p_lt (v6 + (κ.1 110 v8.toNatClampNeg).toInt64) fun t93 =>
          bX6_brings_6 F n κ v1 v2 v3 v4 v5 t93 (v8 + (1 : Int32)))
        else
        bX6_brings_6 F n κ v1 v2 v3 v4 v5 v6 (v8 + (1 : Int32)))
      else
      bX6_brings_6 F n κ v1 v2 v3 v4 v5 v6 (v8 + (1 : Int32)))
    else
    bX6_brings_6 F n κ v1 v2 v3 v4 v5 v6 (v8 + (1 : Int32))
def pX6_brings (F : Nat) (κ : kp_K) (v1 : Int32) (v2 : Int32) (v3 : Int32) (v4 : Int32) (v5 : Int32) : Option (Int64) :=
  bX6_brings_6 F F κ v1 v2 v3 v4 v5 (0 : Int64) (0 : Int32)
def bX6_behind_56 (F : Nat) (κ : kp_K) (v1 : Int32) (v2 : Int32) (v3 : Int32) (v5 : Int32) (v6 : Int32) : Option (Int64) :=
  p_cl (pX6_brings F κ v1 v3 v2 v5 v6) fun t64 =>
  if v2 = (κ.1 66 64) then
    (some t64)
  else
  p_cl (pX6_living F κ v3 v2 v6) fun t94 =>
  p_cl (pX6_atYet v2 t94 (0 : Int32)) fun t98 =>
  p_ck t98 4352 <|
  some (t64 + (κ.2.1 108 t98.toNatClampNeg))
def bX6_behind_15 (F : Nat) (κ : kp_K) (v1 : Int32) (v2 : Int32) (v3 : Int32) (v4 : Int32) (s0 : Int32) : Option (Int64) :=
  p_cl (pX6_dayOf κ v2) fun t19 =>
  if (κ.1 66 64) ≤ v2 then
    (bX6_behind_56 F κ v1 v2 v3 s0 t19)
  else
  if t19 = s0 then
    (if v2 ≤ 0 then
      (bX6_behind_56 F κ v1 v2 v3 s0 t19)
    else
    p_cl (pX6_atYet v2 v3 v4) fun t51 =>
    p_ck t51 4352 <|
    some (κ.2.1 108 t51.toNatClampNeg))
  else
  bX6_behind_56 F κ v1 v2 v3 s0 t19
def pX6_behind (F : Nat) (κ : kp_K) (v1 : Int32) (v2 : Int32) (v3 : Int32) (v4 : Int32) : Option (Int64) :=
  if v2 = 0 then
    (bX6_behind_15 F κ v1 v2 v3 v4 (0 : Int32))
  else
  p_cl (pX6_dayOf κ (v2 - (1 : Int32))) fun t12 =>
  bX6_behind_15 F κ v1 v2 v3 v4 t12
def bX6_layYet_168 (F : Nat) (k12 : kp_K → Int32 → Int32 → Option (kp_K)) (k31 : kp_K → Int32 → Int32 → Int32 → Int32 → Option (kp_K)) (k42 : kp_K → Int32 → Int32 → Int32 → Int32 → Int32 → Option (kp_K)) (κ : kp_K) (v1 : Int32) (v2 : Int32) (v3 : Int32) (v4 : Int32) (v5 : Int32) (v6 : Int64) : Option (kp_K) :=
  p_cl (pX6_atYet v2 v4 v5) fun t177 =>
  p_ck t177 4352 <|
  p_lt (s_l κ 108 t177.toNatClampNeg v6) fun k182 =>
  k42 k182 v1 v2 v3 v4 (v5 + (1 : Int32))
def bX6_layYet_72 (F : Nat) (k12 : kp_K → Int32 → Int32 → Option (kp_K)) (k31 : kp_K → Int32 → Int32 → Int32 → Int32 → Option (kp_K)) (k42 : kp_K → Int32 → Int32 → Int32 → Int32 → Int32 → Option (kp_K)) (κ : kp_K) (v1 : Int32) (v2 : Int32) (v3 : Int32) (v4 : Int32) (v5 : Int32) : Option (kp_K) :=
  p_cl (pX6_behind F κ v1 (v2 + (1 : Int32)) (v4 ||| ((1 : Int32) <<< (v3 &&& 31))) v5) fun t85 =>
  bX6_layYet_168 F k12 k31 k42 κ v1 v2 v3 v4 v5 t85
def bX6_layYet_110 (F : Nat) (k12 : kp_K → Int32 → Int32 → Option (kp_K)) (k31 : kp_K → Int32 → Int32 → Int32 → Int32 → Option (kp_K)) (k42 : kp_K → Int32 → Int32 → Int32 → Int32 → Int32 → Option (kp_K)) : Nat → kp_K → Int32 → Int32 → Int32 → Int32 → Int32 → Int64 → Int32 → Option (kp_K)
  | 0, _, _, _, _, _, _, _, _ => none
  | n + 1, κ, v1, v2, v3, v4, v5, v6, v8 =>
    if (7 : Int32) ≤ v8 then
      (bX6_layYet_168 F k12 k31 k42 κ v1 v2 v3 v4 v5 v6)
    else
    if v5 = 0 then
      (if ((v4 >>> (v8 &&& 31)) &&& (1 : Int32)) = (1 : Int32) then
        (p_cl (pX6_behind F κ v1 (v2 + (1 : Int32)) ((v4 &&& (((1 : Int32) <<< (v8 &&& 31)) ^^^ (-1 : Int32))) ||| ((1 : Int32) <<< (v3 &&& 31))) (1 : Int32)) fun t154 =>
        p_lt (if t154 < v6 then v6 else t154) fun t160 =>
        bX6_layYet_110 F k12 k31 k42 n κ v1 v2 v3 v4 v5 t160 (v8 + (1 : Int32)))
      else
      bX6_layYet_110 F k12 k31 k42 n κ v1 v2 v3 v4 v5 v6 (v8 + (1 : Int32)))
    else
    bX6_layYet_168 F k12 k31 k42 κ v1 v2 v3 v4 v5 v6
def bX6_layYet_42 (F : Nat) (k12 : kp_K → Int32 → Int32 → Option (kp_K)) (k31 : kp_K → Int32 → Int32 → Int32 → Int32 → Option (kp_K)) : Nat → kp_K → Int32 → Int32 → Int32 → Int32 → Int32 → Option (kp_K)
  | 0, _, _, _, _, _, _ => none
  | n + 1, κ, v1, v2, v3, v4, v5 =>
    if (2 : Int32) ≤ v5 then
      (k31 κ v1 v2 v3 (v4 + (1 : Int32)))
    else
    if ((v4 >>> (v3 &&& 31)) &&& (1 : Int32)) = (1 : Int32) then
      (bX6_layYet_72 F k12 k31 (bX6_layYet_42 F k12 k31 n) κ v1 v2 v3 v4 v5)
    else
    p_cl (pX6_bitsOf F v4) fun t60 =>
    p_ck v1 8 <|
    if (κ.1 70 v1.toNatClampNeg) ≤ t60 then
      (p_cl (pX6_behind F κ v1 (v2 + (1 : Int32)) v4 v5) fun t102 =>
      bX6_layYet_110 F k12 k31 (bX6_layYet_42 F k12 k31 n) F κ v1 v2 v3 v4 v5 t102 (0 : Int32))
    else
    bX6_layYet_72 F k12 k31 (bX6_layYet_42 F k12 k31 n) κ v1 v2 v3 v4 v5
def bX6_layYet_31 (F : Nat) (k12 : kp_K → Int32 → Int32 → Option (kp_K)) : Nat → kp_K → Int32 → Int32 → Int32 → Int32 → Option (kp_K)
  | 0, _, _, _, _, _ => none
  | n + 1, κ, v1, v2, v3, v4 =>
    if (128 : Int32) ≤ v4 then
      (k12 κ v1 (v2 + (-1 : Int32)))
    else
    bX6_layYet_42 F k12 (bX6_layYet_31 F k12 n) F κ v1 v2 v3 v4 (0 : Int32)
def bX6_layYet_12 (F : Nat) : Nat → kp_K → Int32 → Int32 → Option (kp_K)
  | 0, _, _, _ => none
  | n + 1, κ, v1, v2 =>
    if v2 < 0 then
      (some κ)
    else
    p_ck v2 16 <|
    p_lt (κ.1 109 v2.toNatClampNeg) fun i26 =>
    p_ck i26 32 <|
    p_lt (κ.1 76 i26.toNatClampNeg) fun t27 =>
    bX6_layYet_31 F (bX6_layYet_12 F n) F κ v1 v2 t27 (0 : Int32)
def pX6_layYet (F : Nat) (κ : kp_K) (v1 : Int32) : Option (kp_K) :=
  p_cl (pX6_orders F κ v1) fun k2 =>
  p_lt ((k2.1 66 64) - (1 : Int32)) fun t11 =>
  bX6_layYet_12 F F k2 v1 t11
def pX6_most (F : Nat) (κ : kp_K) (v1 : Int32) : Option (Int64 × kp_K) :=
  p_cl (pX6_layYet F κ v1) fun k2 =>
  if (k2.1 66 64) = 0 then
    (some ((0 : Int64), k2))
  else
  p_cl (pX6_atYet (0 : Int32) (0 : Int32) (0 : Int32)) fun t23 =>
  p_ck t23 4352 <|
  some ((k2.2.1 108 t23.toNatClampNeg), k2)
def pX6_best (F : Nat) (κ : kp_K) (v1 : Int32) : Option (Int32 × kp_K) :=
  p_lt (s_i κ 66 0 (0 : Int32)) fun k2 =>
  p_cl (pX6_isDesk k2 v1) fun t7 =>
  if t7 = 0 then
    (some ((-1 : Int32), k2))
  else
  p_cl (pX6_byOdds F k2) fun k16 =>
  p_cl (pX6_most F k16 v1) fun q21 => p_lt q21.1 fun t21 => p_lt q21.2 fun k21 =>
  some (t21.toInt32, k21)
def pX6_isTime (F : Nat) (κ : kp_K) (v1 : Int32) (v2 : Int32) (v3 : Int32) (v4 : Int32) : Option (Int32) :=
  p_ck v2 16 <|
  p_lt (κ.1 109 v2.toNatClampNeg) fun i11 =>
  p_ck i11 32 <|
  if ((v3 >>> ((κ.1 76 i11.toNatClampNeg) &&& 31)) &&& (1 : Int32)) = 0 then
    (p_cl (pX6_bitsOf F v3) fun t19 =>
    p_ck v1 8 <|
    if t19 < (κ.1 70 v1.toNatClampNeg) then
      (some (0 : Int32))
    else
    if v4 = 0 then
      (some (1 : Int32))
    else
    some (0 : Int32))
  else
  some (0 : Int32)
def bX6_walk_184 (F : Nat) (κ : kp_K) (v3 : Int32) (v4 : Int32) : Option (Int32 × kp_K) :=
  p_lt (s_i κ 66 66 ((κ.1 66 66) ||| ((1 : Int32) <<< (v3 &&& 31)))) fun k193 =>
  some (v4, k193)
def bX6_walk_81 (F : Nat) : Nat → kp_K → Int32 → Int32 → Int32 → Int32 → Int64 → Option (Int32 × kp_K)
  | 0, _, _, _, _, _, _ => none
  | n + 1, κ, v1, v2, v3, v4, v5 =>
    if (((κ.1 66 66) >>> (v4 &&& 31)) &&& (1 : Int32)) = 0 then
      (bX6_walk_81 F n κ v1 v2 v3 (v4 + (1 : Int32)) v5)
    else
    p_cl (pX6_behind F κ v1 (v2 + (1 : Int32)) (((κ.1 66 66) &&& (((1 : Int32) <<< (v4 &&& 31)) ^^^ (-1 : Int32))) ||| ((1 : Int32) <<< (v3 &&& 31))) (1 : Int32)) fun t114 =>
    if (lg_cmp t114 v5) = 0 then
      (p_lt (s_i κ 66 66 (((κ.1 66 66) &&& (((1 : Int32) <<< (v4 &&& 31)) ^^^ (-1 : Int32))) ||| ((1 : Int32) <<< (v3 &&& 31)))) fun k145 =>
      p_lt (s_i k145 66 67 (1 : Int32)) fun k150 =>
      some (v4, k150))
    else
    bX6_walk_81 F n κ v1 v2 v3 (v4 + (1 : Int32)) v5
def pX6_walk (F : Nat) (κ : kp_K) (v1 : Int32) (v2 : Int32) : Option (Int32 × kp_K) :=
  p_ck v2 16 <|
  p_lt (κ.1 109 v2.toNatClampNeg) fun i10 =>
  p_ck i10 32 <|
  p_lt (κ.1 76 i10.toNatClampNeg) fun t11 =>
  p_cl (pX6_isTime F κ v1 v2 (κ.1 66 66) (κ.1 66 67)) fun t27 =>
  if t27 = 0 then
    (if (((κ.1 66 66) >>> (t11 &&& 31)) &&& (1 : Int32)) = (1 : Int32) then
      (bX6_walk_184 F κ t11 (-3 : Int32))
    else
    p_cl (pX6_bitsOf F (κ.1 66 66)) fun t172 =>
    p_ck v1 8 <|
    if (κ.1 70 v1.toNatClampNeg) ≤ t172 then
      (some ((-3 : Int32), κ))
    else
    bX6_walk_184 F κ t11 (-3 : Int32))
  else
  p_cl (pX6_atYet v2 (κ.1 66 66) (κ.1 66 67)) fun t46 =>
  p_ck t46 4352 <|
  p_lt (κ.2.1 108 t46.toNatClampNeg) fun t50 =>
  p_cl (pX6_behind F κ v1 (v2 + (1 : Int32)) (κ.1 66 66) (κ.1 66 67)) fun t69 =>
  if (lg_cmp t69 t50) = 0 then
    (some ((-2 : Int32), κ))
  else
  bX6_walk_81 F F κ v1 v2 t11 (0 : Int32) t50
def pX6_walksOn (F : Nat) (κ : kp_K) (v1 : Int32) : Option (kp_K) :=
  p_cl (pX6_dayOf κ (v1 + (1 : Int32))) fun t4 =>
  p_cl (pX6_dayOf κ v1) fun t9 =>
  if t4 = t9 then
    (some κ)
  else
  p_lt (s_i κ 66 67 (0 : Int32)) fun k18 =>
  p_cl (pX6_dayOf k18 (v1 + (1 : Int32))) fun t34 =>
  p_cl (pX6_living F k18 (k18.1 66 66) (v1 + (1 : Int32)) t34) fun t37 =>
  p_lt (s_i k18 66 66 t37) fun k40 =>
  some k40
def bX6_goes_80 (F : Nat) (k44 : kp_K → Int32 → Int32 → Int32 → Int32 → Option (Int32 × kp_K)) (κ : kp_K) (v1 : Int32) (v2 : Int32) (v3 : Int32) (v4 : Int32) : Option (Int32 × kp_K) :=
  p_cl (pX6_walksOn F κ v4) fun k83 =>
  k44 k83 v1 v2 v3 (v4 + (1 : Int32))
def bX6_goes_44 (F : Nat) : Nat → kp_K → Int32 → Int32 → Int32 → Int32 → Option (Int32 × kp_K)
  | 0, _, _, _, _, _ => none
  | n + 1, κ, v1, v2, v3, v4 =>
    if (κ.1 66 64) ≤ v4 then
      (some ((-3 : Int32), κ))
    else
    p_cl (pX6_walk F κ v1 v4) fun q57 => p_lt q57.1 fun t57 => p_lt q57.2 fun k57 =>
    if t57 = (-3 : Int32) then
      (bX6_goes_80 F (bX6_goes_44 F n) k57 v1 v2 v3 v4)
    else
    if v3 = v2 then
      (some (t57, k57))
    else
    bX6_goes_80 F (bX6_goes_44 F n) k57 v1 v2 (v3 + (1 : Int32)) v4
def pX6_goes (F : Nat) (κ : kp_K) (v1 : Int32) (v2 : Int32) : Option (Int32 × kp_K) :=
  p_lt (s_i κ 66 0 (0 : Int32)) fun k2 =>
  p_cl (pX6_isDesk k2 v1) fun t7 =>
  if t7 = 0 then
    (some ((-1 : Int32), k2))
  else
  if 0 ≤ v2 then
    (p_cl (pX6_byOdds F k2) fun k20 =>
    p_cl (pX6_most F k20 v1) fun q25 => p_lt q25.1 fun t25 => p_lt q25.2 fun k25 =>
    p_lt (s_i k25 66 66 (0 : Int32)) fun k31 =>
    p_lt (s_i k31 66 67 (0 : Int32)) fun k36 =>
    bX6_goes_44 F F k36 v1 v2 (0 : Int32) (0 : Int32))
  else
  some ((-1 : Int32), k2)
def pX6_draw (κ : kp_K) : Option (Int32 × kp_K) :=
  p_lt (s_i κ 66 68 ((((κ.1 66 68) * (1103515245 : Int32)) + (12345 : Int32)) &&& (2147483647 : Int32))) fun k17 =>
  p_cd (100 : Int32) <|
  some ((((k17.1 66 68) >>> ((16 : Int32) &&& 31)) - ((k17.1 66 68) >>> ((16 : Int32) &&& 31)) / (100 : Int32) * (100 : Int32)), k17)
def bX6_knew_238 (F : Nat) (k157 : kp_K → Int32 → Int32 → Int32 → Option (Int32 × kp_K)) (k177 : kp_K → Int32 → Int32 → Int32 → Int32 → Option (Int32 × kp_K)) (κ : kp_K) (v1 : Int32) (v4 : Int32) (v5 : Int32) (v6 : Int32) (s0 : Int32) : Option (Int32 × kp_K) :=
  if s0 = 0 then
    (k177 κ v1 v4 v5 (v6 + (1 : Int32)))
  else
  p_ck v6 32 <|
  p_cl (pX6_living F κ (κ.1 66 66) (v5 + (1 : Int32)) (κ.1 78 v6.toNatClampNeg)) fun t261 =>
  p_ck v6 32 <|
  if ((t261 >>> ((κ.1 80 v6.toNatClampNeg) &&& 31)) &&& (1 : Int32)) = (1 : Int32) then
    (p_ck v6 16 <|
    p_lt (v4 + (κ.1 111 v6.toNatClampNeg)) fun t288 =>
    k177 κ v1 t288 v5 (v6 + (1 : Int32)))
  else
  k177 κ v1 v4 v5 (v6 + (1 : Int32))
def bX6_knew_237 (F : Nat) (k157 : kp_K → Int32 → Int32 → Int32 → Option (Int32 × kp_K)) (k177 : kp_K → Int32 → Int32 → Int32 → Int32 → Option (Int32 × kp_K)) (κ : kp_K) (v1 : Int32) (v4 : Int32) (v5 : Int32) (v6 : Int32) : Option (Int32 × kp_K) :=
  bX6_knew_238 F k157 k177 κ v1 v4 v5 v6 (0 : Int32)
def bX6_knew_177 (F : Nat) (k157 : kp_K → Int32 → Int32 → Int32 → Option (Int32 × kp_K)) : Nat → kp_K → Int32 → Int32 → Int32 → Int32 → Option (Int32 × kp_K)
  | 0, _, _, _, _, _ => none
  | n + 1, κ, v1, v4, v5, v6 =>
    p_ck (3 : Int32) 16 <|
    if (κ.1 68 (3 : Int32).toNatClampNeg) ≤ v6 then
      (p_cl (pX6_walksOn F κ v5) fun k299 =>
      k157 k299 v1 v4 (v5 + (1 : Int32)))
    else
    p_ck v6 32 <|
    if (κ.1 79 v6.toNatClampNeg) = v1 then
      (p_ck v6 32 <|
      p_cl (pX6_dayOf κ v5) fun t209 =>
      if (κ.1 78 v6.toNatClampNeg) < t209 then
        (bX6_knew_237 F k157 (bX6_knew_177 F k157 n) κ v1 v4 v5 v6)
      else
      p_ck v6 32 <|
      p_cl (pX6_dayOf κ (v5 + (1 : Int32))) fun t227 =>
      if t227 ≤ (κ.1 78 v6.toNatClampNeg) then
        (bX6_knew_237 F k157 (bX6_knew_177 F k157 n) κ v1 v4 v5 v6)
      else
      bX6_knew_238 F k157 (bX6_knew_177 F k157 n) κ v1 v4 v5 v6 (1 : Int32))
    else
    bX6_knew_237 F k157 (bX6_knew_177 F k157 n) κ v1 v4 v5 v6
def bX6_knew_157 (F : Nat) : Nat → kp_K → Int32 → Int32 → Int32 → Option (Int32 × kp_K)
  | 0, _, _, _, _ => none
  | n + 1, κ, v1, v4, v5 =>
    if (κ.1 66 64) ≤ v5 then
      (some (v4, κ))
    else
    p_cl (pX6_walk F κ v1 v5) fun q170 => p_lt q170.1 fun t170 => p_lt q170.2 fun k170 =>
    bX6_knew_177 F (bX6_knew_157 F n) F k170 v1 v4 v5 (0 : Int32)
def bX6_knew_97 (F : Nat) : Nat → kp_K → Int32 → Int32 → Option (Int32 × kp_K)
  | 0, _, _, _ => none
  | n + 1, κ, v1, v4 =>
    if (16 : Int32) ≤ v4 then
      (p_cl (pX6_most F κ v1) fun q126 => p_lt q126.1 fun t126 => p_lt q126.2 fun k126 =>
      some (t126.toInt32, k126))
    else
    p_ck v4 16 <|
    p_ck v4 16 <|
    p_lt (s_i κ 110 v4.toNatClampNeg (κ.1 111 v4.toNatClampNeg)) fun k117 =>
    bX6_knew_97 F n k117 v1 (v4 + (1 : Int32))
def bX6_knew_83 (F : Nat) (k36 : kp_K → Int32 → Int32 → Int32 → Option (Int32 × kp_K)) (κ : kp_K) (v1 : Int32) (v3 : Int32) (v4 : Int32) (s0 : Int32) (s1 : Int32) : Option (Int32 × kp_K) :=
  p_ck s1 16 <|
  p_lt (s_i κ 111 s1.toNatClampNeg s0) fun k83 =>
  k36 k83 v1 v3 (v4 + (1 : Int32))
def bX6_knew_36 (F : Nat) : Nat → kp_K → Int32 → Int32 → Int32 → Option (Int32 × kp_K)
  | 0, _, _, _, _ => none
  | n + 1, κ, v1, v3, v4 =>
    p_ck (3 : Int32) 16 <|
    if (κ.1 68 (3 : Int32).toNatClampNeg) ≤ v4 then
      (if v3 = 0 then
        (bX6_knew_97 F F κ v1 (0 : Int32))
      else
      p_cl (pX6_byOdds F κ) fun k132 =>
      p_cl (pX6_most F k132 v1) fun q137 => p_lt q137.1 fun t137 => p_lt q137.2 fun k137 =>
      p_lt (s_i k137 66 66 (0 : Int32)) fun k143 =>
      p_lt (s_i k143 66 67 (0 : Int32)) fun k148 =>
      bX6_knew_157 F F k148 v1 (0 : Int32) (0 : Int32))
    else
    p_cl (pX6_draw κ) fun q54 => p_lt q54.1 fun t54 => p_lt q54.2 fun k54 =>
    p_ck v4 32 <|
    if (k54.1 81 v4.toNatClampNeg) ≤ t54 then
      (bX6_knew_83 F (bX6_knew_36 F n) k54 v1 v3 v4 (0 : Int32) v4)
    else
    p_ck v4 32 <|
    p_lt (k54.1 80 v4.toNatClampNeg) fun i78 =>
    p_ck i78 14 <|
    bX6_knew_83 F (bX6_knew_36 F n) k54 v1 v3 v4 (k54.1 73 i78.toNatClampNeg) v4
def pX6_knew (F : Nat) (κ : kp_K) (v1 : Int32) (v2 : Int32) (v3 : Int32) : Option (Int32 × kp_K) :=
  p_lt (s_i κ 66 0 (0 : Int32)) fun k2 =>
  p_cl (pX6_isDesk k2 v1) fun t7 =>
  if t7 = 0 then
    (some ((-1 : Int32), k2))
  else
  if v2 < 0 then
    (some ((-1 : Int32), k2))
  else
  if v3 < 0 then
    (some ((-1 : Int32), k2))
  else
  if v3 ≤ (1 : Int32) then
    (p_lt (s_i k2 66 68 v2) fun k30 =>
    bX6_knew_36 F F k30 v1 v3 (0 : Int32))
  else
  some ((-1 : Int32), k2)
def bX6_worthBy_138 (F : Nat) (k6 : kp_K → Int32 → Int32 → Int32 → Int32 → Int32 → Option (Int32)) (κ : kp_K) (v1 : Int32) (v2 : Int32) (v3 : Int32) (v4 : Int32) (v5 : Int32) (s0 : Int32) : Option (Int32) :=
  if s0 = 0 then
    (p_lt (v4 + (0 : Int32)) fun t158 =>
    k6 κ v1 v2 v3 t158 (v5 + (1 : Int32)))
  else
  p_ck v1 14 <|
  p_lt (v4 + (κ.1 73 v1.toNatClampNeg)) fun t158_2 =>
  k6 κ v1 v2 v3 t158_2 (v5 + (1 : Int32))
def bX6_worthBy_133 (F : Nat) (k6 : kp_K → Int32 → Int32 → Int32 → Int32 → Int32 → Option (Int32)) (κ : kp_K) (v1 : Int32) (v2 : Int32) (v3 : Int32) (v4 : Int32) (v5 : Int32) : Option (Int32) :=
  bX6_worthBy_138 F k6 κ v1 v2 v3 v4 v5 (1 : Int32)
def bX6_worthBy_119 (F : Nat) (k6 : kp_K → Int32 → Int32 → Int32 → Int32 → Int32 → Option (Int32)) (κ : kp_K) (v1 : Int32) (v2 : Int32) (v3 : Int32) (v4 : Int32) (v5 : Int32) : Option (Int32) :=
  bX6_worthBy_138 F k6 κ v1 v2 v3 v4 v5 (0 : Int32)
def bX6_worthBy_115 (F : Nat) (k6 : kp_K → Int32 → Int32 → Int32 → Int32 → Int32 → Option (Int32)) (κ : kp_K) (v1 : Int32) (v2 : Int32) (v3 : Int32) (v4 : Int32) (v5 : Int32) : Option (Int32) :=
  bX6_worthBy_138 F k6 κ v1 v2 v3 v4 v5 (1 : Int32)
def bX6_worthBy_88 (F : Nat) (k6 : kp_K → Int32 → Int32 → Int32 → Int32 → Int32 → Option (Int32)) (κ : kp_K) (v1 : Int32) (v2 : Int32) (v3 : Int32) (v4 : Int32) (v5 : Int32) (v6 : Int32) (v7 : Int32) (s0 : Int32) : Option (Int32) :=
  if v3 = 0 then
    (if v7 = 0 then
      (if s0 = 0 then
        (bX6_worthBy_138 F k6 κ v1 v2 v3 v4 v5 (0 : Int32))
      else
      bX6_worthBy_133 F k6 κ v1 v2 v3 v4 v5)
    else
    bX6_worthBy_133 F k6 κ v1 v2 v3 v4 v5)
  else
  if v7 = 0 then
    (bX6_worthBy_119 F k6 κ v1 v2 v3 v4 v5)
  else
  p_ck v6 8 <|
  if (κ.1 71 v6.toNatClampNeg) = (-1 : Int32) then
    (bX6_worthBy_115 F k6 κ v1 v2 v3 v4 v5)
  else
  if s0 = 0 then
    (bX6_worthBy_119 F k6 κ v1 v2 v3 v4 v5)
  else
  bX6_worthBy_115 F k6 κ v1 v2 v3 v4 v5
def bX6_worthBy_87 (F : Nat) (k6 : kp_K → Int32 → Int32 → Int32 → Int32 → Int32 → Option (Int32)) (κ : kp_K) (v1 : Int32) (v2 : Int32) (v3 : Int32) (v4 : Int32) (v5 : Int32) (v6 : Int32) (v7 : Int32) : Option (Int32) :=
  bX6_worthBy_88 F k6 κ v1 v2 v3 v4 v5 v6 v7 (0 : Int32)
def bX6_worthBy_55 (F : Nat) (k6 : kp_K → Int32 → Int32 → Int32 → Int32 → Int32 → Option (Int32)) (κ : kp_K) (v1 : Int32) (v2 : Int32) (v3 : Int32) (v4 : Int32) (v5 : Int32) (v6 : Int32) (s0 : Int32) : Option (Int32) :=
  p_ck v6 8 <|
  if (κ.1 71 v6.toNatClampNeg) = (-1 : Int32) then
    (bX6_worthBy_87 F k6 κ v1 v2 v3 v4 v5 v6 s0)
  else
  p_ck v6 8 <|
  if ((v2 >>> ((κ.1 71 v6.toNatClampNeg) &&& 31)) &&& (1 : Int32)) = (1 : Int32) then
    (bX6_worthBy_88 F k6 κ v1 v2 v3 v4 v5 v6 s0 (1 : Int32))
  else
  bX6_worthBy_87 F k6 κ v1 v2 v3 v4 v5 v6 s0
def bX6_worthBy_6 (F : Nat) : Nat → kp_K → Int32 → Int32 → Int32 → Int32 → Int32 → Option (Int32)
  | 0, _, _, _, _, _, _ => none
  | n + 1, κ, v1, v2, v3, v4, v5 =>
    p_ck (3 : Int32) 16 <|
    if (κ.1 68 (3 : Int32).toNatClampNeg) ≤ v5 then
      (some v4)
    else
    p_ck v5 32 <|
    if (κ.1 80 v5.toNatClampNeg) = v1 then
      (p_ck v5 32 <|
      p_lt (κ.1 79 v5.toNatClampNeg) fun t38 =>
      if ((v2 >>> (t38 &&& 31)) &&& (1 : Int32)) = (1 : Int32) then
        (bX6_worthBy_55 F (bX6_worthBy_6 F n) κ v1 v2 v3 v4 v5 t38 (1 : Int32))
      else
      bX6_worthBy_55 F (bX6_worthBy_6 F n) κ v1 v2 v3 v4 v5 t38 (0 : Int32))
    else
    bX6_worthBy_6 F n κ v1 v2 v3 v4 (v5 + (1 : Int32))
def pX6_worthBy (F : Nat) (κ : kp_K) (v1 : Int32) (v2 : Int32) (v3 : Int32) : Option (Int32) :=
  bX6_worthBy_6 F F κ v1 v2 v3 (0 : Int32) (0 : Int32)
def bX6_less_43 (F : Nat) (k11 : Int32 → Int32 → Int32 → Int32 → Int32 → Option (Int32)) (v2 : Int32) (v3 : Int32) (v4 : Int32) (v5 : Int32) (v6 : Int32) : Option (Int32) :=
  p_cd (7 : Int32) <|
  p_lt (v3 / (7 : Int32)) fun t47 =>
  p_lt (v4 * (7 : Int32)) fun t53 =>
  k11 v2 t47 t53 v5 (v6 + (1 : Int32))
def bX6_less_11 (F : Nat) : Nat → Int32 → Int32 → Int32 → Int32 → Int32 → Option (Int32)
  | 0, _, _, _, _, _ => none
  | n + 1, v2, v3, v4, v5, v6 =>
    if (4 : Int32) ≤ v6 then
      (some v5)
    else
    if ((v2 >>> (v6 &&& 31)) &&& (1 : Int32)) = (1 : Int32) then
      (p_cd (7 : Int32) <|
      if (v3 - v3 / (7 : Int32) * (7 : Int32)) = 0 then
        (some (-1 : Int32))
      else
      p_lt (v5 - v4) fun t41 =>
      bX6_less_43 F (bX6_less_11 F n) v2 v3 v4 t41 v6)
    else
    bX6_less_43 F (bX6_less_11 F n) v2 v3 v4 v5 v6
def pX6_less (F : Nat) (v1 : Int32) (v2 : Int32) : Option (Int32) :=
  bX6_less_11 F F v2 v1 (1 : Int32) v1 (0 : Int32)
def bX6_layShares_100 (F : Nat) (k42 : kp_K → Int32 → Int32 → Option (kp_K)) (k76 : kp_K → Int32 → Int32 → Int32 → Option (kp_K)) : Nat → kp_K → Int32 → Int32 → Int32 → Int32 → Int32 → Option (kp_K)
  | 0, _, _, _, _, _, _ => none
  | n + 1, κ, v1, v2, v3, v4, v5 =>
    if (2401 : Int32) ≤ v5 then
      (k76 κ v1 v2 (v3 + (1 : Int32)))
    else
    p_cl (pX6_less F v5 v3) fun t112 =>
    if t112 = (-1 : Int32) then
      (bX6_layShares_100 F k42 k76 n κ v1 v2 v3 v4 (v5 + (1 : Int32)))
    else
    p_lt (((2401 : Int32) * v2) + v5) fun i147 =>
    p_ck i147 19208 <|
    p_lt (((2401 : Int32) * (v2 + (1 : Int32))) + t112) fun i164 =>
    p_ck i164 19208 <|
    p_ck (((2401 : Int32) * v2) + v5) 19208 <|
    p_lt (s_i κ 112 (((2401 : Int32) * v2) + v5).toNatClampNeg (if (κ.1 112 i147.toNatClampNeg) < (v4 + (κ.1 112 i164.toNatClampNeg)) then (v4 + (κ.1 112 i164.toNatClampNeg)) else (κ.1 112 i147.toNatClampNeg))) fun k169 =>
    bX6_layShares_100 F k42 k76 n k169 v1 v2 v3 v4 (v5 + (1 : Int32))
def bX6_layShares_76 (F : Nat) (k42 : kp_K → Int32 → Int32 → Option (kp_K)) : Nat → kp_K → Int32 → Int32 → Int32 → Option (kp_K)
  | 0, _, _, _, _ => none
  | n + 1, κ, v1, v2, v3 =>
    p_ck (0 : Int32) 16 <|
    if ((1 : Int32) <<< ((κ.1 68 (0 : Int32).toNatClampNeg) &&& 31)) ≤ v3 then
      (k42 κ v1 (v2 + (-1 : Int32)))
    else
    p_cl (pX6_worthBy F κ v2 v3 v1) fun t92 =>
    bX6_layShares_100 F k42 (bX6_layShares_76 F k42 n) F κ v1 v2 v3 t92 (0 : Int32)
def bX6_layShares_48 (F : Nat) (k42 : kp_K → Int32 → Int32 → Option (kp_K)) : Nat → kp_K → Int32 → Int32 → Int32 → Option (kp_K)
  | 0, _, _, _, _ => none
  | n + 1, κ, v1, v2, v3 =>
    if (2401 : Int32) ≤ v3 then
      (bX6_layShares_76 F k42 F κ v1 v2 (0 : Int32))
    else
    p_ck (((2401 : Int32) * v2) + v3) 19208 <|
    p_lt (s_i κ 112 (((2401 : Int32) * v2) + v3).toNatClampNeg (0 : Int32)) fun k67 =>
    bX6_layShares_48 F k42 n k67 v1 v2 (v3 + (1 : Int32))
def bX6_layShares_42 (F : Nat) : Nat → kp_K → Int32 → Int32 → Option (kp_K)
  | 0, _, _, _ => none
  | n + 1, κ, v1, v2 =>
    if v2 < 0 then
      (some κ)
    else
    bX6_layShares_48 F (bX6_layShares_42 F n) F κ v1 v2 (0 : Int32)
def bX6_layShares_2 (F : Nat) : Nat → kp_K → Int32 → Int32 → Option (kp_K)
  | 0, _, _, _ => none
  | n + 1, κ, v1, v2 =>
    if (2401 : Int32) ≤ v2 then
      (p_ck (1 : Int32) 16 <|
      p_lt ((κ.1 68 (1 : Int32).toNatClampNeg) - (1 : Int32)) fun t41 =>
      bX6_layShares_42 F F κ v1 t41)
    else
    p_ck (1 : Int32) 16 <|
    p_ck (((2401 : Int32) * (κ.1 68 (1 : Int32).toNatClampNeg)) + v2) 19208 <|
    p_lt (s_i κ 112 (((2401 : Int32) * (κ.1 68 (1 : Int32).toNatClampNeg)) + v2).toNatClampNeg (0 : Int32)) fun k26 =>
    bX6_layShares_2 F n k26 v1 (v2 + (1 : Int32))
def pX6_layShares (F : Nat) (κ : kp_K) (v1 : Int32) : Option (kp_K) :=
  bX6_layShares_2 F F κ v1 (0 : Int32)
def bX6_share_99 (F : Nat) (k90 : kp_K → Int32 → Int32 → Int32 → Int32 → Int32 → Option (Int32 × kp_K)) : Nat → kp_K → Int32 → Int32 → Int32 → Int32 → Int32 → Option (Int32 × kp_K)
  | 0, _, _, _, _, _, _ => none
  | n + 1, κ, v1, v2, v3, v5, v6 =>
    p_cl (pX6_less F v3 v5) fun t103 =>
    if t103 = (-1 : Int32) then
      (bX6_share_99 F k90 n κ v1 v2 v3 (v5 + (1 : Int32)) v6)
    else
    p_cl (pX6_worthBy F κ v6 v5 v1) fun t116 =>
    p_cl (pX6_less F v3 v5) fun t135 =>
    p_lt (((2401 : Int32) * (v6 + (1 : Int32))) + t135) fun i139 =>
    p_ck i139 19208 <|
    p_lt (((2401 : Int32) * v6) + v3) fun i153 =>
    p_ck i153 19208 <|
    if (t116 + (κ.1 112 i139.toNatClampNeg)) = (κ.1 112 i153.toNatClampNeg) then
      (p_cl (pX6_less F v3 v5) fun t167 =>
      k90 κ v1 v2 t167 v5 (v6 + (1 : Int32)))
    else
    bX6_share_99 F k90 n κ v1 v2 v3 (v5 + (1 : Int32)) v6
def bX6_share_90 (F : Nat) : Nat → kp_K → Int32 → Int32 → Int32 → Int32 → Int32 → Option (Int32 × kp_K)
  | 0, _, _, _, _, _, _ => none
  | n + 1, κ, v1, v2, v3, v5, v6 =>
    if v2 < v6 then
      (some (v5, κ))
    else
    bX6_share_99 F (bX6_share_90 F n) F κ v1 v2 v3 (0 : Int32) v6
def bX6_share_35 (F : Nat) : Nat → kp_K → Int32 → Int32 → Int32 → Int32 → Int32 → Option (Int32 × kp_K)
  | 0, _, _, _, _, _, _ => none
  | n + 1, κ, v1, v2, v3, v4, v5 =>
    p_ck (0 : Int32) 16 <|
    if (κ.1 68 (0 : Int32).toNatClampNeg) ≤ v5 then
      (if v2 = (-1 : Int32) then
        (p_ck v3 19208 <|
        some ((κ.1 112 v3.toNatClampNeg), κ))
      else
      bX6_share_90 F F κ v1 v2 v3 (0 : Int32) (0 : Int32))
    else
    p_ck v5 8 <|
    p_lt (v3 + (v4 * (κ.1 70 v5.toNatClampNeg))) fun t58 =>
    p_lt (v4 * (7 : Int32)) fun t64 =>
    bX6_share_35 F n κ v1 v2 t58 t64 (v5 + (1 : Int32))
def pX6_share (F : Nat) (κ : kp_K) (v1 : Int32) (v2 : Int32) : Option (Int32 × kp_K) :=
  p_lt (s_i κ 66 0 (0 : Int32)) fun k2 =>
  if v2 < (-1 : Int32) then
    (some ((-1 : Int32), k2))
  else
  p_ck (1 : Int32) 16 <|
  if v2 < (k2.1 68 (1 : Int32).toNatClampNeg) then
    (p_cl (pX6_layShares F k2 v1) fun k24 =>
    bX6_share_35 F F k24 v1 v2 (0 : Int32) (1 : Int32) (0 : Int32))
  else
  some ((-1 : Int32), k2)
def bX6_fewest_34 (F : Nat) (k9 : kp_K → Int32 → Int32 → Option (Int32 × kp_K)) : Nat → kp_K → Int32 → Int32 → Int32 → Int32 → Int32 → Option (Int32 × kp_K)
  | 0, _, _, _, _, _, _ => none
  | n + 1, κ, v1, v2, v3, v4, v5 =>
    p_ck (0 : Int32) 16 <|
    if ((1 : Int32) <<< ((κ.1 68 (0 : Int32).toNatClampNeg) &&& 31)) ≤ v5 then
      (if v3 ≤ 0 then
        (p_lt (v1 + (0 : Int32)) fun t89 =>
        k9 κ t89 (v2 + (1 : Int32)))
      else
      p_lt (v1 + v4) fun t89_2 =>
      k9 κ t89_2 (v2 + (1 : Int32)))
    else
    p_cl (pX6_worthBy F κ v2 v5 (0 : Int32)) fun t52 =>
    if t52 = v3 then
      (p_cl (pX6_bitsOf F v5) fun t63 =>
      p_lt (if t63 < v4 then t63 else v4) fun t69 =>
      bX6_fewest_34 F k9 n κ v1 v2 v3 t69 (v5 + (1 : Int32)))
    else
    bX6_fewest_34 F k9 n κ v1 v2 v3 v4 (v5 + (1 : Int32))
def bX6_fewest_9 (F : Nat) : Nat → kp_K → Int32 → Int32 → Option (Int32 × kp_K)
  | 0, _, _, _ => none
  | n + 1, κ, v1, v2 =>
    p_ck (1 : Int32) 16 <|
    if (κ.1 68 (1 : Int32).toNatClampNeg) ≤ v2 then
      (some (v1, κ))
    else
    p_cl (pX6_worthBy F κ v2 (15 : Int32) (0 : Int32)) fun t24 =>
    bX6_fewest_34 F (bX6_fewest_9 F n) F κ v1 v2 t24 (4 : Int32) (0 : Int32)
def pX6_fewest (F : Nat) (κ : kp_K) : Option (Int32 × kp_K) :=
  p_lt (s_i κ 66 0 (0 : Int32)) fun k2 =>
  bX6_fewest_9 F F k2 (0 : Int32) (0 : Int32)
def bX6_areLines_15 (F : Nat) : Nat → kp_K → Int32 → Int64 → Int32 → Option (Int32)
  | 0, _, _, _, _ => none
  | n + 1, κ, v1, v2, v4 =>
    if v1 ≤ v4 then
      (some (1 : Int32))
    else
    p_ck (1 : Int32) 16 <|
    if (lg_cmp ((v2 >>> (((8 : Int32) * v4).toInt64 &&& 63)) &&& (255 : Int64)) ((1 : Int64) <<< ((κ.1 68 (1 : Int32).toNatClampNeg).toInt64 &&& 63))) < 0 then
      (bX6_areLines_15 F n κ v1 v2 (v4 + (1 : Int32)))
    else
    some (0 : Int32)
def pX6_areLines (F : Nat) (κ : kp_K) (v1 : Int32) (v2 : Int64) : Option (Int32) :=
  if v1 < 0 then
    (some (0 : Int32))
  else
  if v1 ≤ (7 : Int32) then
    (bX6_areLines_15 F F κ v1 v2 (0 : Int32))
  else
  some (0 : Int32)
def bX6_shownBy_17 (F : Nat) (k3 : Int32 → Int64 → Int32 → Int32 → Option (Int32)) : Nat → Int32 → Int64 → Int32 → Int32 → Int32 → Int32 → Option (Int32)
  | 0, _, _, _, _, _, _ => none
  | n + 1, v1, v2, v4, v5, v6, v7 =>
    if v1 ≤ v7 then
      (if v6 = ((1 : Int32) <<< (v4 &&& 31)) then
        (some v5)
      else
      k3 v1 v2 v4 (v5 + (1 : Int32)))
    else
    if ((v5 >>> (v7 &&& 31)) &&& (1 : Int32)) = (1 : Int32) then
      (p_lt (v6 ^^^ ((v2 >>> (((8 : Int32) * v7).toInt64 &&& 63)) &&& (255 : Int64)).toInt32) fun t49 =>
      bX6_shownBy_17 F k3 n v1 v2 v4 v5 t49 (v7 + (1 : Int32)))
    else
    bX6_shownBy_17 F k3 n v1 v2 v4 v5 v6 (v7 + (1 : Int32))
def bX6_shownBy_3 (F : Nat) : Nat → Int32 → Int64 → Int32 → Int32 → Option (Int32)
  | 0, _, _, _, _ => none
  | n + 1, v1, v2, v4, v5 =>
    if ((1 : Int32) <<< (v1 &&& 31)) ≤ v5 then
      (some (-1 : Int32))
    else
    bX6_shownBy_17 F (bX6_shownBy_3 F n) F v1 v2 v4 v5 (0 : Int32) (0 : Int32)
def pX6_shownBy (F : Nat) (v1 : Int32) (v2 : Int64) (v4 : Int32) : Option (Int32) :=
  bX6_shownBy_3 F F v1 v2 v4 (1 : Int32)
def bX6_gives_22 (F : Nat) : Nat → kp_K → Int32 → Int64 → Int32 → Int32 → Option (Int32 × kp_K)
  | 0, _, _, _, _, _ => none
  | n + 1, κ, v1, v2, v4, v5 =>
    p_ck (1 : Int32) 16 <|
    if (κ.1 68 (1 : Int32).toNatClampNeg) ≤ v5 then
      (some (v4, κ))
    else
    p_cl (pX6_shownBy F v1 v2 v5) fun t38 =>
    if t38 = (-1 : Int32) then
      (bX6_gives_22 F n κ v1 v2 v4 (v5 + (1 : Int32)))
    else
    p_lt (v4 ||| ((1 : Int32) <<< (v5 &&& 31))) fun t52 =>
    bX6_gives_22 F n κ v1 v2 t52 (v5 + (1 : Int32))
def pX6_gives (F : Nat) (κ : kp_K) (v1 : Int32) (v2 : Int64) : Option (Int32 × kp_K) :=
  p_lt (s_i κ 66 0 (0 : Int32)) fun k2 =>
  p_cl (pX6_areLines F k2 v1 v2) fun t8 =>
  if t8 = 0 then
    (some ((-1 : Int32), k2))
  else
  bX6_gives_22 F F k2 v1 v2 (0 : Int32) (0 : Int32)
def pX6_isFact (κ : kp_K) (v1 : Int32) : Option (Int32) :=
  if v1 < 0 then
    (some (0 : Int32))
  else
  p_ck (1 : Int32) 16 <|
  if (κ.1 68 (1 : Int32).toNatClampNeg) ≤ v1 then
    (some (0 : Int32))
  else
  some (1 : Int32)
def pX6_shows (F : Nat) (κ : kp_K) (v1 : Int32) (v2 : Int64) (v4 : Int32) : Option (Int32 × kp_K) :=
  p_lt (s_i κ 66 0 (0 : Int32)) fun k2 =>
  p_cl (pX6_areLines F k2 v1 v2) fun t8 =>
  if t8 = 0 then
    (some ((-1 : Int32), k2))
  else
  p_cl (pX6_isFact k2 v4) fun t17 =>
  if t17 = 0 then
    (some ((-1 : Int32), k2))
  else
  p_cl (pX6_shownBy F v1 v2 v4) fun t30 =>
  if t30 = (-1 : Int32) then
    (some ((-2 : Int32), k2))
  else
  some (t30, k2)
def bX6_noonsTo_6 (F : Nat) : Nat → kp_K → Int32 → Int32 → Int32 → Int32 → Option (Int32)
  | 0, _, _, _, _, _ => none
  | n + 1, κ, v2, v3, v4, v5 =>
    if (4 : Int32) ≤ v5 then
      (some (-1 : Int32))
    else
    if v4 = v2 then
      (some v5)
    else
    if v4 = v3 then
      (some v5)
    else
    p_ck v4 8 <|
    if (κ.1 71 v4.toNatClampNeg) = (-1 : Int32) then
      (some (-1 : Int32))
    else
    p_ck v4 8 <|
    p_lt (κ.1 71 v4.toNatClampNeg) fun t47 =>
    bX6_noonsTo_6 F n κ v2 v3 t47 (v5 + (1 : Int32))
def pX6_noonsTo (F : Nat) (κ : kp_K) (v1 : Int32) (v2 : Int32) (v3 : Int32) : Option (Int32) :=
  bX6_noonsTo_6 F F κ v2 v3 v1 (0 : Int32)
def pX6_rumour (F : Nat) (κ : kp_K) (v1 : Int32) (v2 : Int32) : Option (Int32 × kp_K) :=
  p_lt (s_i κ 66 0 (0 : Int32)) fun k2 =>
  p_cl (pX6_isDesk k2 v1) fun t7 =>
  if t7 = 0 then
    (some ((-1 : Int32), k2))
  else
  p_cl (pX6_isDesk k2 v2) fun t15 =>
  if t15 = 0 then
    (some ((-1 : Int32), k2))
  else
  p_cl (pX6_noonsTo F k2 v2 v1 v1) fun t27 =>
  if t27 = (-1 : Int32) then
    (some ((-2 : Int32), k2))
  else
  some (t27, k2)
def bX6_endsWith_23 (F : Nat) : Nat → kp_K → Int32 → Int32 → Int32 → Option (Int32)
  | 0, _, _, _, _ => none
  | n + 1, κ, v4, v5, v6 =>
    if v4 ≤ v6 then
      (some v5)
    else
    p_ck v5 8 <|
    p_lt (κ.1 71 v5.toNatClampNeg) fun t37 =>
    bX6_endsWith_23 F n κ v4 t37 (v6 + (1 : Int32))
def pX6_endsWith (F : Nat) (κ : kp_K) (v1 : Int32) (v2 : Int32) (v3 : Int32) : Option (Int32) :=
  p_cl (pX6_noonsTo F κ v1 v2 v3) fun t4 =>
  if t4 = (-1 : Int32) then
    (some (-1 : Int32))
  else
  bX6_endsWith_23 F F κ t4 v1 (0 : Int32)
def bX6_differ_40 (F : Nat) : Nat → kp_K → Int32 → Int32 → Int32 → Int32 → Option (Int32 × kp_K)
  | 0, _, _, _, _, _ => none
  | n + 1, κ, v1, v2, v3, v4 =>
    p_ck (0 : Int32) 16 <|
    if (κ.1 68 (0 : Int32).toNatClampNeg) ≤ v4 then
      (some ((-2 : Int32), κ))
    else
    p_ck v4 8 <|
    if (κ.1 71 v4.toNatClampNeg) = (-1 : Int32) then
      (bX6_differ_40 F n κ v1 v2 v3 (v4 + (1 : Int32)))
    else
    p_cl (pX6_endsWith F κ v4 v1 v2) fun t70 =>
    p_ck v4 8 <|
    p_cl (pX6_endsWith F κ (κ.1 71 v4.toNatClampNeg) v1 v2) fun t85 =>
    if t70 = (-1 : Int32) then
      (bX6_differ_40 F n κ v1 v2 v3 (v4 + (1 : Int32)))
    else
    if t85 = (-1 : Int32) then
      (bX6_differ_40 F n κ v1 v2 v3 (v4 + (1 : Int32)))
    else
    if t70 = t85 then
      (bX6_differ_40 F n κ v1 v2 v3 (v4 + (1 : Int32)))
    else
    if v3 = 0 then
      (some (v4, κ))
    else
    p_ck v4 8 <|
    some ((κ.1 71 v4.toNatClampNeg), κ)
def pX6_differ (F : Nat) (κ : kp_K) (v1 : Int32) (v2 : Int32) (v3 : Int32) : Option (Int32 × kp_K) :=
  p_lt (s_i κ 66 0 (0 : Int32)) fun k2 =>
  p_cl (pX6_isDesk k2 v1) fun t7 =>
  if t7 = 0 then
    (some ((-1 : Int32), k2))
  else
  p_cl (pX6_isDesk k2 v2) fun t15 =>
  if t15 = 0 then
    (some ((-1 : Int32), k2))
  else
  if v1 = v2 then
    (some ((-1 : Int32), k2))
  else
  if v3 < 0 then
    (some ((-1 : Int32), k2))
  else
  if v3 ≤ (1 : Int32) then
    (bX6_differ_40 F F k2 v1 v2 v3 (0 : Int32))
  else
  some ((-1 : Int32), k2)
def bX6_ignorant_87 (F : Nat) (k19 : kp_K → Int32 → Int32 → Int32 → Option (Int32 × kp_K)) (κ : kp_K) (v1 : Int32) (v2 : Int32) (v3 : Int32) (v4 : Int32) : Option (Int32 × kp_K) :=
  if v4 = 0 then
    (p_lt (v2 ||| ((1 : Int32) <<< (v3 &&& 31))) fun t101 =>
    k19 κ v1 t101 (v3 + (1 : Int32)))
  else
  p_lt (v2 ||| (0 : Int32)) fun t101_2 =>
  k19 κ v1 t101_2 (v3 + (1 : Int32))
def bX6_ignorant_69 (F : Nat) (k19 : kp_K → Int32 → Int32 → Int32 → Option (Int32 × kp_K)) (k38 : kp_K → Int32 → Int32 → Int32 → Int32 → Int32 → Int32 → Option (Int32 × kp_K)) (κ : kp_K) (v1 : Int32) (v2 : Int32) (v3 : Int32) (v5 : Int32) (v6 : Int32) (s0 : Int32) (s1 : Int32) : Option (Int32 × kp_K) :=
  p_lt (s1 ||| s0) fun t70 =>
  p_ck v5 8 <|
  p_lt (κ.1 71 v5.toNatClampNeg) fun t79 =>
  k38 κ v1 v2 v3 t70 t79 (v6 + (1 : Int32))
def bX6_ignorant_38 (F : Nat) (k19 : kp_K → Int32 → Int32 → Int32 → Option (Int32 × kp_K)) : Nat → kp_K → Int32 → Int32 → Int32 → Int32 → Int32 → Int32 → Option (Int32 × kp_K)
  | 0, _, _, _, _, _, _, _ => none
  | n + 1, κ, v1, v2, v3, v4, v5, v6 =>
    if (4 : Int32) ≤ v6 then
      (bX6_ignorant_87 F k19 κ v1 v2 v3 v4)
    else
    if v5 = (-1 : Int32) then
      (bX6_ignorant_87 F k19 κ v1 v2 v3 v4)
    else
    p_cl (pX6_lineOf F κ (0 : Int32) v5 v1) fun t57 =>
    if t57 = (-1 : Int32) then
      (bX6_ignorant_69 F k19 (bX6_ignorant_38 F k19 n) κ v1 v2 v3 v5 v6 (0 : Int32) v4)
    else
    bX6_ignorant_69 F k19 (bX6_ignorant_38 F k19 n) κ v1 v2 v3 v5 v6 (1 : Int32) v4
def bX6_ignorant_19 (F : Nat) : Nat → kp_K → Int32 → Int32 → Int32 → Option (Int32 × kp_K)
  | 0, _, _, _, _ => none
  | n + 1, κ, v1, v2, v3 =>
    p_ck (0 : Int32) 16 <|
    if (κ.1 68 (0 : Int32).toNatClampNeg) ≤ v3 then
      (some (v2, κ))
    else
    bX6_ignorant_38 F (bX6_ignorant_19 F n) F κ v1 v2 v3 (0 : Int32) v3 (0 : Int32)
def pX6_ignorant (F : Nat) (κ : kp_K) (v1 : Int32) : Option (Int32 × kp_K) :=
  p_lt (s_i κ 66 0 (0 : Int32)) fun k2 =>
  p_cl (pX6_isFact k2 v1) fun t7 =>
  if t7 = 0 then
    (some ((-1 : Int32), k2))
  else
  bX6_ignorant_19 F F k2 v1 (0 : Int32) (0 : Int32)
def bX6_spy_74 (F : Nat) (k36 : kp_K → Int32 → Int32 → Int32 → Int32 → Option (Int32 × kp_K)) (κ : kp_K) (v1 : Int32) (v2 : Int32) (v4 : Int32) (s0 : Int32) : Option (Int32 × kp_K) :=
  p_lt (s0 + (0 : Int32)) fun t76 =>
  k36 κ v1 v2 t76 (v4 + (1 : Int32))
def bX6_spy_36 (F : Nat) : Nat → kp_K → Int32 → Int32 → Int32 → Int32 → Option (Int32 × kp_K)
  | 0, _, _, _, _, _ => none
  | n + 1, κ, v1, v2, v3, v4 =>
    p_ck (0 : Int32) 16 <|
    if (κ.1 68 (0 : Int32).toNatClampNeg) ≤ v4 then
      (some (v3, κ))
    else
    if ((v1 >>> (v4 &&& 31)) &&& (1 : Int32)) = (1 : Int32) then
      (p_cl (pX6_lineOf F κ (0 : Int32) v4 v2) fun t63 =>
      if t63 = (-1 : Int32) then
        (bX6_spy_74 F (bX6_spy_36 F n) κ v1 v2 v4 v3)
      else
      p_lt (v3 + (1 : Int32)) fun t76 =>
      bX6_spy_36 F n κ v1 v2 t76 (v4 + (1 : Int32)))
    else
    bX6_spy_74 F (bX6_spy_36 F n) κ v1 v2 v4 v3
def pX6_spy (F : Nat) (κ : kp_K) (v1 : Int32) (v2 : Int32) : Option (Int32 × kp_K) :=
  p_lt (s_i κ 66 0 (0 : Int32)) fun k2 =>
  if v1 < 0 then
    (some ((-1 : Int32), k2))
  else
  p_ck (0 : Int32) 16 <|
  if ((1 : Int32) <<< ((k2.1 68 (0 : Int32).toNatClampNeg) &&& 31)) ≤ v1 then
    (some ((-1 : Int32), k2))
  else
  p_cl (pX6_isFact k2 v2) fun t23 =>
  if t23 = 0 then
    (some ((-1 : Int32), k2))
  else
  bX6_spy_36 F F k2 v1 v2 (0 : Int32) (0 : Int32)
def pX6_isName (v0 : Int32) : Option (Int32) :=
  if v0 < 0 then
    (some (0 : Int32))
  else
  if (999 : Int32) < v0 then
    (some (0 : Int32))
  else
  some (1 : Int32)
def pX6_law (F : Nat) (κ : kp_K) (v1 : Int32) (v2 : Int32) (v3 : Int32) (v4 : Int32) (v5 : Int32) : Option (Int64 × kp_K) :=
  p_lt (s_i κ 66 0 (0 : Int32)) fun k2 =>
  if v1 < 0 then
    (some ((-9223372036854775808 : Int64), k2))
  else
  if (1 : Int32) < v1 then
    (some ((-9223372036854775808 : Int64), k2))
  else
  p_cl (pX6_isName v2) fun t15 =>
  if t15 = 0 then
    (some ((-9223372036854775808 : Int64), k2))
  else
  p_cl (pX6_isName v3) fun t22 =>
  if t22 = 0 then
    (some ((-9223372036854775808 : Int64), k2))
  else
  p_cl (pX6_isName v4) fun t30 =>
  if t30 = 0 then
    (some ((-9223372036854775808 : Int64), k2))
  else
  p_cl (pX6_isName v5) fun t38 =>
  if t38 = 0 then
    (some ((-9223372036854775808 : Int64), k2))
  else
  p_cl (pX6_isTold k2 v1) fun t46 =>
  if t46 = 0 then
    (some ((-9223372036854775808 : Int64), k2))
  else
  p_ck (0 : Int32) 6 <|
  p_lt (s_l k2 89 (0 : Int32).toNatClampNeg v2.toInt64) fun k63 =>
  p_ck (1 : Int32) 6 <|
  p_lt (s_l k63 89 (1 : Int32).toNatClampNeg v3.toInt64) fun k71 =>
  p_ck (2 : Int32) 6 <|
  p_lt (s_l k71 89 (2 : Int32).toNatClampNeg v4.toInt64) fun k80 =>
  p_ck (3 : Int32) 6 <|
  p_lt (s_l k80 89 (3 : Int32).toNatClampNeg v5.toInt64) fun k89 =>
  p_ck (4 : Int32) 6 <|
  p_lt (s_l k89 89 (4 : Int32).toNatClampNeg (0 : Int64)) fun k96 =>
  p_ck (5 : Int32) 6 <|
  p_lt (s_l k96 89 (5 : Int32).toNatClampNeg (0 : Int64)) fun k103 =>
  p_cl (pX6_goes0 F k103 v1) fun q106 => p_lt q106.1 fun t106 => p_lt q106.2 fun k106 =>
  if t106 = 0 then
    (some ((-9223372036854775808 : Int64), k106))
  else
  p_ck (0 : Int32) 64 <|
  some ((k106.2.1 90 (0 : Int32).toNatClampNeg), k106)
def pX6_hear (κ : kp_K) (v1 : Int32) (v2 : Int32) : Option (Int32 × kp_K) :=
  p_lt (s_i κ 66 0 (0 : Int32)) fun k2 =>
  p_cl (pX6_isQuestion k2 v1) fun t7 =>
  if t7 = 0 then
    (some ((-1 : Int32), k2))
  else
  if v2 < 0 then
    (some ((-1 : Int32), k2))
  else
  if (2 : Int32) < v2 then
    (some ((-1 : Int32), k2))
  else
  if (k2.1 66 71) = (24 : Int32) then
    (some ((-1 : Int32), k2))
  else
  p_ck (k2.1 66 71) 24 <|
  p_lt (s_i k2 113 (k2.1 66 71).toNatClampNeg v1) fun k42 =>
  p_ck (k42.1 66 71) 24 <|
  p_lt (s_i k42 114 (k42.1 66 71).toNatClampNeg v2) fun k52 =>
  p_lt (s_i k52 66 71 ((k52.1 66 71) + (1 : Int32))) fun k60 =>
  some (((k60.1 66 71) - (1 : Int32)), k60)
def pX6_strike (κ : kp_K) (v1 : Int32) : Option (Int32 × kp_K) :=
  p_lt (s_i κ 66 0 (0 : Int32)) fun k2 =>
  if v1 < 0 then
    (some ((-1 : Int32), k2))
  else
  if (k2.1 66 71) ≤ v1 then
    (some ((-1 : Int32), k2))
  else
  if (k2.1 66 71) = (24 : Int32) then
    (some ((-1 : Int32), k2))
  else
  p_ck (k2.1 66 71) 24 <|
  p_lt (s_i k2 113 (k2.1 66 71).toNatClampNeg (-1 : Int32)) fun k37 =>
  p_ck (k37.1 66 71) 24 <|
  p_lt (s_i k37 114 (k37.1 66 71).toNatClampNeg v1) fun k47 =>
  p_lt (s_i k47 66 71 ((k47.1 66 71) + (1 : Int32))) fun k55 =>
  some (((k55.1 66 71) - (1 : Int32)), k55)
def pX6_known (κ : kp_K) (v1 : Int32) : Option (Int32 × kp_K) :=
  p_lt (s_i κ 66 0 (0 : Int32)) fun k2 =>
  if v1 < (-1 : Int32) then
    (some ((0 : Int32), k2))
  else
  if v1 ≤ (k2.1 66 71) then
    (p_lt (s_i k2 66 72 v1) fun k22 =>
    some ((1 : Int32), k22))
  else
  some ((0 : Int32), k2)
def pX6_knownMany (κ : kp_K) : Option (Int32) :=
  if (κ.1 66 72) = (-1 : Int32) then
    (some (κ.1 66 71))
  else
  some (κ.1 66 72)
def bX6_goesAsHeard_26 (F : Nat) : Nat → kp_K → Int32 → Option (Int32 × kp_K)
  | 0, _, _ => none
  | n + 1, κ, v1 =>
    p_cl (pX6_knownMany κ) fun t28 =>
    if t28 ≤ v1 then
      (some ((1 : Int32), κ))
    else
    p_ck v1 24 <|
    if (κ.1 115 v1.toNatClampNeg) = 0 then
      (p_ck v1 24 <|
      if (κ.1 113 v1.toNatClampNeg) = (-1 : Int32) then
        (bX6_goesAsHeard_26 F n κ (v1 + (1 : Int32)))
      else
      p_ck v1 24 <|
      p_lt ((16 : Int32) + (κ.1 113 v1.toNatClampNeg)) fun i66 =>
      p_ck i66 48 <|
      p_ck v1 24 <|
      if (κ.1 99 i66.toNatClampNeg) = (κ.1 114 v1.toNatClampNeg) then
        (bX6_goesAsHeard_26 F n κ (v1 + (1 : Int32)))
      else
      some ((0 : Int32), κ))
    else
    bX6_goesAsHeard_26 F n κ (v1 + (1 : Int32))
def bX6_goesAsHeard_7 (F : Nat) : Nat → kp_K → Int32 → Option (Int32 × kp_K)
  | 0, _, _ => none
  | n + 1, κ, v1 =>
    if (61 : Int32) ≤ v1 then
      (bX6_goesAsHeard_26 F F κ (0 : Int32))
    else
    p_cl (pX6_passes F κ (1 : Int32)) fun k15 =>
    bX6_goesAsHeard_7 F n k15 (v1 + (1 : Int32))
def pX6_goesAsHeard (F : Nat) (κ : kp_K) : Option (Int32 × kp_K) :=
  p_cl (pX6_begins F κ (1 : Int32)) fun k2 =>
  bX6_goesAsHeard_7 F F k2 (0 : Int32)
def bX6_fits_112 (F : Nat) (k84 : kp_K → Int32 → Int32 → Option (Int32 × kp_K)) (κ : kp_K) (v1 : Int32) (v2 : Int32) (s0 : Int32) : Option (Int32 × kp_K) :=
  p_lt (s_i κ 66 39 s0) fun k112 =>
  p_cl (pX6_goesAsHeard F k112) fun q116 => p_lt q116.1 fun t116 => p_lt q116.2 fun k116 =>
  if t116 = 0 then
    (k84 k116 v1 (v2 + (1 : Int32)))
  else
  p_lt (v1 ||| ((1 : Int32) <<< (v2 &&& 31))) fun t127 =>
  k84 k116 t127 (v2 + (1 : Int32))
def bX6_fits_84 (F : Nat) : Nat → kp_K → Int32 → Int32 → Option (Int32 × kp_K)
  | 0, _, _, _ => none
  | n + 1, κ, v1, v2 =>
    p_ck (5 : Int32) 16 <|
    if (κ.1 68 (5 : Int32).toNatClampNeg) < v2 then
      (some (v1, κ))
    else
    p_ck (5 : Int32) 16 <|
    if (κ.1 68 (5 : Int32).toNatClampNeg) ≤ v2 then
      (bX6_fits_112 F (bX6_fits_84 F n) κ v1 v2 (0 : Int32))
    else
    bX6_fits_112 F (bX6_fits_84 F n) κ v1 v2 ((2 : Int32) + v2)
def bX6_fits_39 (F : Nat) : Nat → kp_K → Int32 → Option (Int32 × kp_K)
  | 0, _, _ => none
  | n + 1, κ, v1 =>
    if v1 < 0 then
      (bX6_fits_84 F F κ (0 : Int32) (0 : Int32))
    else
    p_ck v1 24 <|
    if (κ.1 115 v1.toNatClampNeg) = 0 then
      (p_ck v1 24 <|
      if (κ.1 113 v1.toNatClampNeg) = (-1 : Int32) then
        (p_ck v1 24 <|
        p_ck (κ.1 114 v1.toNatClampNeg) 24 <|
        p_lt (s_i κ 115 (κ.1 114 v1.toNatClampNeg).toNatClampNeg (1 : Int32)) fun k73 =>
        bX6_fits_39 F n k73 (v1 + (-1 : Int32)))
      else
      bX6_fits_39 F n κ (v1 + (-1 : Int32)))
    else
    bX6_fits_39 F n κ (v1 + (-1 : Int32))
def bX6_fits_11 (F : Nat) : Nat → kp_K → Int32 → Option (Int32 × kp_K)
  | 0, _, _ => none
  | n + 1, κ, v1 =>
    p_cl (pX6_knownMany κ) fun t13 =>
    if t13 ≤ v1 then
      (p_cl (pX6_knownMany κ) fun t33 =>
      p_lt (t33 - (1 : Int32)) fun t38 =>
      bX6_fits_39 F F κ t38)
    else
    p_ck v1 24 <|
    p_lt (s_i κ 115 v1.toNatClampNeg (0 : Int32)) fun k25 =>
    bX6_fits_11 F n k25 (v1 + (1 : Int32))
def pX6_fits (F : Nat) (κ : kp_K) : Option (Int32 × kp_K) :=
  p_lt (s_i κ 66 0 (0 : Int32)) fun k2 =>
  p_cl (pX6_plain k2) fun k6 =>
  bX6_fits_11 F F k6 (0 : Int32)
def bX6_tried_102 (F : Nat) : Nat → kp_K → Int32 → Int32 → Option (Int32 × kp_K)
  | 0, _, _, _ => none
  | n + 1, κ, v3, v5 =>
    p_ck (0 : Int32) 3 <|
    if (κ.1 91 (0 : Int32).toNatClampNeg) ≤ v5 then
      (p_lt ((4 : Int32) + v3) fun i131 =>
      p_ck i131 12 <|
      some ((κ.1 96 i131.toNatClampNeg), κ))
    else
    p_cl (pX6_passes F κ (1 : Int32)) fun k115 =>
    bX6_tried_102 F n k115 v3 (v5 + (1 : Int32))
def bX6_tried_63 (F : Nat) (κ : kp_K) (v1 : Int32) (v2 : Int32) (v3 : Int32) (s0 : Int32) : Option (Int32 × kp_K) :=
  if s0 = 0 then
    (some ((-1 : Int32), κ))
  else
  p_cl (pX6_isDesk κ v3) fun t72 =>
  if t72 = 0 then
    (some ((-1 : Int32), κ))
  else
  p_cl (pX6_plain κ) fun k81 =>
  p_lt (s_i k81 66 37 v1) fun k86 =>
  p_lt (s_i k86 66 38 v2) fun k91 =>
  p_cl (pX6_begins F k91 (1 : Int32)) fun k96 =>
  bX6_tried_102 F F k96 v3 (0 : Int32)
def bX6_tried_62 (F : Nat) (κ : kp_K) (v1 : Int32) (v2 : Int32) (v3 : Int32) : Option (Int32 × kp_K) :=
  bX6_tried_63 F κ v1 v2 v3 (0 : Int32)
def bX6_tried_26 (F : Nat) (κ : kp_K) (v1 : Int32) (v2 : Int32) (v3 : Int32) : Option (Int32 × kp_K) :=
  if v1 = (4 : Int32) then
    (p_cl (pX6_isDesk κ v2) fun t33 =>
    bX6_tried_63 F κ v1 v2 v3 t33)
  else
  if v1 = (5 : Int32) then
    (if v2 < 0 then
      (bX6_tried_62 F κ v1 v2 v3)
    else
    p_ck (2 : Int32) 16 <|
    if (κ.1 68 (2 : Int32).toNatClampNeg) ≤ v2 then
      (bX6_tried_62 F κ v1 v2 v3)
    else
    bX6_tried_63 F κ v1 v2 v3 (1 : Int32))
  else
  bX6_tried_62 F κ v1 v2 v3
def pX6_tried (F : Nat) (κ : kp_K) (v1 : Int32) (v2 : Int32) (v3 : Int32) : Option (Int32 × kp_K) :=
  p_lt (s_i κ 66 0 (0 : Int32)) fun k2 =>
  if v1 < 0 then
    (bX6_tried_26 F k2 v1 v2 v3)
  else
  if (3 : Int32) < v1 then
    (bX6_tried_26 F k2 v1 v2 v3)
  else
  if v2 = 0 then
    (bX6_tried_63 F k2 v1 v2 v3 (1 : Int32))
  else
  bX6_tried_63 F k2 v1 v2 v3 (0 : Int32)
def bX6_copies_215 (F : Nat) : Nat → kp_K → Int32 → Int32 → Int32 → Option (kp_K)
  | 0, _, _, _, _ => none
  | n + 1, κ, v1, v2, v3 =>
    p_ck v2 3 <|
    if (κ.1 100 v2.toNatClampNeg) ≤ v3 then
      (some κ)
    else
    p_lt (((640 : Int32) * v2) + v3) fun i247 =>
    p_ck i247 1920 <|
    p_ck (((640 : Int32) * v1) + v3) 1920 <|
    p_lt (s_i κ 101 (((640 : Int32) * v1) + v3).toNatClampNeg (κ.1 101 i247.toNatClampNeg)) fun k248 =>
    p_lt (((640 : Int32) * v2) + v3) fun i271 =>
    p_ck i271 1920 <|
    p_ck (((640 : Int32) * v1) + v3) 1920 <|
    p_lt (s_i k248 102 (((640 : Int32) * v1) + v3).toNatClampNeg (k248.1 102 i271.toNatClampNeg)) fun k272 =>
    p_lt (((640 : Int32) * v2) + v3) fun i295 =>
    p_ck i295 1920 <|
    p_ck (((640 : Int32) * v1) + v3) 1920 <|
    p_lt (s_i k272 103 (((640 : Int32) * v1) + v3).toNatClampNeg (k272.1 103 i295.toNatClampNeg)) fun k296 =>
    p_lt (((640 : Int32) * v2) + v3) fun i319 =>
    p_ck i319 1920 <|
    p_ck (((640 : Int32) * v1) + v3) 1920 <|
    p_lt (s_i k296 104 (((640 : Int32) * v1) + v3).toNatClampNeg (k296.1 104 i319.toNatClampNeg)) fun k320 =>
    bX6_copies_215 F n k320 v1 v2 (v3 + (1 : Int32))
def bX6_copies_179 (F : Nat) : Nat → kp_K → Int32 → Int32 → Int32 → Option (kp_K)
  | 0, _, _, _, _ => none
  | n + 1, κ, v1, v2, v3 =>
    if (16 : Int32) ≤ v3 then
      (bX6_copies_215 F F κ v1 v2 (0 : Int32))
    else
    p_lt (((16 : Int32) * v2) + v3) fun i205 =>
    p_ck i205 48 <|
    p_ck (((16 : Int32) * v1) + v3) 48 <|
    p_lt (s_i κ 99 (((16 : Int32) * v1) + v3).toNatClampNeg (κ.1 99 i205.toNatClampNeg)) fun k206 =>
    bX6_copies_179 F n k206 v1 v2 (v3 + (1 : Int32))
def bX6_copies_99 (F : Nat) : Nat → kp_K → Int32 → Int32 → Int32 → Option (kp_K)
  | 0, _, _, _, _ => none
  | n + 1, κ, v1, v2, v3 =>
    if (28 : Int32) ≤ v3 then
      (bX6_copies_179 F F κ v1 v2 (0 : Int32))
    else
    p_lt (((28 : Int32) * v2) + v3) fun i125 =>
    p_ck i125 84 <|
    p_ck (((28 : Int32) * v1) + v3) 84 <|
    p_lt (s_i κ 93 (((28 : Int32) * v1) + v3).toNatClampNeg (κ.1 93 i125.toNatClampNeg)) fun k126 =>
    p_lt (((28 : Int32) * v2) + v3) fun i147 =>
    p_ck i147 84 <|
    p_ck (((28 : Int32) * v1) + v3) 84 <|
    p_lt (s_i k126 94 (((28 : Int32) * v1) + v3).toNatClampNeg (k126.1 94 i147.toNatClampNeg)) fun k148 =>
    p_lt (((28 : Int32) * v2) + v3) fun i169 =>
    p_ck i169 84 <|
    p_ck (((28 : Int32) * v1) + v3) 84 <|
    p_lt (s_i k148 95 (((28 : Int32) * v1) + v3).toNatClampNeg (k148.1 95 i169.toNatClampNeg)) fun k170 =>
    bX6_copies_99 F n k170 v1 v2 (v3 + (1 : Int32))
def bX6_copies_26 (F : Nat) : Nat → kp_K → Int32 → Int32 → Int32 → Option (kp_K)
  | 0, _, _, _, _ => none
  | n + 1, κ, v1, v2, v3 =>
    if (4 : Int32) ≤ v3 then
      (bX6_copies_99 F F κ v1 v2 (0 : Int32))
    else
    p_lt (((4 : Int32) * v2) + v3) fun i49 =>
    p_ck i49 12 <|
    p_ck (((4 : Int32) * v1) + v3) 12 <|
    p_lt (s_i κ 92 (((4 : Int32) * v1) + v3).toNatClampNeg (κ.1 92 i49.toNatClampNeg)) fun k50 =>
    p_lt (((4 : Int32) * v2) + v3) fun i69 =>
    p_ck i69 12 <|
    p_ck (((4 : Int32) * v1) + v3) 12 <|
    p_lt (s_i k50 96 (((4 : Int32) * v1) + v3).toNatClampNeg (k50.1 96 i69.toNatClampNeg)) fun k70 =>
    p_lt (((4 : Int32) * v2) + v3) fun i89 =>
    p_ck i89 12 <|
    p_ck (((4 : Int32) * v1) + v3) 12 <|
    p_lt (s_i k70 97 (((4 : Int32) * v1) + v3).toNatClampNeg (k70.1 97 i89.toNatClampNeg)) fun k90 =>
    bX6_copies_26 F n k90 v1 v2 (v3 + (1 : Int32))
def pX6_copies (F : Nat) (κ : kp_K) (v1 : Int32) (v2 : Int32) : Option (kp_K) :=
  p_ck v2 3 <|
  p_ck v1 3 <|
  p_lt (s_i κ 91 v1.toNatClampNeg (κ.1 91 v2.toNatClampNeg)) fun k11 =>
  p_ck v2 3 <|
  p_ck v1 3 <|
  p_lt (s_i k11 100 v1.toNatClampNeg (k11.1 100 v2.toNatClampNeg)) fun k23 =>
  bX6_copies_26 F F k23 v1 v2 (0 : Int32)
def pX6_keep (F : Nat) (κ : kp_K) : Option (Int32 × kp_K) :=
  p_lt (s_i κ 66 0 (0 : Int32)) fun k2 =>
  p_cl (pX6_copies F k2 (2 : Int32) (0 : Int32)) fun k8 =>
  p_lt (s_i k8 66 57 (1 : Int32)) fun k13 =>
  p_ck (0 : Int32) 3 <|
  some ((k13.1 91 (0 : Int32).toNatClampNeg), k13)
def pX6_back (F : Nat) (κ : kp_K) : Option (Int32 × kp_K) :=
  p_lt (s_i κ 66 0 (0 : Int32)) fun k2 =>
  if (k2.1 66 57) = 0 then
    (some ((-1 : Int32), k2))
  else
  p_cl (pX6_copies F k2 (0 : Int32) (2 : Int32)) fun k17 =>
  p_ck (0 : Int32) 3 <|
  some ((k17.1 91 (0 : Int32).toNatClampNeg), k17)
def bX6_count_126 (F : Nat) : Nat → kp_K → Int32 → Int32 → Option (Int32 × kp_K)
  | 0, _, _, _ => none
  | n + 1, κ, v2, v3 =>
    p_ck (0 : Int32) 16 <|
    if (κ.1 68 (0 : Int32).toNatClampNeg) ≤ v3 then
      (some (v2, κ))
    else
    p_ck v3 12 <|
    p_lt (v2 + (κ.1 96 v3.toNatClampNeg)) fun t144 =>
    bX6_count_126 F n κ t144 (v3 + (1 : Int32))
def pX6_count (F : Nat) (κ : kp_K) (v1 : Int32) : Option (Int32 × kp_K) :=
  p_lt (s_i κ 66 0 (0 : Int32)) fun k2 =>
  if v1 = (0 : Int32) then
    (p_ck (0 : Int32) 16 <|
    some ((k2.1 68 (0 : Int32).toNatClampNeg), k2))
  else
  if v1 = (1 : Int32) then
    (p_ck (1 : Int32) 16 <|
    some ((k2.1 68 (1 : Int32).toNatClampNeg), k2))
  else
  if v1 = (2 : Int32) then
    (p_ck (2 : Int32) 16 <|
    some ((k2.1 68 (2 : Int32).toNatClampNeg), k2))
  else
  if v1 = (3 : Int32) then
    (p_ck (3 : Int32) 16 <|
    some ((k2.1 68 (3 : Int32).toNatClampNeg), k2))
  else
  if v1 = (4 : Int32) then
    (p_ck (5 : Int32) 16 <|
    some ((k2.1 68 (5 : Int32).toNatClampNeg), k2))
  else
  if v1 = (5 : Int32) then
    (p_ck (7 : Int32) 16 <|
    some ((k2.1 68 (7 : Int32).toNatClampNeg), k2))
  else
  if v1 = (6 : Int32) then
    (p_ck (0 : Int32) 3 <|
    some ((k2.1 91 (0 : Int32).toNatClampNeg), k2))
  else
  if v1 = (7 : Int32) then
    (some ((k2.1 66 71), k2))
  else
  if v1 = (8 : Int32) then
    (p_cl (pX6_knownMany k2) fun t120 =>
    some (t120, k2))
  else
  if v1 = (9 : Int32) then
    (bX6_count_126 F F k2 (0 : Int32) (0 : Int32))
  else
  some ((-1 : Int32), k2)
