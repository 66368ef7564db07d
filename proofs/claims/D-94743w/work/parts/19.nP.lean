/-! sums' own methods: its methods as pure programs: printed by gen -/
set_option maxRecDepth 100000
def bX3_inBound_24 (κ : kp_K) (v1 : Int64) (s0 : Int32) : Option (Int64 × kp_K) :=
  p_cz s0 <|
  p_lt (s_i κ 9 1 s0) fun k24 =>
  if (k24.1 9 1) = 0 then
    (some (v1, k24))
  else
  some ((0 : Int64), k24)
def bX3_inBound_19 (κ : kp_K) (v1 : Int64) : Option (Int64 × kp_K) :=
  bX3_inBound_24 κ v1 (1 : Int32)
def pX3_inBound (κ : kp_K) (v1 : Int64) : Option (Int64 × kp_K) :=
  if (κ.1 9 1) = 0 then
    (if (lg_cmp (if 0 < v1 then v1 else -v1) (1000000000000 : Int64)) ≤ 0 then
      (bX3_inBound_24 κ v1 (0 : Int32))
    else
    bX3_inBound_19 κ v1)
  else
  bX3_inBound_19 κ v1
def bX17_of_90 (sg : Int32) (κ : kp_K) (v2 : Int64) (v4 : Int64) (s0 : Int32) : Option (Int64 × kp_K) :=
  p_cz s0 <|
  p_lt (s_i κ 9 1 s0) fun k90 =>
  if (k90.1 9 1) = 0 then
    (some ((v2 * v4), k90))
  else
  some ((0 : Int64), k90)
def bX17_of_85 (sg : Int32) (κ : kp_K) (v2 : Int64) (v4 : Int64) : Option (Int64 × kp_K) :=
  bX17_of_90 sg κ v2 v4 (1 : Int32)
def bX17_of_89 (sg : Int32) (κ : kp_K) (v2 : Int64) (v4 : Int64) : Option (Int64 × kp_K) :=
  bX17_of_90 sg κ v2 v4 (0 : Int32)
def bX17_of_129 (sg : Int32) (κ : kp_K) (v2 : Int64) (v4 : Int64) (s0 : Int32) : Option (Int64 × kp_K) :=
  p_cz s0 <|
  p_lt (s_i κ 9 1 s0) fun k129 =>
  if (k129.1 9 1) = 0 then
    (p_cdl v4 <|
    some ((v2 / v4), k129))
  else
  some ((0 : Int64), k129)
def bX17_of_124 (sg : Int32) (κ : kp_K) (v2 : Int64) (v4 : Int64) : Option (Int64 × kp_K) :=
  bX17_of_129 sg κ v2 v4 (1 : Int32)
def pX17_of (sg : Int32) (κ : kp_K) (v2 : Int64) (v4 : Int64) : Option (Int64 × kp_K) :=
  if sg = (42 : Int32) then
    (if (κ.1 9 1) = 0 then
      (if (lg_cmp v2 (0 : Int64)) = 0 then
        (bX17_of_89 sg κ v2 v4)
      else
      p_cdl (if 0 < v2 then v2 else -v2) <|
      if (lg_cmp (if 0 < v4 then v4 else -v4) ((1000000000000 : Int64) / (if 0 < v2 then v2 else -v2))) ≤ 0 then
        (bX17_of_89 sg κ v2 v4)
      else
      bX17_of_85 sg κ v2 v4)
    else
    bX17_of_85 sg κ v2 v4)
  else
  if sg = (43 : Int32) then
    (p_cl (pX3_inBound κ (v2 + v4)) fun q41 => p_lt q41.1 fun t41 => p_lt q41.2 fun k41 =>
    some (t41, k41))
  else
  if sg = (44 : Int32) then
    (if (κ.1 9 1) = 0 then
      (if (lg_cmp v4 (0 : Int64)) = 0 then
        (bX17_of_124 sg κ v2 v4)
      else
      bX17_of_129 sg κ v2 v4 (0 : Int32))
    else
    bX17_of_124 sg κ v2 v4)
  else
  if sg = (45 : Int32) then
    (p_cl (pX3_inBound κ (v2 - v4)) fun q50 => p_lt q50.1 fun t50 => p_lt q50.2 fun k50 =>
    some (t50, k50))
  else
  if (κ.1 9 1) = 0 then
    (if (lg_cmp v4 (0 : Int64)) = 0 then
      (bX17_of_124 sg κ v2 v4)
    else
    bX17_of_129 sg κ v2 v4 (0 : Int32))
  else
  bX17_of_124 sg κ v2 v4
def bX18_of_126 (sg : Int32) (s0 : Int32) : Option (Int64) :=
  if s0 = 0 then
    (some (0 : Int64))
  else
  some (1 : Int64)
def pX18_of (sg : Int32) (v2 : Int64) (v4 : Int64) : Option (Int64) :=
  if sg = 0 then
    (if 0 ≤ (lg_cmp v2 v4) then
      (bX18_of_126 sg (0 : Int32))
    else
    bX18_of_126 sg (1 : Int32))
  else
  if sg = (1 : Int32) then
    (if 0 < (lg_cmp v2 v4) then
      (bX18_of_126 sg (0 : Int32))
    else
    bX18_of_126 sg (1 : Int32))
  else
  if sg = (2 : Int32) then
    (if (lg_cmp v2 v4) = 0 then
      (bX18_of_126 sg (1 : Int32))
    else
    bX18_of_126 sg (0 : Int32))
  else
  if sg = (3 : Int32) then
    (if (lg_cmp v2 v4) = 0 then
      (bX18_of_126 sg (0 : Int32))
    else
    bX18_of_126 sg (1 : Int32))
  else
  if sg = (4 : Int32) then
    (if (lg_cmp v2 v4) < 0 then
      (bX18_of_126 sg (0 : Int32))
    else
    bX18_of_126 sg (1 : Int32))
  else
  if (lg_cmp v2 v4) ≤ 0 then
    (bX18_of_126 sg (0 : Int32))
  else
  bX18_of_126 sg (1 : Int32)
def pX20_of (sg : Int32) (v2 : Int64) (v4 : Int64) : Option (Int64) :=
  if sg = 0 then
    (if (lg_cmp v2 (0 : Int64)) = 0 then
      (if (lg_cmp v4 (0 : Int64)) = 0 then
        (some (0 : Int64))
      else
      some (1 : Int64))
    else
    some (1 : Int64))
  else
  if (lg_cmp v2 (0 : Int64)) = 0 then
    (some (0 : Int64))
  else
  if (lg_cmp v4 (0 : Int64)) = 0 then
    (some (0 : Int64))
  else
  some (1 : Int64)
