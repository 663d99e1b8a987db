/-! printed by gen.py -/
set_option maxRecDepth 100000
def fX0_isCity (N : Nat) (w : Wd) (o : Nat) : Option (Int32) :=
  (gR w [0] o 0).bind fun x1 =>
  (gI w [1] x1 0).bind fun x2 =>
  if x2 ≤ 0 then
    some (0 : Int32)
  else
    some (1 : Int32)

def fX0_isIn (N : Nat) (w : Wd) (v0 : Int64) (v2 : Int64) (v4 : Int64) : Option (Int32) :=
  if (lg_cmp v0 v2) < 0 then
    some (0 : Int32)
  else
    if 0 < (lg_cmp v0 v4) then
      some (0 : Int32)
    else
      some (1 : Int32)

def fX0_isBeat (N : Nat) (w : Wd) (v0 : Int32) : Option (Int32) :=
  (fX0_isIn N w v0.toInt64 (0 : Int64) (99999 : Int64)).bind fun x1 =>
  if x1 = 0 ∨ x1 = 1 then some x1 else none

def fX1_divisor : Nat → Wd → Int32 → Int32 → Option Int32
  | 0, _, _, _ => none
  | N + 1, w, v0, v1 =>
    if v1 = 0 then
      some v0
    else
      if v1 = 0 then none else
      (fX1_divisor N w v1 (v0 - v0 / v1 * v1)).bind fun x =>
      some x

def fX1_round_4 (N : Nat) (w : Wd) (o : Nat) (k44 : Int32 → Option (Int32)) : Nat → Int32 → Int32 → Option (Int32)
  | 0, _, _ => none
  | n + 1, v1, v2 =>
    (gI w [1] o 0).bind fun x1 =>
    if x1 ≤ v2 then
      k44 v1
    else
      (gR w [1] o 7).bind fun x2 =>
      (aR 5 w x2 v2).bind fun x3 =>
      (gI w [2, 8, 9, 10, 11] x3 3).bind fun x4 =>
      (fX1_divisor 10 w v1 x4).bind fun x5 =>
      if x5 = 0 then none else
      (gR w [1] o 7).bind fun x6 =>
      (aR 5 w x6 v2).bind fun x7 =>
      (gI w [2, 8, 9, 10, 11] x7 3).bind fun x8 =>
      (some (((v1 / x5) * x8))).bind fun x9 =>
      (some (v2 + (1 : Int32))).bind fun x10 =>
      fX1_round_4 N w o k44 n x9 x10
def fX1_round (N : Nat) (w : Wd) (o : Nat) : Option (Int32) :=
  fX1_round_4 N w o
    (fun y11 =>
      some y11)
    N (1 : Int32) (0 : Int32)

def fJ0_floorMod (N : Nat) (w : Wd) (v0 : Int32) (v1 : Int32) : Option (Int32) :=
  if v1 = 0 then none else
  (some ((v0 - v0 / v1 * v1))).bind fun x1 =>
  if 0 ≤ (v0 ^^^ v1) then
    some x1
  else
    if x1 = 0 then
      some x1
    else
      some (x1 + v1)

def fX2_place (N : Nat) (w : Wd) (o : Nat) (v1 : Int32) : Option (Int32) :=
  (gI w [2, 8, 9, 10, 11] o 3).bind fun x1 =>
  (fJ0_floorMod N w v1 x1).bind fun x2 =>
  some x2

def fX2_height (N : Nat) (w : Wd) (o : Nat) (v1 : Int32) : Option (Int32) :=
  (gR w [2, 8, 9, 10, 11] o 1).bind fun x1 =>
  (ckC w famT o).bind fun c3 =>
  (fX2_place N w o v1).bind fun x2 =>
  (aI 0 w x1 x2).bind fun x4 =>
  some x4

def fX2_to (N : Nat) (w : Wd) (o : Nat) (v1 : Int32) : Option (Int32) :=
  (gR w [2, 8, 9, 10, 11] o 2).bind fun x1 =>
  (ckC w famT o).bind fun c3 =>
  (fX2_place N w o v1).bind fun x2 =>
  (aI 0 w x1 x2).bind fun x4 =>
  some x4

def fX1_isFrom (N : Nat) (w : Wd) (o : Nat) (v1 : Int32) (v2 : Int32) (v3 : Int32) (v4 : Int32) : Option (Int32) :=
  (gR w [1] o 7).bind fun x1 =>
  (aR 5 w x1 v1).bind fun x2 =>
  (ckC w famT x2).bind fun c4 =>
  (fX2_height N w x2 (v4 - v2)).bind fun x3 =>
  if x3 = v2 then
    (gR w [1] o 7).bind fun x5 =>
    (aR 5 w x5 v1).bind fun x6 =>
    (ckC w famT x6).bind fun c8 =>
    (fX2_to N w x6 (v4 - v2)).bind fun x7 =>
    if x7 = v3 then
      some (1 : Int32)
    else
      some (0 : Int32)
  else
    some (0 : Int32)

def fX1_comeDown_15 (N : Nat) (w : Wd) (o : Nat) (v1 : Int32) (v2 : Int32) (v4 : Int32) (k51 : Int32 → Option (Int32)) : Nat → Int32 → Int32 → Option (Int32)
  | 0, _, _ => none
  | n + 1, v3, v5 =>
    (gI w [1] o 0).bind fun x1 =>
    if x1 ≤ v5 then
      k51 v3
    else
      (fX1_isFrom N w o v5 v4 v1 v2).bind fun x2 =>
      if x2 = 0 then
        (some ((v3 + (0 : Int32)))).bind fun x3 =>
        (some (v5 + (1 : Int32))).bind fun x4 =>
        fX1_comeDown_15 N w o v1 v2 v4 k51 n x3 x4
      else
        (some ((v3 + (1 : Int32)))).bind fun x5 =>
        (some (v5 + (1 : Int32))).bind fun x6 =>
        fX1_comeDown_15 N w o v1 v2 v4 k51 n x5 x6
def fX1_comeDown_5 (N : Nat) (w : Wd) (o : Nat) (v1 : Int32) (v2 : Int32) (k57 : Int32 → Option (Int32)) : Nat → Int32 → Int32 → Option (Int32)
  | 0, _, _ => none
  | n + 1, v3, v4 =>
    if (9 : Int32) < v4 then
      k57 v3
    else
      fX1_comeDown_15 N w o v1 v2 v4
        (fun y7 =>
          (some (v4 + (1 : Int32))).bind fun x8 =>
          fX1_comeDown_5 N w o v1 v2 k57 n y7 x8)
        N v3 (0 : Int32)
def fX1_comeDown (N : Nat) (w : Wd) (o : Nat) (v1 : Int32) (v2 : Int32) : Option (Int32) :=
  fX1_comeDown_5 N w o v1 v2
    (fun y9 =>
      some y9)
    N (0 : Int32) (1 : Int32)

def fX1_isClash_24 (N : Nat) (w : Wd) (o : Nat) (s0 : Int32) (s1 : Int32) : Option (Int32) :=
  if s0 = s1 then
    some (0 : Int32)
  else
    some (1 : Int32)
def fX1_isClash (N : Nat) (w : Wd) (o : Nat) (v1 : Int32) (v2 : Int32) : Option (Int32) :=
  (fX1_comeDown N w o v1 v2).bind fun x1 =>
  (gR w [1] o 7).bind fun x2 =>
  (aR 5 w x2 v1).bind fun x3 =>
  (ckC w famT x3).bind fun c5 =>
  (fX2_height N w x3 v2).bind fun x4 =>
  if x4 ≤ 0 then
    fX1_isClash_24 N w o x1 (0 : Int32)
  else
    fX1_isClash_24 N w o x1 (1 : Int32)

def fX1_keeps_14 (N : Nat) (w : Wd) (o : Nat) (v1 : Int32) (v2 : Int32) (k31 : Option (Int32)) (k39 : Option (Int32)) : Nat → Int32 → Option (Int32)
  | 0, _ => none
  | n + 1, v3 =>
    (gI w [1] o 0).bind fun x2 =>
    if x2 ≤ v3 then
      k39
    else
      (fX1_isClash N w o v3 v2).bind fun x3 =>
      if x3 = 0 then
        (some (v3 + (1 : Int32))).bind fun x4 =>
        fX1_keeps_14 N w o v1 v2 k31 k39 n x4
      else
        k31
def fX1_keeps_7 (N : Nat) (w : Wd) (o : Nat) (v1 : Int32) (k31 : Option (Int32)) (k45 : Option (Int32)) : Nat → Int32 → Option (Int32)
  | 0, _ => none
  | n + 1, v2 =>
    if v1 ≤ v2 then
      k45
    else
      fX1_keeps_14 N w o v1 v2
        (
          k31)
        (
          (some (v2 + (1 : Int32))).bind fun x5 =>
          fX1_keeps_7 N w o v1 k31 k45 n x5)
        N (0 : Int32)
def fX1_keeps (N : Nat) (w : Wd) (o : Nat) : Option (Int32) :=
  (fX1_round N w o).bind fun x1 =>
  fX1_keeps_7 N w o x1
    (
      some (0 : Int32))
    (
      some (1 : Int32))
    N (0 : Int32)

def fX0_air_44 (N : Nat) (w : Wd) (o : Nat) (v1 : Int32) (v3 : Int32) (k90 : Int32 → Option (Int32)) : Nat → Int32 → Int32 → Option (Int32)
  | 0, _, _ => none
  | n + 1, v2, v4 =>
    (gR w [0] o 0).bind fun x6 =>
    (gI w [1] x6 0).bind fun x7 =>
    if x7 ≤ v4 then
      k90 v2
    else
      (gR w [0] o 0).bind fun x8 =>
      (gR w [1] x8 7).bind fun x9 =>
      (aR 5 w x9 v4).bind fun x10 =>
      (ckC w famT x10).bind fun c12 =>
      (fX2_height N w x10 v3).bind fun x11 =>
      if (v3 + x11) ≤ v1 then
        (some ((v2 + (0 : Int32)))).bind fun x13 =>
        (some (v4 + (1 : Int32))).bind fun x14 =>
        fX0_air_44 N w o v1 v3 k90 n x13 x14
      else
        (some ((v2 + (1 : Int32)))).bind fun x15 =>
        (some (v4 + (1 : Int32))).bind fun x16 =>
        fX0_air_44 N w o v1 v3 k90 n x15 x16
def fX0_air_33 (N : Nat) (w : Wd) (o : Nat) (v1 : Int32) (k96 : Int32 → Option (Int32)) : Nat → Int32 → Int32 → Option (Int32)
  | 0, _, _ => none
  | n + 1, v2, v3 =>
    if v3 ≤ (v1 - (9 : Int32)) then
      k96 v2
    else
      fX0_air_44 N w o v1 v3
        (fun y17 =>
          (some (v3 + (-1 : Int32))).bind fun x18 =>
          fX0_air_33 N w o v1 k96 n y17 x18)
        N v2 (0 : Int32)
def fX0_air (N : Nat) (w : Wd) (o : Nat) (v1 : Int32) : Option (Int32) :=
  (fX0_isCity N w o).bind fun x1 =>
  if x1 = 0 then
    some (-2 : Int32)
  else
    (fX0_isBeat N w v1).bind fun x2 =>
    if x2 = 0 then
      some (-2 : Int32)
    else
      (gR w [0] o 0).bind fun x3 =>
      (ckC w [1] x3).bind fun c5 =>
      (fX1_keeps N w x3).bind fun x4 =>
      if x4 = 0 then
        some (-1 : Int32)
      else
        fX0_air_33 N w o v1
          (fun y19 =>
            some y19)
          N (0 : Int32) v1

def fX0_isLetter (N : Nat) (w : Wd) (o : Nat) (v1 : Int32) : Option (Int32) :=
  (gR w [0] o 0).bind fun x1 =>
  (gI w [1] x1 2).bind fun x2 =>
  (fX0_isIn N w v1.toInt64 (0 : Int64) ((x2 - (1 : Int32)).toInt64)).bind fun x3 =>
  if x3 = 0 ∨ x3 = 1 then some x3 else none

def fX0_isRoof (N : Nat) (w : Wd) (o : Nat) (v1 : Int32) : Option (Int32) :=
  (gR w [0] o 0).bind fun x1 =>
  (gI w [1] x1 0).bind fun x2 =>
  (fX0_isIn N w v1.toInt64 (0 : Int64) ((x2 - (1 : Int32)).toInt64)).bind fun x3 =>
  if x3 = 0 ∨ x3 = 1 then some x3 else none

def fX3_height (N : Nat) (w : Wd) (o : Nat) : Option (Int32) :=
  (gR w [3] o 2).bind fun x1 =>
  (gR w [0] x1 0).bind fun x2 =>
  (gR w [1] x2 7).bind fun x3 =>
  (gI w [3] o 0).bind fun x4 =>
  (aR 5 w x3 x4).bind fun x5 =>
  (gI w [3] o 1).bind fun x6 =>
  (ckC w famT x5).bind fun c8 =>
  (fX2_height N w x5 x6).bind fun x7 =>
  some x7

def fX3_begin (N : Nat) (w : Wd) (o : Nat) (v1 : Int32) (v2 : Int32) : Option (Int32 × Wd) :=
  (pF w [3] o 0 (.int v1)).bind fun w1 =>
  (pF w1 [3] o 1 (.int v2)).bind fun w2 =>
  (fX3_height N w2 o).bind fun x3 =>
  if x3 ≤ 0 then
    some ((0 : Int32), w2)
  else
    some ((1 : Int32), w2)

def fX0_asksBall (N : Nat) (w : Wd) (o : Nat) (v1 : Int32) (v2 : Int32) : Option (Int32 × Wd) :=
  (fX0_isRoof N w o v1).bind fun x1 =>
  if x1 = 0 then
    some ((-2 : Int32), w)
  else
    (fX0_isBeat N w v2).bind fun x2 =>
    if x2 = 0 then
      some ((-2 : Int32), w)
    else
      (gR w [0] o 0).bind fun x3 =>
      (ckC w [1] x3).bind fun c5 =>
      (fX1_keeps N w x3).bind fun x4 =>
      if x4 = 0 then
        some ((-1 : Int32), w)
      else
        (gR w [0] o 6).bind fun x6 =>
        (ckC w [3] x6).bind fun c8 =>
        (fX3_begin N w x6 v1 v2).bind fun x7 =>
        if x7.1 = 0 then
          some ((-1 : Int32), x7.2)
        else
          some ((0 : Int32), x7.2)

def fX0_asksLetter (N : Nat) (w : Wd) (o : Nat) (v1 : Int32) : Option (Int32 × Wd) :=
  (fX0_isLetter N w o v1).bind fun x1 =>
  if x1 = 0 then
    some ((-2 : Int32), w)
  else
    (gR w [0] o 0).bind fun x2 =>
    (gR w [1] x2 10).bind fun x3 =>
    (aI 0 w x3 v1).bind fun x4 =>
    (gR w [0] o 0).bind fun x5 =>
    (gR w [1] x5 11).bind fun x6 =>
    (aI 0 w x6 v1).bind fun x7 =>
    (fX0_asksBall N w o x4 x7).bind fun x8 =>
    some (x8.1, x8.2)

def fX3_goes (N : Nat) (w : Wd) (o : Nat) : Option (Wd) :=
  (fX3_height N w o).bind fun x1 =>
  (gR w [3] o 2).bind fun x2 =>
  (gR w [0] x2 0).bind fun x3 =>
  (gR w [1] x3 7).bind fun x4 =>
  (gI w [3] o 0).bind fun x5 =>
  (aR 5 w x4 x5).bind fun x6 =>
  (gI w [3] o 1).bind fun x7 =>
  (ckC w famT x6).bind fun c9 =>
  (fX2_to N w x6 x7).bind fun x8 =>
  (pF w [3] o 0 (.int x8)).bind fun w10 =>
  (gI w10 [3] o 1).bind fun x11 =>
  (pF w10 [3] o 1 (.int (x11 + x1))).bind fun w12 =>
  some w12

def fX0_nextOn_18 (N : Nat) (o : Nat) (v1 : Int32) (v2 : Int32) (k41 : Wd → Option (Int32 × Wd)) (k55 : Wd → Option (Int32 × Wd)) : Nat → Int32 → Wd → Option (Int32 × Wd)
  | 0, _, _ => none
  | n + 1, v3, w =>
    if v2 ≤ v3 then
      k55 w
    else
      (gR w [0] o 6).bind fun x7 =>
      (ckC w [3] x7).bind fun c9 =>
      (fX3_goes N w x7).bind fun w8 =>
      (gR w8 [0] o 6).bind fun x10 =>
      (gI w8 [3] x10 0).bind fun x11 =>
      if x11 = v1 then
        k41 w8
      else
        (some (v3 + (1 : Int32))).bind fun x12 =>
        fX0_nextOn_18 N o v1 v2 k41 k55 n x12 w8
def fX0_nextOn (N : Nat) (w : Wd) (o : Nat) (v1 : Int32) : Option (Int32 × Wd) :=
  (gR w [0] o 0).bind fun x1 =>
  (gI w [1] x1 0).bind fun x2 =>
  (gR w [0] o 0).bind fun x3 =>
  (ckC w [1] x3).bind fun c5 =>
  (fX1_round N w x3).bind fun x4 =>
  (some ((x2 * x4))).bind fun x6 =>
  fX0_nextOn_18 N o v1 x6
    (fun w13 =>
      (gR w13 [0] o 6).bind fun x14 =>
      (gI w13 [3] x14 1).bind fun x15 =>
      some (x15, w13))
    (fun w16 =>
      some ((-1 : Int32), w16))
    N (0 : Int32) w

def fX0_alone (N : Nat) (w : Wd) (o : Nat) (v1 : Int32) : Option (Int32 × Wd) :=
  (fX0_asksLetter N w o v1).bind fun x1 =>
  if 0 ≤ x1.1 then
    (gR x1.2 [0] o 0).bind fun x2 =>
    (gR x1.2 [1] x2 12).bind fun x3 =>
    (aI 0 x1.2 x3 v1).bind fun x4 =>
    (fX0_nextOn N x1.2 o x4).bind fun x5 =>
    some (x5.1, x5.2)
  else
    some (x1.1, x1.2)

def fX0_isThrow (N : Nat) (w : Wd) (o : Nat) (v1 : Int32) (v2 : Int32) : Option (Int32) :=
  (fX0_isRoof N w o v1).bind fun x1 =>
  if x1 = 0 then
    some (0 : Int32)
  else
    (gR w [0] o 0).bind fun x2 =>
    (gR w [1] x2 7).bind fun x3 =>
    (aR 5 w x3 v1).bind fun x4 =>
    (gI w [2, 8, 9, 10, 11] x4 3).bind fun x5 =>
    (fX0_isIn N w v2.toInt64 (0 : Int64) ((x5 - (1 : Int32)).toInt64)).bind fun x6 =>
    if x6 = 0 then
      some (0 : Int32)
    else
      some (1 : Int32)

def fX2_isAway (N : Nat) (w : Wd) (o : Nat) (v1 : Int32) : Option (Int32) :=
  (ckC w famT o).bind fun c2 =>
  (fX2_height N w o v1).bind fun x1 =>
  if x1 ≤ 0 then
    some (0 : Int32)
  else
    (ckC w famT o).bind fun c4 =>
    (fX2_to N w o v1).bind fun x3 =>
    (gI w [2, 8, 9, 10, 11] o 0).bind fun x5 =>
    if x3 = x5 then
      some (0 : Int32)
    else
      some (1 : Int32)

def fX2_isSolo_2 (N : Nat) (w : Wd) (o : Nat) (k18 : Option (Int32)) (k26 : Option (Int32)) : Nat → Int32 → Option (Int32)
  | 0, _ => none
  | n + 1, v1 =>
    (gI w [2, 8, 9, 10, 11] o 3).bind fun x1 =>
    if x1 ≤ v1 then
      k26
    else
      (ckC w famT o).bind fun c3 =>
      (fX2_isAway N w o v1).bind fun x2 =>
      if x2 = 0 then
        (some (v1 + (1 : Int32))).bind fun x4 =>
        fX2_isSolo_2 N w o k18 k26 n x4
      else
        k18
def fX2_isSolo (N : Nat) (w : Wd) (o : Nat) : Option (Int32) :=
  fX2_isSolo_2 N w o
    (
      some (0 : Int32))
    (
      some (1 : Int32))
    N (0 : Int32)

def fJ7_bitCount (N : Nat) (w : Wd) (v0 : Int32) : Option (Int32) :=
  (some ((v0 - (((v0.toUInt32 >>> ((1 : Int32).toUInt32 &&& Int32.toUInt32 31)).toInt32) &&& (1431655765 : Int32))))).bind fun x1 =>
  (some (((x1 &&& (858993459 : Int32)) + (((x1.toUInt32 >>> ((2 : Int32).toUInt32 &&& Int32.toUInt32 31)).toInt32) &&& (858993459 : Int32))))).bind fun x2 =>
  (some (((x2 + ((x2.toUInt32 >>> ((4 : Int32).toUInt32 &&& Int32.toUInt32 31)).toInt32)) &&& (252645135 : Int32)))).bind fun x3 =>
  (some ((x3 + ((x3.toUInt32 >>> ((8 : Int32).toUInt32 &&& Int32.toUInt32 31)).toInt32)))).bind fun x4 =>
  (some ((x4 + ((x4.toUInt32 >>> ((16 : Int32).toUInt32 &&& Int32.toUInt32 31)).toInt32)))).bind fun x5 =>
  some (x5 &&& (63 : Int32))

def fX0_keepsAlone_13 (N : Nat) (w : Wd) (o : Nat) (v1 : Nat) (k44 : Int32 → Option (Int32)) : Nat → Int32 → Int32 → Option (Int32)
  | 0, _, _ => none
  | n + 1, v2, v3 =>
    (gI w [2, 8, 9, 10, 11] v1 3).bind fun x3 =>
    if x3 ≤ v3 then
      k44 v2
    else
      (ckC w famT v1).bind fun c5 =>
      (fX2_height N w v1 v3).bind fun x4 =>
      (gI w [2, 8, 9, 10, 11] v1 3).bind fun x6 =>
      if x6 = 0 then none else
      (some ((v2 ||| ((1 : Int32) <<< (((v3 + x4) - (v3 + x4) / x6 * x6) &&& 31))))).bind fun x7 =>
      (some (v3 + (1 : Int32))).bind fun x8 =>
      fX0_keepsAlone_13 N w o v1 k44 n x7 x8
def fX0_keepsAlone (N : Nat) (w : Wd) (o : Nat) (v1 : Nat) : Option (Int32) :=
  (ckC w famT v1).bind fun c2 =>
  (fX2_isSolo N w v1).bind fun x1 =>
  if x1 = 0 then
    some (0 : Int32)
  else
    fX0_keepsAlone_13 N w o v1
      (fun y9 =>
        (fJ7_bitCount N w y9).bind fun x10 =>
        (gI w [2, 8, 9, 10, 11] v1 3).bind fun x11 =>
        if x10 = x11 then
          some (1 : Int32)
        else
          some (0 : Int32))
      N (0 : Int32) (0 : Int32)

def fX0_stateOf_8 (N : Nat) (w : Wd) (o : Nat) (v1 : Nat) (v2 : Int32) (k58 : Int32 → Option (Int32)) : Nat → Int32 → Int32 → Option (Int32)
  | 0, _, _ => none
  | n + 1, v3, v4 =>
    if v2 ≤ v4 then
      k58 v3
    else
      (ckC w famT v1).bind fun c3 =>
      (fX2_height N w v1 v4).bind fun x2 =>
      if x2 ≤ 0 then
        (some (v4 + (1 : Int32))).bind fun x4 =>
        fX0_stateOf_8 N w o v1 v2 k58 n v3 x4
      else
        (ckC w famT v1).bind fun c6 =>
        (fX2_height N w v1 v4).bind fun x5 =>
        if (v4 + x5) < v2 then
          (some (v4 + (1 : Int32))).bind fun x7 =>
          fX0_stateOf_8 N w o v1 v2 k58 n v3 x7
        else
          (ckC w famT v1).bind fun c9 =>
          (fX2_height N w v1 v4).bind fun x8 =>
          (some ((v3 ||| ((1 : Int32) <<< (((v4 + x8) - v2) &&& 31))))).bind fun x10 =>
          (some (v4 + (1 : Int32))).bind fun x11 =>
          fX0_stateOf_8 N w o v1 v2 k58 n x10 x11
def fX0_stateOf (N : Nat) (w : Wd) (o : Nat) (v1 : Nat) (v2 : Int32) : Option (Int32) :=
  (some ((v2 - (9 : Int32)))).bind fun x1 =>
  fX0_stateOf_8 N w o v1 v2
    (fun y12 =>
      some y12)
    N (0 : Int32) x1

def fX0_has (N : Nat) (w : Wd) (v0 : Int32) (v1 : Int32) : Option (Int32) :=
  if ((v0 >>> (v1 &&& 31)) &&& (1 : Int32)) = (1 : Int32) then
    some (1 : Int32)
  else
    some (0 : Int32)

def fX0_mayThrow (N : Nat) (w : Wd) (v0 : Int32) (v1 : Int32) : Option (Int32) :=
  if (v0 &&& (1 : Int32)) = 0 then
    if v1 = 0 then
      some (1 : Int32)
    else
      some (0 : Int32)
  else
    if v1 ≤ 0 then
      some (0 : Int32)
    else
      (fX0_has N w v0 v1).bind fun x1 =>
      if x1 = 0 then
        some (1 : Int32)
      else
        some (0 : Int32)

def fX0_thrown (N : Nat) (w : Wd) (v0 : Int32) (v1 : Int32) : Option (Int32) :=
  if v1 = 0 then
    some (v0 >>> ((1 : Int32) &&& 31))
  else
    some ((v0 ||| ((1 : Int32) <<< (v1 &&& 31))) >>> ((1 : Int32) &&& 31))

def fX0_stepFrom_2 (N : Nat) (w : Wd) (o : Nat) (v1 : Int32) (v2 : Int32) (k30 : Int32 → Option (Int32)) (k38 : Option (Int32)) : Nat → Int32 → Option (Int32)
  | 0, _ => none
  | n + 1, v3 =>
    if (9 : Int32) < v3 then
      k38
    else
      (fX0_mayThrow N w v1 v3).bind fun x1 =>
      if x1 = 0 then
        (some (v3 + (1 : Int32))).bind fun x2 =>
        fX0_stepFrom_2 N w o v1 v2 k30 k38 n x2
      else
        (gR w [0] o 12).bind fun x3 =>
        (fX0_thrown N w v1 v3).bind fun x4 =>
        (aI 0 w x3 x4).bind fun x5 =>
        if x5 = v2 then
          k30 v3
        else
          (some (v3 + (1 : Int32))).bind fun x6 =>
          fX0_stepFrom_2 N w o v1 v2 k30 k38 n x6
def fX0_stepFrom (N : Nat) (w : Wd) (o : Nat) (v1 : Int32) (v2 : Int32) : Option (Int32) :=
  fX0_stepFrom_2 N w o v1 v2
    (fun y7 =>
      some y7)
    (
      some (-1 : Int32))
    N (0 : Int32)

def fX0_nears (N : Nat) (w : Wd) (o : Nat) (v1 : Int32) (v2 : Int32) : Option (Int32 × Wd) :=
  (gR w [0] o 12).bind fun x1 =>
  (sI 0 w x1 v1 v2).bind fun w2 =>
  some ((1 : Int32), w2)

def fX0_lays_2 (N : Nat) (o : Nat) (v1 : Int32) (k33 : Wd → Option (Wd)) : Nat → Int32 → Wd → Option (Wd)
  | 0, _, _ => none
  | n + 1, v2, w =>
    if (512 : Int32) ≤ v2 then
      k33 w
    else
      (gR w [0] o 12).bind fun x1 =>
      if v2 = v1 then
        (sI 0 w x1 v2 (0 : Int32)).bind fun w4 =>
        (some (v2 + (1 : Int32))).bind fun x5 =>
        fX0_lays_2 N o v1 k33 n x5 w4
      else
        (sI 0 w x1 v2 (1000000 : Int32)).bind fun w2 =>
        (some (v2 + (1 : Int32))).bind fun x3 =>
        fX0_lays_2 N o v1 k33 n x3 w2
def fX0_lays_46 (N : Nat) (o : Nat) (v3 : Int32) (k104 : Int32 → Wd → Option (Wd)) : Nat → Int32 → Int32 → Wd → Option (Wd)
  | 0, _, _, _ => none
  | n + 1, v2, v4, w =>
    if (512 : Int32) ≤ v4 then
      k104 v2 w
    else
      (gR w [0] o 12).bind fun x7 =>
      (aI 0 w x7 v4).bind fun x8 =>
      if x8 = (1000000 : Int32) then
        (fX0_stepFrom N w o v4 v3).bind fun x11 =>
        if x11 = (-1 : Int32) then
          (some ((v2 ||| (0 : Int32)))).bind fun x12 =>
          (some (v4 + (1 : Int32))).bind fun x13 =>
          fX0_lays_46 N o v3 k104 n x12 x13 w
        else
          (fX0_nears N w o v4 (v3 + (1 : Int32))).bind fun x14 =>
          if x14.1 = 0 then
            (some ((v2 ||| (0 : Int32)))).bind fun x15 =>
            (some (v4 + (1 : Int32))).bind fun x16 =>
            fX0_lays_46 N o v3 k104 n x15 x16 x14.2
          else
            (some ((v2 ||| (1 : Int32)))).bind fun x17 =>
            (some (v4 + (1 : Int32))).bind fun x18 =>
            fX0_lays_46 N o v3 k104 n x17 x18 x14.2
      else
        (some ((v2 ||| (0 : Int32)))).bind fun x9 =>
        (some (v4 + (1 : Int32))).bind fun x10 =>
        fX0_lays_46 N o v3 k104 n x9 x10 w
def fX0_lays_37 (N : Nat) (o : Nat) (k110 : Wd → Option (Wd)) : Nat → Int32 → Int32 → Wd → Option (Wd)
  | 0, _, _, _ => none
  | n + 1, v2, v3, w =>
    if v2 = 0 then
      k110 w
    else
      fX0_lays_46 N o v3
        (fun y19 w20 =>
          (some (v3 + (1 : Int32))).bind fun x21 =>
          fX0_lays_37 N o k110 n y19 x21 w20)
        N (0 : Int32) (0 : Int32) w
def fX0_lays (N : Nat) (w : Wd) (o : Nat) (v1 : Int32) : Option (Wd) :=
  fX0_lays_2 N o v1
    (fun w6 =>
      fX0_lays_37 N o
        (fun w22 =>
          some w22)
        N (1 : Int32) (0 : Int32) w6)
    N (0 : Int32) w

def fX0_asksChange (N : Nat) (w : Wd) (o : Nat) (v1 : Int32) (v2 : Int32) (v3 : Int32) (v4 : Int32) : Option (Int32 × Wd) :=
  (fX0_isThrow N w o v1 v2).bind fun x1 =>
  if x1 = 0 then
    some ((-2 : Int32), w)
  else
    (fX0_isThrow N w o v3 v4).bind fun x2 =>
    if x2 = 0 then
      some ((-2 : Int32), w)
    else
      (gR w [0] o 0).bind fun x3 =>
      (gR w [1] x3 7).bind fun x4 =>
      (aR 5 w x4 v1).bind fun x5 =>
      (fX0_keepsAlone N w o x5).bind fun x6 =>
      if x6 = 0 then
        some ((-1 : Int32), w)
      else
        (gR w [0] o 0).bind fun x7 =>
        (gR w [1] x7 7).bind fun x8 =>
        (aR 5 w x8 v3).bind fun x9 =>
        (fX0_keepsAlone N w o x9).bind fun x10 =>
        if x10 = 0 then
          some ((-1 : Int32), w)
        else
          (gR w [0] o 0).bind fun x11 =>
          (gR w [1] x11 7).bind fun x12 =>
          (aR 5 w x12 v1).bind fun x13 =>
          (fX0_stateOf N w o x13 v2).bind fun x14 =>
          (pF w [0] o 13 (.int x14)).bind fun w15 =>
          (gR w15 [0] o 0).bind fun x16 =>
          (gR w15 [1] x16 7).bind fun x17 =>
          (aR 5 w15 x17 v3).bind fun x18 =>
          (fX0_stateOf N w15 o x18 v4).bind fun x19 =>
          (fX0_lays N w15 o x19).bind fun w20 =>
          (gR w20 [0] o 12).bind fun x21 =>
          (gI w20 [0] o 13).bind fun x22 =>
          (aI 0 w20 x21 x22).bind fun x23 =>
          if x23 = (1000000 : Int32) then
            some ((-1 : Int32), w20)
          else
            some ((0 : Int32), w20)

def fX0_isSlot (N : Nat) (w : Wd) (v0 : Int32) : Option (Int32) :=
  (fX0_isIn N w v0.toInt64 (0 : Int64) (3 : Int64)).bind fun x1 =>
  if x1 = 0 ∨ x1 = 1 then some x1 else none

def fX4_size (N : Nat) (w : Wd) (o : Nat) : Option (Int32) :=
  (gN w [4] o 0).bind fun x1 =>
  (isA 2 w x1).bind fun x2 =>
  if x2 = 0 then
    (gN w [4] o 0).bind fun x3 =>
    (isA 4 w x3).bind fun x4 =>
    if x4 = 0 then
      (gN w [4] o 0).bind fun x5 =>
      (isA 0 w x5).bind fun x6 =>
      if x6 = 0 then
        (gN w [4] o 0).bind fun x7 =>
        (asA 1 w x7).bind fun x8 =>
        (aLen w x8).bind fun x9 =>
        some x9
      else
        (gN w [4] o 0).bind fun x10 =>
        (asA 0 w x10).bind fun x11 =>
        (aLen w x11).bind fun x12 =>
        some x12
    else
      (gN w [4] o 0).bind fun x13 =>
      (asA 4 w x13).bind fun x14 =>
      (aLen w x14).bind fun x15 =>
      some x15
  else
    (gN w [4] o 0).bind fun x16 =>
    (asA 2 w x16).bind fun x17 =>
    (aLen w x17).bind fun x18 =>
    some x18

def fX4_at (N : Nat) (w : Wd) (o : Nat) (v1 : Int32) : Option (Int64) :=
  (gN w [4] o 0).bind fun x1 =>
  (isA 2 w x1).bind fun x2 =>
  if x2 = 0 then
    (gN w [4] o 0).bind fun x3 =>
    (isA 4 w x3).bind fun x4 =>
    if x4 = 0 then
      (gN w [4] o 0).bind fun x5 =>
      (isA 0 w x5).bind fun x6 =>
      if x6 = 0 then
        (gN w [4] o 0).bind fun x7 =>
        (asA 1 w x7).bind fun x8 =>
        (aL w x8 v1).bind fun x9 =>
        some x9
      else
        (gN w [4] o 0).bind fun x10 =>
        (asA 0 w x10).bind fun x11 =>
        (aI 0 w x11 v1).bind fun x12 =>
        some x12.toInt64
    else
      (gN w [4] o 0).bind fun x13 =>
      (asA 4 w x13).bind fun x14 =>
      (aI 4 w x14 v1).bind fun x15 =>
      some x15.toInt64
  else
    (gN w [4] o 0).bind fun x16 =>
    (asA 2 w x16).bind fun x17 =>
    (aI 2 w x17 v1).bind fun x18 =>
    some x18.toInt64

def fX1_init (N : Nat) (w : Wd) (nx : Nat) (o : Nat) : Option (Wd × Nat) :=
  (pF w [1] o 4 (.int (9 : Int32))).bind fun w2 =>
  (nwQ 5 6 w2 nx (6 : Int32)).bind fun w3 =>
  (pF w3 [1] o 7 (.ref nx)).bind fun w4 =>
  (nwA 0 6 w4 (nx + 1) (6 : Int32)).bind fun w5 =>
  (pF w5 [1] o 8 (.ref (nx + 1))).bind fun w6 =>
  (nwA 0 6 w6 (nx + 2) (6 : Int32)).bind fun w7 =>
  (pF w7 [1] o 9 (.ref (nx + 2))).bind fun w8 =>
  (nwA 0 8 w8 (nx + 3) (8 : Int32)).bind fun w9 =>
  (pF w9 [1] o 10 (.ref (nx + 3))).bind fun w10 =>
  (nwA 0 8 w10 (nx + 4) (8 : Int32)).bind fun w11 =>
  (pF w11 [1] o 11 (.ref (nx + 4))).bind fun w12 =>
  (nwA 0 8 w12 (nx + 5) (8 : Int32)).bind fun w13 =>
  (pF w13 [1] o 12 (.ref (nx + 5))).bind fun w14 =>
  some (w14, (nx + 6))

def fX2_init (N : Nat) (w : Wd) (nx : Nat) (o : Nat) (v1 : Int32) : Option (Wd × Nat) :=
  (nwA 0 8 w nx (8 : Int32)).bind fun w2 =>
  (pF w2 [2, 8, 9, 10, 11] o 1 (.ref nx)).bind fun w3 =>
  (nwA 0 8 w3 (nx + 1) (8 : Int32)).bind fun w4 =>
  (pF w4 [2, 8, 9, 10, 11] o 2 (.ref (nx + 1))).bind fun w5 =>
  (pF w5 [2, 8, 9, 10, 11] o 3 (.int (1 : Int32))).bind fun w6 =>
  (pF w6 [2, 8, 9, 10, 11] o 0 (.int v1)).bind fun w7 =>
  (gR w7 [2, 8, 9, 10, 11] o 2).bind fun x8 =>
  (sI 0 w7 x8 (0 : Int32) v1).bind fun w9 =>
  some (w9, (nx + 2))

def fX2_copy (N : Nat) (w : Wd) (nx : Nat) (o : Nat) : Option (Nat × Wd × Nat) :=
  (some (wup w nx (.inr (2, newX2)))).bind fun w1 =>
  (gI w1 [2, 8, 9, 10, 11] o 0).bind fun x2 =>
  (fX2_init N w1 (nx + 1) nx x2).bind fun w3 =>
  some (nx, w3.1, w3.2)

def fX8_init (N : Nat) (w : Wd) (nx : Nat) (o : Nat) (v1 : Int32) : Option (Wd × Nat) :=
  (fX2_init N w nx o v1).bind fun w1 =>
  some (w1.1, w1.2)

def fX8_copy (N : Nat) (w : Wd) (nx : Nat) (o : Nat) : Option (Nat × Wd × Nat) :=
  (some (wup w nx (.inr (8, newX8)))).bind fun w1 =>
  (gI w1 [2, 8, 9, 10, 11] o 0).bind fun x2 =>
  (fX8_init N w1 (nx + 1) nx x2).bind fun w3 =>
  some (nx, w3.1, w3.2)

def fX9_init (N : Nat) (w : Wd) (nx : Nat) (o : Nat) (v1 : Int32) : Option (Wd × Nat) :=
  (fX2_init N w nx o v1).bind fun w1 =>
  some (w1.1, w1.2)

def fX9_copy (N : Nat) (w : Wd) (nx : Nat) (o : Nat) : Option (Nat × Wd × Nat) :=
  (some (wup w nx (.inr (9, newX9)))).bind fun w1 =>
  (gI w1 [2, 8, 9, 10, 11] o 0).bind fun x2 =>
  (fX9_init N w1 (nx + 1) nx x2).bind fun w3 =>
  some (nx, w3.1, w3.2)

def fX10_init (N : Nat) (w : Wd) (nx : Nat) (o : Nat) (v1 : Int32) : Option (Wd × Nat) :=
  (fX2_init N w nx o v1).bind fun w1 =>
  some (w1.1, w1.2)

def fX10_copy (N : Nat) (w : Wd) (nx : Nat) (o : Nat) : Option (Nat × Wd × Nat) :=
  (some (wup w nx (.inr (10, newX10)))).bind fun w1 =>
  (gI w1 [2, 8, 9, 10, 11] o 0).bind fun x2 =>
  (fX10_init N w1 (nx + 1) nx x2).bind fun w3 =>
  some (nx, w3.1, w3.2)

def fX11_init (N : Nat) (w : Wd) (nx : Nat) (o : Nat) (v1 : Int32) : Option (Wd × Nat) :=
  (fX2_init N w nx o v1).bind fun w1 =>
  some (w1.1, w1.2)

def fX11_copy (N : Nat) (w : Wd) (nx : Nat) (o : Nat) : Option (Nat × Wd × Nat) :=
  (some (wup w nx (.inr (11, newX11)))).bind fun w1 =>
  (gI w1 [2, 8, 9, 10, 11] o 0).bind fun x2 =>
  (fX11_init N w1 (nx + 1) nx x2).bind fun w3 =>
  some (nx, w3.1, w3.2)

def dX2_copy (N : Nat) (w : Wd) (nx c o : Nat) : Option (Nat × Wd × Nat) :=
  if c = 8 then fX8_copy N w nx o else if c = 9 then fX9_copy N w nx o else if c = 10 then fX10_copy N w nx o else if c = 11 then fX11_copy N w nx o else fX2_copy N w nx o

def fX2_be (N : Nat) (w : Wd) (o : Nat) (v1 : Nat) : Option (Wd) :=
  (gR w [2, 8, 9, 10, 11] v1 1).bind fun x1 =>
  (gR w [2, 8, 9, 10, 11] o 1).bind fun x2 =>
  (cpI 0 w x1 (0 : Int32) x2 (0 : Int32) (8 : Int32)).bind fun w3 =>
  (gR w3 [2, 8, 9, 10, 11] v1 2).bind fun x4 =>
  (gR w3 [2, 8, 9, 10, 11] o 2).bind fun x5 =>
  (cpI 0 w3 x4 (0 : Int32) x5 (0 : Int32) (8 : Int32)).bind fun w6 =>
  (gI w6 [2, 8, 9, 10, 11] v1 3).bind fun x7 =>
  (pF w6 [2, 8, 9, 10, 11] o 3 (.int x7)).bind fun w8 =>
  some w8

def fX1_copy_133 (N : Nat) (o : Nat) (v1 : Nat) (k177 : Wd → Nat → Option (Nat × Wd × Nat)) : Nat → Int32 → Wd → Nat → Option (Nat × Wd × Nat)
  | 0, _, _, _ => none
  | n + 1, v2, w, nx =>
    (gI w [1] o 0).bind fun x30 =>
    if x30 ≤ v2 then
      k177 w nx
    else
      (gR w [1] v1 7).bind fun x31 =>
      (gR w [1] o 7).bind fun x32 =>
      (aR 5 w x32 v2).bind fun x33 =>
      (ckC w famT x33).bind fun c35 =>
      (dX2_copy N w nx c35 x33).bind fun x34 =>
      (sR 5 famT x34.2.1 x31 v2 x34.1).bind fun w36 =>
      (gR w36 [1] v1 7).bind fun x37 =>
      (aR 5 w36 x37 v2).bind fun x38 =>
      (gR w36 [1] o 7).bind fun x39 =>
      (aR 5 w36 x39 v2).bind fun x40 =>
      (ckC w36 famT x38).bind fun c42 =>
      (fX2_be N w36 x38 x40).bind fun w41 =>
      (some (v2 + (1 : Int32))).bind fun x43 =>
      fX1_copy_133 N o v1 k177 n x43 w41 x34.2.2
def fX1_copy (N : Nat) (w : Wd) (nx : Nat) (o : Nat) : Option (Nat × Wd × Nat) :=
  (some (wup w nx (.inr (1, newX1)))).bind fun w1 =>
  (fX1_init N w1 (nx + 1) nx).bind fun w2 =>
  (gI w2.1 [1] o 0).bind fun x3 =>
  (pF w2.1 [1] nx 0 (.int x3)).bind fun w4 =>
  (gI w4 [1] o 1).bind fun x5 =>
  (pF w4 [1] nx 1 (.int x5)).bind fun w6 =>
  (gI w6 [1] o 2).bind fun x7 =>
  (pF w6 [1] nx 2 (.int x7)).bind fun w8 =>
  (gI w8 [1] o 3).bind fun x9 =>
  (pF w8 [1] nx 3 (.int x9)).bind fun w10 =>
  (gI w10 [1] o 4).bind fun x11 =>
  (pF w10 [1] nx 4 (.int x11)).bind fun w12 =>
  (gI w12 [1] o 5).bind fun x13 =>
  (pF w12 [1] nx 5 (.int x13)).bind fun w14 =>
  (gR w14 [1] o 8).bind fun x15 =>
  (gR w14 [1] nx 8).bind fun x16 =>
  (cpI 0 w14 x15 (0 : Int32) x16 (0 : Int32) (6 : Int32)).bind fun w17 =>
  (gR w17 [1] o 9).bind fun x18 =>
  (gR w17 [1] nx 9).bind fun x19 =>
  (cpI 0 w17 x18 (0 : Int32) x19 (0 : Int32) (6 : Int32)).bind fun w20 =>
  (gR w20 [1] o 10).bind fun x21 =>
  (gR w20 [1] nx 10).bind fun x22 =>
  (cpI 0 w20 x21 (0 : Int32) x22 (0 : Int32) (8 : Int32)).bind fun w23 =>
  (gR w23 [1] o 11).bind fun x24 =>
  (gR w23 [1] nx 11).bind fun x25 =>
  (cpI 0 w23 x24 (0 : Int32) x25 (0 : Int32) (8 : Int32)).bind fun w26 =>
  (gR w26 [1] o 12).bind fun x27 =>
  (gR w26 [1] nx 12).bind fun x28 =>
  (cpI 0 w26 x27 (0 : Int32) x28 (0 : Int32) (8 : Int32)).bind fun w29 =>
  fX1_copy_133 N o nx
    (fun w44 y45 =>
      some (nx, w44, y45))
    7 (0 : Int32) w29 w2.2

def fX0_back (N : Nat) (w : Wd) (nx : Nat) (o : Nat) (v1 : Int32) : Option (Int32 × Wd × Nat) :=
  (fX0_isIn N w v1.toInt64 (0 : Int64) (2 : Int64)).bind fun x1 =>
  if x1 = 0 then
    some ((-2 : Int32), w, nx)
  else
    (gR w [0] o 23).bind fun x2 =>
    (aN 7 w x2 v1).bind fun x3 =>
    if x3 = none then
      some ((-6 : Int32), w, nx)
    else
      (gR w [0] o 23).bind fun x4 =>
      (aR 7 w x4 v1).bind fun x5 =>
      (ckC w [1] x5).bind fun c7 =>
      (fX1_copy N w nx x5).bind fun x6 =>
      (pF x6.2.1 [0] o 0 (.ref x6.1)).bind fun w8 =>
      some ((0 : Int32), w8, x6.2.2)

def fX0_from_11 (N : Nat) (w : Wd) (o : Nat) (v1 : Int32) (v2 : Int32) (v3 : Int32) (k38 : Int32 → Option (Int32)) (k52 : Option (Int32)) : Nat → Int32 → Option (Int32)
  | 0, _ => none
  | n + 1, v4 =>
    (gR w [0] o 0).bind fun x1 =>
    (gI w [1] x1 0).bind fun x2 =>
    if x2 ≤ v4 then
      k52
    else
      (gR w [0] o 0).bind fun x3 =>
      (ckC w [1] x3).bind fun c5 =>
      (fX1_isFrom N w x3 v4 v3 v1 v2).bind fun x4 =>
      if x4 = 0 then
        (some (v4 + (1 : Int32))).bind fun x6 =>
        fX0_from_11 N w o v1 v2 v3 k38 k52 n x6
      else
        k38 v4
def fX0_from_2 (N : Nat) (w : Wd) (o : Nat) (v1 : Int32) (v2 : Int32) (k38 : Int32 → Int32 → Option (Int32)) (k58 : Option (Int32)) : Nat → Int32 → Option (Int32)
  | 0, _ => none
  | n + 1, v3 =>
    if (9 : Int32) < v3 then
      k58
    else
      fX0_from_11 N w o v1 v2 v3
        (fun y7 =>
          k38 v3 y7)
        (
          (some (v3 + (1 : Int32))).bind fun x8 =>
          fX0_from_2 N w o v1 v2 k38 k58 n x8)
        N (0 : Int32)
def fX0_from (N : Nat) (w : Wd) (o : Nat) (v1 : Int32) (v2 : Int32) : Option (Int32) :=
  fX0_from_2 N w o v1 v2
    (fun y9 y10 =>
      some (((10 : Int32) * y9) + y10))
    (
      some v1)
    N (1 : Int32)

def fX2_set (N : Nat) (w : Wd) (o : Nat) (v1 : Int32) (v2 : Int32) (v3 : Int32) : Option (Wd) :=
  (gR w [2, 8, 9, 10, 11] o 1).bind fun x1 =>
  (sI 0 w x1 v1 v2).bind fun w2 =>
  (gR w2 [2, 8, 9, 10, 11] o 2).bind fun x3 =>
  (sI 0 w2 x3 v1 v3).bind fun w4 =>
  some w4

def fX0_backwards_68 (N : Nat) (o : Nat) (v1 : Int32) (v2 : Int32) (k98 : Wd → Option (Int32 × Wd)) : Nat → Int32 → Wd → Option (Int32 × Wd)
  | 0, _, _ => none
  | n + 1, v3, w =>
    if v1 ≤ v3 then
      k98 w
    else
      (gR w [0] o 17).bind fun x10 =>
      (fX0_from N w o v2 (v1 - v3)).bind fun x11 =>
      (sI 0 w x10 (((8 : Int32) * v2) + v3) x11).bind fun w12 =>
      (some (v3 + (1 : Int32))).bind fun x13 =>
      fX0_backwards_68 N o v1 v2 k98 n x13 w12
def fX0_backwards_55 (N : Nat) (o : Nat) (v1 : Int32) (k104 : Wd → Option (Int32 × Wd)) : Nat → Int32 → Wd → Option (Int32 × Wd)
  | 0, _, _ => none
  | n + 1, v2, w =>
    (gR w [0] o 0).bind fun x8 =>
    (gI w [1] x8 0).bind fun x9 =>
    if x9 ≤ v2 then
      k104 w
    else
      fX0_backwards_68 N o v1 v2
        (fun w14 =>
          (some (v2 + (1 : Int32))).bind fun x15 =>
          fX0_backwards_55 N o v1 k104 n x15 w14)
        N (0 : Int32) w
def fX0_backwards_119 (N : Nat) (o : Nat) (v1 : Int32) (v2 : Int32) (k171 : Wd → Option (Int32 × Wd)) : Nat → Int32 → Wd → Option (Int32 × Wd)
  | 0, _, _ => none
  | n + 1, v3, w =>
    if v1 ≤ v3 then
      k171 w
    else
      (gR w [0] o 0).bind fun x19 =>
      (gR w [1] x19 7).bind fun x20 =>
      (aR 5 w x20 v2).bind fun x21 =>
      (gR w [0] o 17).bind fun x22 =>
      (aI 0 w x22 (((8 : Int32) * v2) + v3)).bind fun x23 =>
      (gR w [0] o 17).bind fun x24 =>
      (aI 0 w x24 (((8 : Int32) * v2) + v3)).bind fun x25 =>
      (ckC w famT x21).bind fun c27 =>
      (fX2_set N w x21 v3 (x23 / (10 : Int32)) (x25 - x25 / (10 : Int32) * (10 : Int32))).bind fun w26 =>
      (some (v3 + (1 : Int32))).bind fun x28 =>
      fX0_backwards_119 N o v1 v2 k171 n x28 w26
def fX0_backwards_106 (N : Nat) (o : Nat) (v1 : Int32) (k190 : Wd → Option (Int32 × Wd)) : Nat → Int32 → Wd → Option (Int32 × Wd)
  | 0, _, _ => none
  | n + 1, v2, w =>
    (gR w [0] o 0).bind fun x17 =>
    (gI w [1] x17 0).bind fun x18 =>
    if x18 ≤ v2 then
      k190 w
    else
      fX0_backwards_119 N o v1 v2
        (fun w29 =>
          (gR w29 [0] o 0).bind fun x30 =>
          (gR w29 [1] x30 7).bind fun x31 =>
          (aR 5 w29 x31 v2).bind fun x32 =>
          (pF w29 [2, 8, 9, 10, 11] x32 3 (.int v1)).bind fun w33 =>
          (some (v2 + (1 : Int32))).bind fun x34 =>
          fX0_backwards_106 N o v1 k190 n x34 w33)
        N (0 : Int32) w
def fX0_backwards (N : Nat) (w : Wd) (o : Nat) : Option (Int32 × Wd) :=
  (fX0_isCity N w o).bind fun x1 =>
  if x1 = 0 then
    some ((-2 : Int32), w)
  else
    (gR w [0] o 0).bind fun x2 =>
    (ckC w [1] x2).bind fun c4 =>
    (fX1_round N w x2).bind fun x3 =>
    if x3 ≤ (8 : Int32) then
      (gR w [0] o 0).bind fun x5 =>
      (ckC w [1] x5).bind fun c7 =>
      (fX1_keeps N w x5).bind fun x6 =>
      if x6 = 0 then
        some ((-1 : Int32), w)
      else
        fX0_backwards_55 N o x3
          (fun w16 =>
            fX0_backwards_106 N o x3
              (fun w35 =>
                some (x3, w35))
              N (0 : Int32) w16)
          N (0 : Int32) w
    else
      (gR w [0] o 0).bind fun x36 =>
      (ckC w [1] x36).bind fun c38 =>
      (fX1_keeps N w x36).bind fun x37 =>
      if x37 = 0 then
        some ((-1 : Int32), w)
      else
        some ((-5 : Int32), w)

def fX0_ball_45 (N : Nat) (o : Nat) (v3 : Int32) (v4 : Int32) (k64 : Wd → Option (Int32 × Wd)) : Nat → Int32 → Wd → Option (Int32 × Wd)
  | 0, _, _ => none
  | n + 1, v6, w =>
    if v3 ≤ v6 then
      k64 w
    else
      (gR w [0] o 6).bind fun x4 =>
      (ckC w [3] x4).bind fun c6 =>
      (fX3_goes N w x4).bind fun w5 =>
      (some (v6 + (1 : Int32))).bind fun x7 =>
      fX0_ball_45 N o v3 v4 k64 n x7 w5
def fX0_ball (N : Nat) (w : Wd) (o : Nat) (v1 : Int32) (v2 : Int32) (v3 : Int32) (v4 : Int32) : Option (Int32 × Wd) :=
  (fX0_isIn N w v3.toInt64 (0 : Int64) (200 : Int64)).bind fun x1 =>
  if x1 = 0 then
    some ((-2 : Int32), w)
  else
    (fX0_isIn N w v4.toInt64 (0 : Int64) (1 : Int64)).bind fun x2 =>
    if x2 = 0 then
      some ((-2 : Int32), w)
    else
      (fX0_asksBall N w o v1 v2).bind fun x3 =>
      if 0 ≤ x3.1 then
        fX0_ball_45 N o v3 v4
          (fun w8 =>
            if v4 = 0 then
              (gR w8 [0] o 6).bind fun x11 =>
              (gI w8 [3] x11 0).bind fun x12 =>
              some (x12, w8)
            else
              (gR w8 [0] o 6).bind fun x9 =>
              (gI w8 [3] x9 1).bind fun x10 =>
              some (x10, w8))
          N (0 : Int32) x3.2
      else
        some (x3.1, x3.2)

def fX1_balls_17 (N : Nat) (w : Wd) (o : Nat) (v1 : Int32) (v3 : Int32) (k46 : Int32 → Option (Int32)) : Nat → Int32 → Int32 → Option (Int32)
  | 0, _, _ => none
  | n + 1, v2, v4 =>
    (gI w [1] o 0).bind fun x2 =>
    if x2 ≤ v4 then
      k46 v2
    else
      (gR w [1] o 7).bind fun x3 =>
      (aR 5 w x3 v4).bind fun x4 =>
      (ckC w famT x4).bind fun c6 =>
      (fX2_height N w x4 v3).bind fun x5 =>
      (some ((v2 + x5))).bind fun x7 =>
      (some (v4 + (1 : Int32))).bind fun x8 =>
      fX1_balls_17 N w o v1 v3 k46 n x7 x8
def fX1_balls_9 (N : Nat) (w : Wd) (o : Nat) (v1 : Int32) (k52 : Int32 → Option (Int32)) : Nat → Int32 → Int32 → Option (Int32)
  | 0, _, _ => none
  | n + 1, v2, v3 =>
    if v1 ≤ v3 then
      k52 v2
    else
      fX1_balls_17 N w o v1 v3
        (fun y9 =>
          (some (v3 + (1 : Int32))).bind fun x10 =>
          fX1_balls_9 N w o v1 k52 n y9 x10)
        N v2 (0 : Int32)
def fX1_balls (N : Nat) (w : Wd) (o : Nat) : Option (Int32) :=
  (fX1_round N w o).bind fun x1 =>
  fX1_balls_9 N w o x1
    (fun y11 =>
      if x1 = 0 then none else
      some (y11 / x1))
    N (0 : Int32) (0 : Int32)

def fX0_balls (N : Nat) (w : Wd) (o : Nat) : Option (Int32) :=
  (fX0_isCity N w o).bind fun x1 =>
  if x1 = 0 then
    some (-2 : Int32)
  else
    (gR w [0] o 0).bind fun x2 =>
    (ckC w [1] x2).bind fun c4 =>
    (fX1_keeps N w x2).bind fun x3 =>
    if x3 = 0 then
      some (-1 : Int32)
    else
      (gR w [0] o 0).bind fun x5 =>
      (ckC w [1] x5).bind fun c7 =>
      (fX1_balls N w x5).bind fun x6 =>
      some x6

def fX12_init (N : Nat) (w : Wd) (o : Nat) (v1 : Int64) : Option (Wd) :=
  (pF w [12] o 0 (.long v1)).bind fun w2 =>
  some w2

def fX12_next (N : Nat) (w : Wd) (o : Nat) : Option (Int32 × Wd) :=
  (gL w [12] o 0).bind fun x1 =>
  (pF w [12] o 0 (.long ((((1103515245 : Int64) * x1) + (12345 : Int64)) - (((1103515245 : Int64) * x1) + (12345 : Int64)) / (2147483648 : Int64) * (2147483648 : Int64)))).bind fun w2 =>
  (gL w2 [12] o 0).bind fun x3 =>
  some (((x3 / (65536 : Int64)) - (x3 / (65536 : Int64)) / (100 : Int64) * (100 : Int64)).toInt32, w2)

def fX0_blows_2_138 (N : Nat) (w : Wd) (o : Nat) (v3 : Int32) (v4 : Nat) (v5 : Int32) (v6 : Int32) : Option (Wd) :=
  if v6 = 0 then
    some w
  else
    (gR w [0] o 18).bind fun x10 =>
    (ckC w famT v4).bind fun c12 =>
    (fX2_to N w v4 v3).bind fun x11 =>
    (sI 3 w x10 (((10 : Int32) * x11) + ((v3 + v5) - (v3 + v5) / (10 : Int32) * (10 : Int32))) (1 : Int32)).bind fun w13 =>
    some w13
def fX0_blows_2_125 (N : Nat) (w : Wd) (o : Nat) (v3 : Int32) (v4 : Nat) (v5 : Int32) (v6 : Int32) (s0 : Nat) (s1 : Int32) : Option (Wd) :=
  (pF w [0] s0 20 (.int s1)).bind fun w25 =>
  (gI w25 [0] o 19).bind fun x26 =>
  (pF w25 [0] o 19 (.int (x26 + (1 : Int32)))).bind fun w27 =>
  fX0_blows_2_138 N w27 o v3 v4 v5 v6
def fX0_blows_2_106 (N : Nat) (w : Wd) (o : Nat) (v3 : Int32) (v4 : Nat) (v5 : Int32) (v6 : Int32) (s0 : Nat) (s1 : Int32) : Option (Wd) :=
  (pF w [0] s0 21 (.int s1)).bind fun w22 =>
  (gI w22 [0] o 19).bind fun x23 =>
  if x23 = 0 then
    fX0_blows_2_125 N w22 o v3 v4 v5 v6 o v3
  else
    (gI w22 [0] o 20).bind fun x24 =>
    fX0_blows_2_125 N w22 o v3 v4 v5 v6 o x24
def fX0_blows_2 (N : Nat) (w : Wd) (o : Nat) (v1 : Nat) (v2 : Int32) (v3 : Int32) : Option (Wd) :=
  (gR w [0] o 0).bind fun x1 =>
  (gR w [1] x1 7).bind fun x2 =>
  (aR 5 w x2 v2).bind fun x3 =>
  (ckC w famT x3).bind fun c5 =>
  (fX2_height N w x3 v3).bind fun x4 =>
  (gR w [0] o 18).bind fun x6 =>
  (aI 3 w x6 (((10 : Int32) * v2) + (v3 - v3 / (10 : Int32) * (10 : Int32)))).bind fun x7 =>
  (gR w [0] o 18).bind fun x8 =>
  (sI 3 w x8 (((10 : Int32) * v2) + (v3 - v3 / (10 : Int32) * (10 : Int32))) (0 : Int32)).bind fun w9 =>
  if x4 = 0 then
    some w9
  else
    if x7 = 0 then
      (gR w9 [0] o 0).bind fun x14 =>
      (gI w9 [1] x14 4).bind fun x15 =>
      if x4 < x15 then
        fX0_blows_2_138 N w9 o v3 x3 x4 x7
      else
        (ckC w9 [12] v1).bind fun c17 =>
        (fX12_next N w9 v1).bind fun x16 =>
        (gR x16.2 [0] o 0).bind fun x18 =>
        (gI x16.2 [1] x18 5).bind fun x19 =>
        if x19 ≤ x16.1 then
          fX0_blows_2_138 N x16.2 o v3 x3 x4 x7
        else
          (gI x16.2 [0] o 19).bind fun x20 =>
          if x20 = 0 then
            fX0_blows_2_106 N x16.2 o v3 x3 x4 (1 : Int32) o v2
          else
            (gI x16.2 [0] o 21).bind fun x21 =>
            fX0_blows_2_106 N x16.2 o v3 x3 x4 (1 : Int32) o x21
    else
      fX0_blows_2_138 N w9 o v3 x3 x4 x7

def fX0_blows_13 (N : Nat) (o : Nat) (v3 : Int32) (v4 : Nat) (k37 : Wd → Nat → Option (Wd × Nat)) : Nat → Int32 → Wd → Nat → Option (Wd × Nat)
  | 0, _, _, _ => none
  | n + 1, v5, w, nx =>
    (gR w [0] o 18).bind fun x3 =>
    (aLen w x3).bind fun x4 =>
    if x4 ≤ v5 then
      k37 w nx
    else
      (gR w [0] o 18).bind fun x5 =>
      (sI 3 w x5 v5 (0 : Int32)).bind fun w6 =>
      (some (v5 + (1 : Int32))).bind fun x7 =>
      fX0_blows_13 N o v3 v4 k37 n x7 w6 nx
def fX0_blows_64 (N : Nat) (o : Nat) (v3 : Int32) (v4 : Nat) (v5 : Int32) (k92 : Wd → Nat → Option (Wd × Nat)) : Nat → Int32 → Wd → Nat → Option (Wd × Nat)
  | 0, _, _, _ => none
  | n + 1, v6, w, nx =>
    (gR w [0] o 0).bind fun x13 =>
    (gI w [1] x13 0).bind fun x14 =>
    if x14 ≤ v6 then
      k92 w nx
    else
      (fX0_blows_2 N w o v4 v6 v5).bind fun w15 =>
      (some (v6 + (1 : Int32))).bind fun x16 =>
      fX0_blows_64 N o v3 v4 v5 k92 n x16 w15 nx
def fX0_blows_55 (N : Nat) (o : Nat) (v3 : Int32) (v4 : Nat) (k98 : Wd → Nat → Option (Wd × Nat)) : Nat → Int32 → Wd → Nat → Option (Wd × Nat)
  | 0, _, _, _ => none
  | n + 1, v5, w, nx =>
    if v3 ≤ v5 then
      k98 w nx
    else
      fX0_blows_64 N o v3 v4 v5
        (fun w17 y18 =>
          (some (v5 + (1 : Int32))).bind fun x19 =>
          fX0_blows_55 N o v3 v4 k98 n x19 w17 y18)
        N (0 : Int32) w nx
def fX0_blows (N : Nat) (w : Wd) (nx : Nat) (o : Nat) (v1 : Int64) (v3 : Int32) : Option (Wd × Nat) :=
  (some (wup w nx (.inr (12, newX12)))).bind fun w1 =>
  (fX12_init N w1 nx v1).bind fun w2 =>
  fX0_blows_13 N o v3 nx
    (fun w8 y9 =>
      (pF w8 [0] o 19 (.int (0 : Int32))).bind fun w10 =>
      (pF w10 [0] o 20 (.int (-1 : Int32))).bind fun w11 =>
      (pF w11 [0] o 21 (.int (-1 : Int32))).bind fun w12 =>
      fX0_blows_55 N o v3 nx
        (fun w20 y21 =>
          some (w20, y21))
        N (0 : Int32) w12 y9)
    N (0 : Int32) w2 (nx + 1)

def fX0_isOneOfTwo (N : Nat) (w : Wd) (v0 : Int32) : Option (Int32) :=
  (fX0_isIn N w v0.toInt64 (0 : Int64) (1 : Int64)).bind fun x1 =>
  if x1 = 0 ∨ x1 = 1 then some x1 else none

def fX0_busiest_45 (N : Nat) (w : Wd) (o : Nat) (v1 : Int32) (v2 : Int32) (v3 : Int32) (v4 : Int32) (v5 : Int32) (k91 : Int32 → Option (Int32)) : Nat → Int32 → Int32 → Option (Int32)
  | 0, _, _ => none
  | n + 1, v6, v7 =>
    (gR w [0] o 0).bind fun x6 =>
    (gI w [1] x6 0).bind fun x7 =>
    if x7 ≤ v7 then
      k91 v6
    else
      (gR w [0] o 0).bind fun x8 =>
      (gR w [1] x8 7).bind fun x9 =>
      (aR 5 w x9 v7).bind fun x10 =>
      (ckC w famT x10).bind fun c12 =>
      (fX2_height N w x10 v5).bind fun x11 =>
      if x11 ≤ 0 then
        (some ((v6 + (0 : Int32)))).bind fun x13 =>
        (some (v7 + (1 : Int32))).bind fun x14 =>
        fX0_busiest_45 N w o v1 v2 v3 v4 v5 k91 n x13 x14
      else
        (some ((v6 + (1 : Int32)))).bind fun x15 =>
        (some (v7 + (1 : Int32))).bind fun x16 =>
        fX0_busiest_45 N w o v1 v2 v3 v4 v5 k91 n x15 x16
def fX0_busiest_33 (N : Nat) (w : Wd) (o : Nat) (v1 : Int32) (v2 : Int32) (k114 : Int32 → Int32 → Option (Int32)) : Nat → Int32 → Int32 → Int32 → Option (Int32)
  | 0, _, _, _ => none
  | n + 1, v3, v4, v5 =>
    if v2 ≤ v5 then
      k114 v3 v4
    else
      fX0_busiest_45 N w o v1 v2 v3 v4 v5
        (fun y17 =>
          if v4 < y17 then
            (some (v5 + (1 : Int32))).bind fun x18 =>
            fX0_busiest_33 N w o v1 v2 k114 n v5 y17 x18
          else
            (some (v5 + (1 : Int32))).bind fun x19 =>
            fX0_busiest_33 N w o v1 v2 k114 n v3 v4 x19)
        N (0 : Int32) (0 : Int32)
def fX0_busiest (N : Nat) (w : Wd) (o : Nat) (v1 : Int32) : Option (Int32) :=
  (fX0_isCity N w o).bind fun x1 =>
  if x1 = 0 then
    some (-2 : Int32)
  else
    (fX0_isOneOfTwo N w v1).bind fun x2 =>
    if x2 = 0 then
      some (-2 : Int32)
    else
      (gR w [0] o 0).bind fun x3 =>
      (ckC w [1] x3).bind fun c5 =>
      (fX1_round N w x3).bind fun x4 =>
      fX0_busiest_33 N w o v1 x4
        (fun y20 y21 =>
          if v1 = 0 then
            some y20
          else
            some y21)
        N (0 : Int32) (-1 : Int32) (0 : Int32)

def fX0_throwsTo (N : Nat) (w : Wd) (o : Nat) (v1 : Int32) (v2 : Int32) (v3 : Int32) : Option (Int32) :=
  (gR w [0] o 0).bind fun x1 =>
  (gR w [1] x1 7).bind fun x2 =>
  (aR 5 w x2 v1).bind fun x3 =>
  (ckC w famT x3).bind fun c5 =>
  (fX2_height N w x3 v3).bind fun x4 =>
  if x4 ≤ 0 then
    some (0 : Int32)
  else
    (gR w [0] o 0).bind fun x6 =>
    (gR w [1] x6 7).bind fun x7 =>
    (aR 5 w x7 v1).bind fun x8 =>
    (ckC w famT x8).bind fun c10 =>
    (fX2_to N w x8 v3).bind fun x9 =>
    if x9 = v2 then
      some (1 : Int32)
    else
      some (0 : Int32)

def fX0_carries_33 (N : Nat) (w : Wd) (o : Nat) (v1 : Int32) (v2 : Int32) (v3 : Int32) (k66 : Int32 → Option (Int32)) : Nat → Int32 → Int32 → Option (Int32)
  | 0, _, _ => none
  | n + 1, v4, v5 =>
    if v3 ≤ v5 then
      k66 v4
    else
      (fX0_throwsTo N w o v1 v2 v5).bind fun x6 =>
      if x6 = 0 then
        (some ((v4 + (0 : Int32)))).bind fun x7 =>
        (some (v5 + (1 : Int32))).bind fun x8 =>
        fX0_carries_33 N w o v1 v2 v3 k66 n x7 x8
      else
        (some ((v4 + (1 : Int32)))).bind fun x9 =>
        (some (v5 + (1 : Int32))).bind fun x10 =>
        fX0_carries_33 N w o v1 v2 v3 k66 n x9 x10
def fX0_carries (N : Nat) (w : Wd) (o : Nat) (v1 : Int32) (v2 : Int32) : Option (Int32) :=
  (fX0_isRoof N w o v1).bind fun x1 =>
  if x1 = 0 then
    some (-2 : Int32)
  else
    (fX0_isRoof N w o v2).bind fun x2 =>
    if x2 = 0 then
      some (-2 : Int32)
    else
      (gR w [0] o 0).bind fun x3 =>
      (ckC w [1] x3).bind fun c5 =>
      (fX1_round N w x3).bind fun x4 =>
      fX0_carries_33 N w o v1 v2 x4
        (fun y11 =>
          some y11)
        N (0 : Int32) (0 : Int32)

def fX0_change (N : Nat) (w : Wd) (o : Nat) (v1 : Int32) (v2 : Int32) (v3 : Int32) (v4 : Int32) : Option (Int32 × Wd) :=
  (fX0_asksChange N w o v1 v2 v3 v4).bind fun x1 =>
  if 0 ≤ x1.1 then
    (gR x1.2 [0] o 12).bind fun x2 =>
    (gI x1.2 [0] o 13).bind fun x3 =>
    (aI 0 x1.2 x2 x3).bind fun x4 =>
    some (x4, x1.2)
  else
    some (x1.1, x1.2)

def fX0_changes_52 (N : Nat) (w : Wd) (o : Nat) (v5 : Int32) (k87 : Int32 → Option (Int32 × Wd)) : Nat → Int32 → Int32 → Option (Int32 × Wd)
  | 0, _, _ => none
  | n + 1, v7, v8 =>
    if v5 ≤ v8 then
      k87 v7
    else
      (gR w [0] o 12).bind fun x7 =>
      (aI 0 w x7 v7).bind fun x8 =>
      (fX0_stepFrom N w o v7 (x8 - (1 : Int32))).bind fun x9 =>
      (fX0_thrown N w v7 x9).bind fun x10 =>
      (some (v8 + (1 : Int32))).bind fun x11 =>
      fX0_changes_52 N w o v5 k87 n x10 x11
def fX0_changes (N : Nat) (w : Wd) (o : Nat) (v1 : Int32) (v2 : Int32) (v3 : Int32) (v4 : Int32) (v5 : Int32) : Option (Int32 × Wd) :=
  (fX0_asksChange N w o v1 v2 v3 v4).bind fun x1 =>
  if 0 ≤ x1.1 then
    (gR x1.2 [0] o 12).bind fun x2 =>
    (gI x1.2 [0] o 13).bind fun x3 =>
    (aI 0 x1.2 x2 x3).bind fun x4 =>
    (fX0_isIn N x1.2 v5.toInt64 (0 : Int64) ((x4 - (1 : Int32)).toInt64)).bind fun x5 =>
    if x5 = 0 then
      some ((-1 : Int32), x1.2)
    else
      (gI x1.2 [0] o 13).bind fun x6 =>
      fX0_changes_52 N x1.2 o v5
        (fun y12 =>
          (gR x1.2 [0] o 12).bind fun x13 =>
          (aI 0 x1.2 x13 y12).bind fun x14 =>
          (fX0_stepFrom N x1.2 o y12 (x14 - (1 : Int32))).bind fun x15 =>
          some (x15, x1.2))
        N x6 (0 : Int32)
  else
    some (x1.1, x1.2)

def fX0_clash_40 (N : Nat) (w : Wd) (o : Nat) (v1 : Int32) (v2 : Int32) (v3 : Int32) (k65 : Int32 → Option (Int32)) (k100 : Option (Int32)) : Nat → Int32 → Option (Int32)
  | 0, _ => none
  | n + 1, v4 =>
    (gR w [0] o 0).bind fun x6 =>
    (gI w [1] x6 0).bind fun x7 =>
    if x7 ≤ v4 then
      k100
    else
      (gR w [0] o 0).bind fun x8 =>
      (ckC w [1] x8).bind fun c10 =>
      (fX1_isClash N w x8 v4 v3).bind fun x9 =>
      if x9 = 0 then
        (some (v4 + (1 : Int32))).bind fun x11 =>
        fX0_clash_40 N w o v1 v2 v3 k65 k100 n x11
      else
        k65 v4
def fX0_clash_32 (N : Nat) (w : Wd) (o : Nat) (v1 : Int32) (v2 : Int32) (k65 : Int32 → Int32 → Option (Int32)) (k106 : Option (Int32)) : Nat → Int32 → Option (Int32)
  | 0, _ => none
  | n + 1, v3 =>
    if v2 ≤ v3 then
      k106
    else
      fX0_clash_40 N w o v1 v2 v3
        (fun y12 =>
          k65 v3 y12)
        (
          (some (v3 + (1 : Int32))).bind fun x13 =>
          fX0_clash_32 N w o v1 v2 k65 k106 n x13)
        N (0 : Int32)
def fX0_clash (N : Nat) (w : Wd) (o : Nat) (v1 : Int32) : Option (Int32) :=
  (fX0_isCity N w o).bind fun x1 =>
  if x1 = 0 then
    some (-2 : Int32)
  else
    (fX0_isIn N w v1.toInt64 (0 : Int64) (2 : Int64)).bind fun x2 =>
    if x2 = 0 then
      some (-2 : Int32)
    else
      (gR w [0] o 0).bind fun x3 =>
      (ckC w [1] x3).bind fun c5 =>
      (fX1_round N w x3).bind fun x4 =>
      fX0_clash_32 N w o v1 x4
        (fun y14 y15 =>
          if v1 = 0 then
            some y14
          else
            if v1 = (1 : Int32) then
              some y15
            else
              (gR w [0] o 0).bind fun x16 =>
              (ckC w [1] x16).bind fun c18 =>
              (fX1_comeDown N w x16 y15 y14).bind fun x17 =>
              some x17)
        (
          some (-1 : Int32))
        N (0 : Int32)

def fX0_isCross_2 (N : Nat) (w : Wd) (o : Nat) (v1 : Int32) (v2 : Int32) (k39 : Option (Int32)) (k47 : Option (Int32)) : Nat → Int32 → Option (Int32)
  | 0, _ => none
  | n + 1, v3 =>
    (gR w [0] o 0).bind fun x1 =>
    (gI w [1] x1 1).bind fun x2 =>
    if x2 ≤ v3 then
      k47
    else
      (gR w [0] o 0).bind fun x3 =>
      (gR w [1] x3 8).bind fun x4 =>
      (aI 0 w x4 v3).bind fun x5 =>
      if x5 = v1 then
        (gR w [0] o 0).bind fun x7 =>
        (gR w [1] x7 9).bind fun x8 =>
        (aI 0 w x8 v3).bind fun x9 =>
        if x9 = v2 then
          k39
        else
          (some (v3 + (1 : Int32))).bind fun x10 =>
          fX0_isCross_2 N w o v1 v2 k39 k47 n x10
      else
        (some (v3 + (1 : Int32))).bind fun x6 =>
        fX0_isCross_2 N w o v1 v2 k39 k47 n x6
def fX0_isCross (N : Nat) (w : Wd) (o : Nat) (v1 : Int32) (v2 : Int32) : Option (Int32) :=
  fX0_isCross_2 N w o v1 v2
    (
      some (1 : Int32))
    (
      some (0 : Int32))
    N (0 : Int32)

def fX0_pairs_19 (N : Nat) (w : Wd) (o : Nat) (v2 : Int32) (k53 : Int32 → Option (Int32)) : Nat → Int32 → Int32 → Option (Int32)
  | 0, _, _ => none
  | n + 1, v1, v3 =>
    (gR w [0] o 0).bind fun x4 =>
    (gI w [1] x4 0).bind fun x5 =>
    if x5 ≤ v3 then
      k53 v1
    else
      (fX0_isCross N w o v2 v3).bind fun x6 =>
      if x6 = 0 then
        (some ((v1 + (0 : Int32)))).bind fun x7 =>
        (some (v3 + (1 : Int32))).bind fun x8 =>
        fX0_pairs_19 N w o v2 k53 n x7 x8
      else
        (some ((v1 + (1 : Int32)))).bind fun x9 =>
        (some (v3 + (1 : Int32))).bind fun x10 =>
        fX0_pairs_19 N w o v2 k53 n x9 x10
def fX0_pairs_4 (N : Nat) (w : Wd) (o : Nat) (k59 : Int32 → Option (Int32)) : Nat → Int32 → Int32 → Option (Int32)
  | 0, _, _ => none
  | n + 1, v1, v2 =>
    (gR w [0] o 0).bind fun x1 =>
    (gI w [1] x1 0).bind fun x2 =>
    if x2 ≤ v2 then
      k59 v1
    else
      (some ((v2 + (1 : Int32)))).bind fun x3 =>
      fX0_pairs_19 N w o v2
        (fun y11 =>
          (some (v2 + (1 : Int32))).bind fun x12 =>
          fX0_pairs_4 N w o k59 n y11 x12)
        N v1 x3
def fX0_pairs (N : Nat) (w : Wd) (o : Nat) : Option (Int32) :=
  fX0_pairs_4 N w o
    (fun y13 =>
      some y13)
    N (0 : Int32) (0 : Int32)

def fX0_wages_64 (N : Nat) (w : Wd) (o : Nat) (v2 : Int32) (v3 : Nat) (v6 : Int32) (s0 : Int64) (s1 : Int64) (r40 : Int64 → Int32 → Option (Int64)) (k89 : Int64 → Option (Int64)) : Option (Int64) :=
  (ckC w famT v3).bind fun c9 =>
  (fX2_height N w v3 v6).bind fun x8 =>
  (ckC w famT v3).bind fun c11 =>
  (fX2_height N w v3 v6).bind fun x10 =>
  (some ((s0 + ((s1 * x8.toInt64) * x10.toInt64)))).bind fun x12 =>
  (some (v6 + (1 : Int32))).bind fun x13 =>
  r40 x12 x13
def fX0_wages_40 (N : Nat) (w : Wd) (o : Nat) (v2 : Int32) (v3 : Nat) (k89 : Int64 → Option (Int64)) : Nat → Int64 → Int32 → Option (Int64)
  | 0, _, _ => none
  | n + 1, v4, v6 =>
    if v2 ≤ v6 then
      k89 v4
    else
      (ckC w famT v3).bind fun c7 =>
      (fX2_isAway N w v3 v6).bind fun x6 =>
      if x6 = 0 then
        fX0_wages_64 N w o v2 v3 v6 v4 (1 : Int64) (fX0_wages_40 N w o v2 v3 k89 n) k89
      else
        fX0_wages_64 N w o v2 v3 v6 v4 (2 : Int64) (fX0_wages_40 N w o v2 v3 k89 n) k89
def fX0_wages (N : Nat) (w : Wd) (o : Nat) (v1 : Int32) (v2 : Int32) : Option (Int64) :=
  (fX0_isRoof N w o v1).bind fun x1 =>
  if x1 = 0 then
    some (-2 : Int64)
  else
    (fX0_isIn N w v2.toInt64 (0 : Int64) (10000 : Int64)).bind fun x2 =>
    if x2 = 0 then
      some (-2 : Int64)
    else
      (gR w [0] o 0).bind fun x3 =>
      (gR w [1] x3 7).bind fun x4 =>
      (aR 5 w x4 v1).bind fun x5 =>
      fX0_wages_40 N w o v2 x5
        (fun y14 =>
          some y14)
        N (0 : Int64) (0 : Int32)

def fX0_count_115 (N : Nat) (w : Wd) (o : Nat) (k154 : Int32 → Option (Int32)) : Nat → Int32 → Int32 → Option (Int32)
  | 0, _, _ => none
  | n + 1, v2, v3 =>
    (gR w [0] o 0).bind fun x14 =>
    (gI w [1] x14 0).bind fun x15 =>
    if x15 ≤ v3 then
      k154 v2
    else
      (fX0_wages N w o v3 (8 : Int32)).bind fun x16 =>
      if (lg_cmp x16 (0 : Int64)) ≤ 0 then
        (some ((v2 ||| (0 : Int32)))).bind fun x17 =>
        (some (v3 + (1 : Int32))).bind fun x18 =>
        fX0_count_115 N w o k154 n x17 x18
      else
        (some ((v2 ||| ((1 : Int32) <<< (v3 &&& 31))))).bind fun x19 =>
        (some (v3 + (1 : Int32))).bind fun x20 =>
        fX0_count_115 N w o k154 n x19 x20
def fX0_count_158 (N : Nat) (w : Wd) (o : Nat) (k189 : Int32 → Option (Int32)) : Nat → Int32 → Int32 → Option (Int32)
  | 0, _, _ => none
  | n + 1, v2, v3 =>
    if (4 : Int32) ≤ v3 then
      k189 v2
    else
      (gR w [0] o 22).bind fun x22 =>
      (aR 6 w x22 v3).bind fun x23 =>
      (gN w [4] x23 0).bind fun x24 =>
      if x24 = none then
        (some ((v2 + (0 : Int32)))).bind fun x27 =>
        (some (v3 + (1 : Int32))).bind fun x28 =>
        fX0_count_158 N w o k189 n x27 x28
      else
        (some ((v2 + (1 : Int32)))).bind fun x25 =>
        (some (v3 + (1 : Int32))).bind fun x26 =>
        fX0_count_158 N w o k189 n x25 x26
def fX0_count (N : Nat) (w : Wd) (o : Nat) (v1 : Int32) : Option (Int32) :=
  if v1 = 0 then
    (gR w [0] o 0).bind fun x1 =>
    (gI w [1] x1 0).bind fun x2 =>
    some x2
  else if v1 = 1 then
    (gR w [0] o 0).bind fun x3 =>
    (gI w [1] x3 2).bind fun x4 =>
    some x4
  else if v1 = 2 then
    (fX0_pairs N w o).bind fun x5 =>
    some x5
  else if v1 = 3 then
    (gR w [0] o 0).bind fun x6 =>
    (gI w [1] x6 3).bind fun x7 =>
    some x7
  else if v1 = 4 then
    (gI w [0] o 2).bind fun x8 =>
    some x8
  else if v1 = 5 then
    (fX0_isCity N w o).bind fun x9 =>
    if x9 = 0 then
      some (0 : Int32)
    else
      (gR w [0] o 0).bind fun x10 =>
      (gI w [1] x10 4).bind fun x11 =>
      some x11
  else if v1 = 6 then
    (gR w [0] o 0).bind fun x12 =>
    (gI w [1] x12 5).bind fun x13 =>
    some x13
  else if v1 = 7 then
    fX0_count_115 N w o
      (fun y21 =>
        some y21)
      N (0 : Int32) (0 : Int32)
  else if v1 = 8 then
    fX0_count_158 N w o
      (fun y29 =>
        some y29)
      N (0 : Int32) (0 : Int32)
  else
    some (-1 : Int32)

def fX0_crossings_65 (N : Nat) (w : Wd) (o : Nat) (v1 : Int32) (v2 : Int32) (v5 : Int32) (v6 : Int32) (k153 : Int32 → Int32 → Option (Int32)) : Nat → Int32 → Int32 → Int32 → Option (Int32)
  | 0, _, _, _ => none
  | n + 1, v3, v4, v7 =>
    (gR w [0] o 0).bind fun x9 =>
    (gI w [1] x9 0).bind fun x10 =>
    if x10 ≤ v7 then
      k153 v3 v4
    else
      (fX0_isCross N w o v6 v7).bind fun x11 =>
      if x11 = 0 then
        (some (v7 + (1 : Int32))).bind fun x12 =>
        fX0_crossings_65 N w o v1 v2 v5 v6 k153 n v3 v4 x12
      else
        (fX0_throwsTo N w o v6 v7 v5).bind fun x13 =>
        if x13 = 0 then
          (some (v7 + (1 : Int32))).bind fun x14 =>
          fX0_crossings_65 N w o v1 v2 v5 v6 k153 n v3 v4 x14
        else
          (fX0_throwsTo N w o v7 v6 v5).bind fun x15 =>
          if x15 = 0 then
            (some (v7 + (1 : Int32))).bind fun x20 =>
            fX0_crossings_65 N w o v1 v2 v5 v6 k153 n v3 v4 x20
          else
            (some (v3 + (1 : Int32))).bind fun x16 =>
            if v4 = (-1 : Int32) then
              (some (((((100 : Int32) * v5) + ((10 : Int32) * v6)) + v7))).bind fun x18 =>
              (some (v7 + (1 : Int32))).bind fun x19 =>
              fX0_crossings_65 N w o v1 v2 v5 v6 k153 n x16 x18 x19
            else
              (some (v7 + (1 : Int32))).bind fun x17 =>
              fX0_crossings_65 N w o v1 v2 v5 v6 k153 n x16 v4 x17
def fX0_crossings_47 (N : Nat) (w : Wd) (o : Nat) (v1 : Int32) (v2 : Int32) (v5 : Int32) (k159 : Int32 → Int32 → Option (Int32)) : Nat → Int32 → Int32 → Int32 → Option (Int32)
  | 0, _, _, _ => none
  | n + 1, v3, v4, v6 =>
    (gR w [0] o 0).bind fun x6 =>
    (gI w [1] x6 0).bind fun x7 =>
    if x7 ≤ v6 then
      k159 v3 v4
    else
      (some ((v6 + (1 : Int32)))).bind fun x8 =>
      fX0_crossings_65 N w o v1 v2 v5 v6
        (fun y21 y22 =>
          (some (v6 + (1 : Int32))).bind fun x23 =>
          fX0_crossings_47 N w o v1 v2 v5 k159 n y21 y22 x23)
        N v3 v4 x8
def fX0_crossings_38 (N : Nat) (w : Wd) (o : Nat) (v1 : Int32) (v2 : Int32) (k165 : Int32 → Int32 → Option (Int32)) : Nat → Int32 → Int32 → Int32 → Option (Int32)
  | 0, _, _, _ => none
  | n + 1, v3, v4, v5 =>
    if v2 ≤ v5 then
      k165 v3 v4
    else
      fX0_crossings_47 N w o v1 v2 v5
        (fun y24 y25 =>
          (some (v5 + (1 : Int32))).bind fun x26 =>
          fX0_crossings_38 N w o v1 v2 k165 n y24 y25 x26)
        N v3 v4 (0 : Int32)
def fX0_crossings_175 (N : Nat) (w : Wd) (o : Nat) (v1 : Int32) (v3 : Int32) : Option (Int32) :=
  if v1 = 0 then
    some v3
  else
    some (-1 : Int32)
def fX0_crossings (N : Nat) (w : Wd) (o : Nat) (v1 : Int32) : Option (Int32) :=
  (fX0_isCity N w o).bind fun x1 =>
  if x1 = 0 then
    some (-2 : Int32)
  else
    (fX0_isIn N w v1.toInt64 (0 : Int64) (3 : Int64)).bind fun x2 =>
    if x2 = 0 then
      some (-2 : Int32)
    else
      (gR w [0] o 0).bind fun x3 =>
      (ckC w [1] x3).bind fun c5 =>
      (fX1_round N w x3).bind fun x4 =>
      fX0_crossings_38 N w o v1 x4
        (fun y27 y28 =>
          if v1 = 0 then
            fX0_crossings_175 N w o v1 y27
          else
            if y28 = (-1 : Int32) then
              fX0_crossings_175 N w o v1 y27
            else
              if v1 = (1 : Int32) then
                some (y28 / (100 : Int32))
              else
                if v1 = (2 : Int32) then
                  some ((y28 / (10 : Int32)) - (y28 / (10 : Int32)) / (10 : Int32) * (10 : Int32))
                else
                  some (y28 - y28 / (10 : Int32) * (10 : Int32)))
        N (0 : Int32) (-1 : Int32) (0 : Int32)

def fX0_end (N : Nat) (w : Wd) (o : Nat) (v1 : Int32) : Option (Int32 × Wd) :=
  (gI w [0] o 2).bind fun x1 =>
  (fX0_isIn N w v1.toInt64 (0 : Int64) x1.toInt64).bind fun x2 =>
  if x2 = 0 then
    some ((-1 : Int32), w)
  else
    (pF w [0] o 2 (.int v1)).bind fun w3 =>
    some (v1, w3)

def fX0_exchange (N : Nat) (w : Wd) (o : Nat) (v1 : Int32) (v2 : Int32) (v3 : Int32) (v4 : Int32) : Option (Int32 × Wd) :=
  (fX0_isThrow N w o v1 v2).bind fun x1 =>
  if x1 = 0 then
    some ((-2 : Int32), w)
  else
    (fX0_isThrow N w o v3 v4).bind fun x2 =>
    if x2 = 0 then
      some ((-2 : Int32), w)
    else
      if v1 = v3 then
        some ((-2 : Int32), w)
      else
        (gR w [0] o 0).bind fun x3 =>
        (gR w [1] x3 7).bind fun x4 =>
        (aR 5 w x4 v1).bind fun x5 =>
        (gR w [0] o 0).bind fun x6 =>
        (gR w [1] x6 7).bind fun x7 =>
        (aR 5 w x7 v3).bind fun x8 =>
        (ckC w famT x8).bind fun c10 =>
        (fX2_height N w x8 v4).bind fun x9 =>
        (some (((x9 + v4) - v2))).bind fun x11 =>
        (ckC w famT x5).bind fun c13 =>
        (fX2_height N w x5 v2).bind fun x12 =>
        (some (((x12 - v4) + v2))).bind fun x14 =>
        (gI w [2, 8, 9, 10, 11] x5 3).bind fun x15 =>
        (gI w [2, 8, 9, 10, 11] x8 3).bind fun x16 =>
        if x15 = x16 then
          (ckC w famT x5).bind fun c18 =>
          (fX2_height N w x5 v2).bind fun x17 =>
          if x17 = 0 then
            some ((-5 : Int32), w)
          else
            (ckC w famT x8).bind fun c20 =>
            (fX2_height N w x8 v4).bind fun x19 =>
            if x19 = 0 then
              some ((-5 : Int32), w)
            else
              (fX0_isIn N w x11.toInt64 (1 : Int64) (9 : Int64)).bind fun x21 =>
              if x21 = 0 then
                some ((-5 : Int32), w)
              else
                (fX0_isIn N w x14.toInt64 (1 : Int64) (9 : Int64)).bind fun x22 =>
                if x22 = 0 then
                  some ((-5 : Int32), w)
                else
                  (ckC w famT x8).bind fun c24 =>
                  (fX2_to N w x8 v4).bind fun x23 =>
                  (ckC w famT x5).bind fun c26 =>
                  (fX2_to N w x5 v2).bind fun x25 =>
                  (ckC w famT x8).bind fun c28 =>
                  (fX2_set N w x8 v4 x14 x25).bind fun w27 =>
                  (ckC w27 famT x5).bind fun c30 =>
                  (fX2_set N w27 x5 v2 x11 x23).bind fun w29 =>
                  some ((0 : Int32), w29)
        else
          some ((-5 : Int32), w)

def fX0_fault (N : Nat) (w : Wd) (o : Nat) (v1 : Int32) : Option (Int32) :=
  if v1 = 0 then
    (gI w [0] o 3).bind fun x2 =>
    some x2
  else
    if v1 = (1 : Int32) then
      (gI w [0] o 4).bind fun x1 =>
      some x1
    else
      some (-1 : Int32)

def fX0_puts_3 (N : Nat) (o : Nat) (v1 : Int32) (k36 : Wd → Option (Wd)) : Nat → Int32 → Wd → Option (Wd)
  | 0, _, _ => none
  | n + 1, v2, w =>
    if v2 < 0 then
      k36 w
    else
      (gR w [0] o 1).bind fun x1 =>
      (gI w [0] o 2).bind fun x2 =>
      (sI 2 w x1 x2 ((v1 >>> (v2 &&& 31)).toInt8.toInt32)).bind fun w3 =>
      (gI w3 [0] o 2).bind fun x4 =>
      (pF w3 [0] o 2 (.int (x4 + (1 : Int32)))).bind fun w5 =>
      (some (v2 + (-8 : Int32))).bind fun x6 =>
      fX0_puts_3 N o v1 k36 n x6 w5
def fX0_puts (N : Nat) (w : Wd) (o : Nat) (v1 : Int32) : Option (Wd) :=
  fX0_puts_3 N o v1
    (fun w7 =>
      some w7)
    N (24 : Int32) w

def fX0_feed (N : Nat) (w : Wd) (o : Nat) (v1 : Int32) (v2 : Int32) (v3 : Int32) (v4 : Int32) (v5 : Int32) : Option (Int32 × Wd) :=
  (gI w [0] o 2).bind fun x1 =>
  if (x1 + (20 : Int32)) ≤ (1600 : Int32) then
    (fX0_puts N w o v1).bind fun w2 =>
    (fX0_puts N w2 o v2).bind fun w3 =>
    (fX0_puts N w3 o v3).bind fun w4 =>
    (fX0_puts N w4 o v4).bind fun w5 =>
    (fX0_puts N w5 o v5).bind fun w6 =>
    (gI w6 [0] o 2).bind fun x7 =>
    some (x7, w6)
  else
    some ((-1 : Int32), w)

def fJ0_min (N : Nat) (w : Wd) (v0 : Int32) (v1 : Int32) : Option (Int32) :=
  if v1 < v0 then
    some v1
  else
    some v0

def fX0_fillLeft_163 (N : Nat) (w : Wd) (o : Nat) (v1 : Int32) (v2 : Int32) (v3 : Int32) (v4 : Int32) (v5 : Int32) (v6 : Int32) (r22 : Int32 → Wd → Option (Wd)) (k187 : Wd → Option (Wd)) : Option (Wd) :=
  (gR w [0] o 9).bind fun x14 =>
  (sI 0 w x14 ((((200 : Int32) * v5) + v4) - v3) v6).bind fun w15 =>
  (some (v5 + (1 : Int32))).bind fun x16 =>
  r22 x16 w15
def fX0_fillLeft_82 (N : Nat) (w : Wd) (o : Nat) (v1 : Int32) (v2 : Int32) (v3 : Int32) (v4 : Int32) (v5 : Int32) (s0 : Int32) (r22 : Int32 → Wd → Option (Wd)) (k187 : Wd → Option (Wd)) : Option (Wd) :=
  (gR w [0] o 0).bind fun x11 =>
  (gR w [1] x11 7).bind fun x12 =>
  (aR 5 w x12 v5).bind fun x13 =>
  if s0 ≤ 0 then
    fX0_fillLeft_163 N w o v1 v2 v3 v4 v5 s0 r22 k187
  else
    (ckC w famT x13).bind fun c18 =>
    (fX2_height N w x13 v4).bind fun x17 =>
    if x17 ≤ 0 then
      fX0_fillLeft_163 N w o v1 v2 v3 v4 v5 s0 r22 k187
    else
      (ckC w famT x13).bind fun c20 =>
      (fX2_height N w x13 v4).bind fun x19 =>
      if v2 < (v4 + x19) then
        fX0_fillLeft_163 N w o v1 v2 v3 v4 v5 s0 r22 k187
      else
        (gR w [0] o 9).bind fun x21 =>
        (ckC w famT x13).bind fun c23 =>
        (fX2_to N w x13 v4).bind fun x22 =>
        (ckC w famT x13).bind fun c25 =>
        (fX2_height N w x13 v4).bind fun x24 =>
        (aI 0 w x21 (((((200 : Int32) * x22) + v4) + x24) - v3)).bind fun x26 =>
        (fJ0_min N w s0 ((1 : Int32) + x26)).bind fun x27 =>
        fX0_fillLeft_163 N w o v1 v2 v3 v4 v5 x27 r22 k187
def fX0_fillLeft_22 (N : Nat) (o : Nat) (v1 : Int32) (v2 : Int32) (v3 : Int32) (v4 : Int32) (k187 : Wd → Option (Wd)) : Nat → Int32 → Wd → Option (Wd)
  | 0, _, _ => none
  | n + 1, v5, w =>
    (gR w [0] o 0).bind fun x4 =>
    (gI w [1] x4 0).bind fun x5 =>
    if x5 ≤ v5 then
      k187 w
    else
      (gR w [0] o 0).bind fun x6 =>
      (gR w [1] x6 12).bind fun x7 =>
      (aI 0 w x7 v1).bind fun x8 =>
      if v5 = x8 then
        fX0_fillLeft_82 N w o v1 v2 v3 v4 v5 (0 : Int32) (fX0_fillLeft_22 N o v1 v2 v3 v4 k187 n) k187
      else
        if v4 = v2 then
          fX0_fillLeft_82 N w o v1 v2 v3 v4 v5 (1000000 : Int32) (fX0_fillLeft_22 N o v1 v2 v3 v4 k187 n) k187
        else
          (gR w [0] o 9).bind fun x9 =>
          (aI 0 w x9 (((((200 : Int32) * v5) + v4) + (1 : Int32)) - v3)).bind fun x10 =>
          fX0_fillLeft_82 N w o v1 v2 v3 v4 v5 x10 (fX0_fillLeft_22 N o v1 v2 v3 v4 k187 n) k187
def fX0_fillLeft_13 (N : Nat) (o : Nat) (v1 : Int32) (v2 : Int32) (v3 : Int32) (k193 : Wd → Option (Wd)) : Nat → Int32 → Wd → Option (Wd)
  | 0, _, _ => none
  | n + 1, v4, w =>
    if v4 < v3 then
      k193 w
    else
      fX0_fillLeft_22 N o v1 v2 v3 v4
        (fun w28 =>
          (some (v4 + (-1 : Int32))).bind fun x29 =>
          fX0_fillLeft_13 N o v1 v2 v3 k193 n x29 w28)
        N (0 : Int32) w
def fX0_fillLeft (N : Nat) (w : Wd) (o : Nat) (v1 : Int32) (v2 : Int32) : Option (Wd) :=
  (gR w [0] o 0).bind fun x1 =>
  (gR w [1] x1 11).bind fun x2 =>
  (aI 0 w x2 v1).bind fun x3 =>
  fX0_fillLeft_13 N o v1 v2 x3
    (fun w30 =>
      some w30)
    N v2 w

def fX2_hand (N : Nat) (w : Wd) (o : Nat) (v1 : Int32) : Option (Int32) :=
  some (v1 &&& (1 : Int32))

def fX8_hand (N : Nat) (w : Wd) (o : Nat) (v1 : Int32) : Option (Int32) :=
  (ckC w [8] o).bind fun c2 =>
  (fX2_hand N w o v1).bind fun x1 =>
  some ((1 : Int32) - x1)

def dX2_hand (N : Nat) (w : Wd) (c o : Nat) (v1 : Int32) : Option (Int32) :=
  if c = 8 then fX8_hand N w o v1 else fX2_hand N w o v1

def fX2_better (N : Nat) (w : Wd) (o : Nat) : Option (Int32) :=
  some (0 : Int32)

def fX8_better (N : Nat) (w : Wd) (o : Nat) : Option (Int32) :=
  some (1 : Int32)

def dX2_better (N : Nat) (w : Wd) (c o : Nat) : Option (Int32) :=
  if c = 8 then fX8_better N w o else fX2_better N w o

def fX2_suits (N : Nat) (w : Wd) (o : Nat) (v1 : Nat) (v2 : Int32) : Option (Int32) :=
  (ckC w famT o).bind fun c2 =>
  (fX2_isAway N w o v2).bind fun x1 =>
  if x1 = 0 then
    some (1 : Int32)
  else
    (ckC w famT o).bind fun c4 =>
    (dX2_hand N w c4 o v2).bind fun x3 =>
    (ckC w famT o).bind fun c6 =>
    (dX2_better N w c6 o).bind fun x5 =>
    if x3 = x5 then
      some (1 : Int32)
    else
      some (0 : Int32)

def fX9_suits (N : Nat) (w : Wd) (o : Nat) (v1 : Nat) (v2 : Int32) : Option (Int32) :=
  (ckC w [9] o).bind fun c2 =>
  (fX2_height N w o v2).bind fun x1 =>
  if (5 : Int32) < x1 then
    some (0 : Int32)
  else
    (ckC w [9] o).bind fun c4 =>
    (fX2_suits N w o v1 v2).bind fun x3 =>
    if x3 = 0 then
      some (0 : Int32)
    else
      some (1 : Int32)

def fX10_suits_2 (N : Nat) (w : Wd) (o : Nat) (v1 : Nat) (v2 : Int32) (k48 : Option (Int32)) (k56 : Option (Int32)) : Nat → Int32 → Option (Int32)
  | 0, _ => none
  | n + 1, v3 =>
    (gI w [1] v1 0).bind fun x1 =>
    if x1 ≤ v3 then
      k56
    else
      (gR w [1] v1 7).bind fun x2 =>
      (aR 5 w x2 v3).bind fun x3 =>
      (ckC w famT x3).bind fun c5 =>
      (fX2_height N w x3 v2).bind fun x4 =>
      (fX0_isIn N w x4.toInt64 (1 : Int64) (2 : Int64)).bind fun x6 =>
      if x6 = 0 then
        (some (v3 + (1 : Int32))).bind fun x7 =>
        fX10_suits_2 N w o v1 v2 k48 k56 n x7
      else
        (gR w [1] v1 7).bind fun x8 =>
        (aR 5 w x8 v3).bind fun x9 =>
        (ckC w famT x9).bind fun c11 =>
        (fX2_to N w x9 v2).bind fun x10 =>
        (gI w [2, 8, 9, 10, 11] o 0).bind fun x12 =>
        if x10 = x12 then
          k48
        else
          (some (v3 + (1 : Int32))).bind fun x13 =>
          fX10_suits_2 N w o v1 v2 k48 k56 n x13
def fX10_suits (N : Nat) (w : Wd) (o : Nat) (v1 : Nat) (v2 : Int32) : Option (Int32) :=
  fX10_suits_2 N w o v1 v2
    (
      some (0 : Int32))
    (
      some (1 : Int32))
    N (0 : Int32)

def fX11_first_2 (N : Nat) (w : Wd) (o : Nat) (k16 : Int32 → Option (Int32)) : Nat → Int32 → Option (Int32)
  | 0, _ => none
  | n + 1, v1 =>
    (ckC w [11] o).bind fun c2 =>
    (fX2_height N w o v1).bind fun x1 =>
    if x1 = 0 then
      (some (v1 + (1 : Int32))).bind fun x3 =>
      fX11_first_2 N w o k16 n x3
    else
      k16 v1
def fX11_first (N : Nat) (w : Wd) (o : Nat) : Option (Int32) :=
  fX11_first_2 N w o
    (fun y4 =>
      (ckC w [11] o).bind fun c6 =>
      (fX2_height N w o y4).bind fun x5 =>
      some x5)
    N (0 : Int32)

def fX11_suits (N : Nat) (w : Wd) (o : Nat) (v1 : Nat) (v2 : Int32) : Option (Int32) :=
  (ckC w [11] o).bind fun c2 =>
  (fX2_suits N w o v1 v2).bind fun x1 =>
  if x1 = 0 then
    some (0 : Int32)
  else
    (ckC w [11] o).bind fun c4 =>
    (fX2_height N w o v2).bind fun x3 =>
    if x3 = 0 then
      some (1 : Int32)
    else
      (ckC w [11] o).bind fun c6 =>
      (fX2_height N w o v2).bind fun x5 =>
      (ckC w [11] o).bind fun c8 =>
      (fX11_first N w o).bind fun x7 =>
      if x5 = x7 then
        some (1 : Int32)
      else
        some (0 : Int32)

def dX2_suits (N : Nat) (w : Wd) (c o : Nat) (v1 : Nat) (v2 : Int32) : Option (Int32) :=
  if c = 9 then fX9_suits N w o v1 v2 else if c = 10 then fX10_suits N w o v1 v2 else if c = 11 then fX11_suits N w o v1 v2 else fX2_suits N w o v1 v2

def fX0_firstUnsuited_12 (N : Nat) (w : Wd) (o : Nat) (v1 : Int32) (v2 : Int32) (k37 : Int32 → Option (Int32)) (k45 : Option (Int32)) : Nat → Int32 → Option (Int32)
  | 0, _ => none
  | n + 1, v3 =>
    if v2 ≤ v3 then
      k45
    else
      (gR w [0] o 0).bind fun x5 =>
      (gR w [1] x5 7).bind fun x6 =>
      (aR 5 w x6 v1).bind fun x7 =>
      (gR w [0] o 0).bind fun x8 =>
      (ckC w famT x7).bind fun c10 =>
      (dX2_suits N w c10 x7 x8 v3).bind fun x9 =>
      if x9 = 0 then
        k37 v3
      else
        (some (v3 + (1 : Int32))).bind fun x11 =>
        fX0_firstUnsuited_12 N w o v1 v2 k37 k45 n x11
def fX0_firstUnsuited (N : Nat) (w : Wd) (o : Nat) (v1 : Int32) : Option (Int32) :=
  (gR w [0] o 0).bind fun x1 =>
  (ckC w [1] x1).bind fun c3 =>
  (fX1_round N w x1).bind fun x2 =>
  (some (((2 : Int32) * x2))).bind fun x4 =>
  fX0_firstUnsuited_12 N w o v1 x4
    (fun y12 =>
      some y12)
    (
      some (-1 : Int32))
    N (0 : Int32)

def fX0_goesWay_223 (N : Nat) (w : Wd) (o : Nat) (v1 : Int32) (v2 : Int32) (v3 : Int32) (v4 : Int32) (v5 : Int32) (v8 : Int32) (v9 : Int32) (s0 : Int32) (r42 : Int32 → Int32 → Wd → Option (Int32 × Wd)) (k158 : Int32 → Int32 → Wd → Option (Int32 × Wd)) (k244 : Wd → Option (Int32 × Wd)) : Option (Int32 × Wd) :=
  if v9 = 0 then
    (some ((v5 + (1 : Int32)))).bind fun x22 =>
    r42 x22 s0 w
  else
    (some ((v5 + v8))).bind fun x23 =>
    r42 x23 s0 w
def fX0_goesWay_202 (N : Nat) (w : Wd) (o : Nat) (v1 : Int32) (v2 : Int32) (v3 : Int32) (v4 : Int32) (v5 : Int32) (v6 : Int32) (v7 : Nat) (v8 : Int32) (v9 : Int32) (s0 : Nat) (s1 : Int32) (s2 : Int32) (r42 : Int32 → Int32 → Wd → Option (Int32 × Wd)) (k158 : Int32 → Int32 → Wd → Option (Int32 × Wd)) (k244 : Wd → Option (Int32 × Wd)) : Option (Int32 × Wd) :=
  (pF w [0] s0 11 (.int (s1 + s2))).bind fun w21 =>
  if v9 = 0 then
    fX0_goesWay_223 N w21 o v1 v2 v3 v4 v5 v8 v9 v6 r42 k158 k244
  else
    (ckC w21 famT v7).bind fun c25 =>
    (fX2_to N w21 v7 v5).bind fun x24 =>
    fX0_goesWay_223 N w21 o v1 v2 v3 v4 v5 v8 v9 x24 r42 k158 k244
def fX0_goesWay_182 (N : Nat) (w : Wd) (o : Nat) (v1 : Int32) (v2 : Int32) (v3 : Int32) (v4 : Int32) (v5 : Int32) (v6 : Int32) (v7 : Nat) (v8 : Int32) (v9 : Int32) (s0 : Nat) (s1 : Int32) (s2 : Int32) (r42 : Int32 → Int32 → Wd → Option (Int32 × Wd)) (k158 : Int32 → Int32 → Wd → Option (Int32 × Wd)) (k244 : Wd → Option (Int32 × Wd)) : Option (Int32 × Wd) :=
  (pF w [0] s0 10 (.int (s1 + s2))).bind fun w19 =>
  (gI w19 [0] o 11).bind fun x20 =>
  if v9 = 0 then
    fX0_goesWay_202 N w19 o v1 v2 v3 v4 v5 v6 v7 v8 v9 o x20 (0 : Int32) r42 k158 k244
  else
    fX0_goesWay_202 N w19 o v1 v2 v3 v4 v5 v6 v7 v8 v9 o x20 v8 r42 k158 k244
def fX0_goesWay_167 (N : Nat) (w : Wd) (o : Nat) (v1 : Int32) (v2 : Int32) (v3 : Int32) (v4 : Int32) (v5 : Int32) (v6 : Int32) (v7 : Nat) (v8 : Int32) (v9 : Int32) (r42 : Int32 → Int32 → Wd → Option (Int32 × Wd)) (k158 : Int32 → Int32 → Wd → Option (Int32 × Wd)) (k244 : Wd → Option (Int32 × Wd)) : Option (Int32 × Wd) :=
  (gI w [0] o 10).bind fun x18 =>
  if v9 = 0 then
    fX0_goesWay_182 N w o v1 v2 v3 v4 v5 v6 v7 v8 v9 o x18 (0 : Int32) r42 k158 k244
  else
    fX0_goesWay_182 N w o v1 v2 v3 v4 v5 v6 v7 v8 v9 o x18 (1 : Int32) r42 k158 k244
def fX0_goesWay_143 (N : Nat) (w : Wd) (o : Nat) (v1 : Int32) (v2 : Int32) (v3 : Int32) (v4 : Int32) (v5 : Int32) (v6 : Int32) (v7 : Nat) (v8 : Int32) (s0 : Int32) (r42 : Int32 → Int32 → Wd → Option (Int32 × Wd)) (k158 : Int32 → Int32 → Wd → Option (Int32 × Wd)) (k244 : Wd → Option (Int32 × Wd)) : Option (Int32 × Wd) :=
  if s0 = 0 then
    fX0_goesWay_167 N w o v1 v2 v3 v4 v5 v6 v7 v8 s0 r42 k158 k244
  else
    (gI w [0] o 10).bind fun x26 =>
    if x26 = v3 then
      k158 v5 v6 w
    else
      fX0_goesWay_167 N w o v1 v2 v3 v4 v5 v6 v7 v8 s0 r42 k158 k244
def fX0_goesWay_142 (N : Nat) (w : Wd) (o : Nat) (v1 : Int32) (v2 : Int32) (v3 : Int32) (v4 : Int32) (v5 : Int32) (v6 : Int32) (v7 : Nat) (v8 : Int32) (r42 : Int32 → Int32 → Wd → Option (Int32 × Wd)) (k158 : Int32 → Int32 → Wd → Option (Int32 × Wd)) (k244 : Wd → Option (Int32 × Wd)) : Option (Int32 × Wd) :=
  fX0_goesWay_143 N w o v1 v2 v3 v4 v5 v6 v7 v8 (0 : Int32) r42 k158 k244
def fX0_goesWay_42 (N : Nat) (o : Nat) (v1 : Int32) (v2 : Int32) (v3 : Int32) (v4 : Int32) (k158 : Int32 → Int32 → Wd → Option (Int32 × Wd)) (k244 : Wd → Option (Int32 × Wd)) : Nat → Int32 → Int32 → Wd → Option (Int32 × Wd)
  | 0, _, _, _ => none
  | n + 1, v5, v6, w =>
    (gR w [0] o 0).bind fun x10 =>
    (gR w [1] x10 12).bind fun x11 =>
    (aI 0 w x11 v1).bind fun x12 =>
    if v6 = x12 then
      k244 w
    else
      (gR w [0] o 0).bind fun x13 =>
      (gR w [1] x13 7).bind fun x14 =>
      (aR 5 w x14 v6).bind fun x15 =>
      (ckC w famT x15).bind fun c17 =>
      (fX2_height N w x15 v5).bind fun x16 =>
      if x16 ≤ 0 then
        fX0_goesWay_142 N w o v1 v2 v3 v4 v5 v6 x15 x16 (fX0_goesWay_42 N o v1 v2 v3 v4 k158 k244 n) k158 k244
      else
        if v2 < (v5 + x16) then
          fX0_goesWay_142 N w o v1 v2 v3 v4 v5 v6 x15 x16 (fX0_goesWay_42 N o v1 v2 v3 v4 k158 k244 n) k158 k244
        else
          (gR w [0] o 9).bind fun x27 =>
          (ckC w famT x15).bind fun c29 =>
          (fX2_to N w x15 v5).bind fun x28 =>
          (aI 0 w x27 (((((200 : Int32) * x28) + v5) + x16) - v4)).bind fun x30 =>
          (gR w [0] o 9).bind fun x31 =>
          (aI 0 w x31 ((((200 : Int32) * v6) + v5) - v4)).bind fun x32 =>
          if (x30 + (1 : Int32)) = x32 then
            fX0_goesWay_143 N w o v1 v2 v3 v4 v5 v6 x15 x16 (1 : Int32) (fX0_goesWay_42 N o v1 v2 v3 v4 k158 k244 n) k158 k244
          else
            fX0_goesWay_142 N w o v1 v2 v3 v4 v5 v6 x15 x16 (fX0_goesWay_42 N o v1 v2 v3 v4 k158 k244 n) k158 k244
def fX0_goesWay (N : Nat) (w : Wd) (o : Nat) (v1 : Int32) (v2 : Int32) (v3 : Int32) : Option (Int32 × Wd) :=
  (gR w [0] o 0).bind fun x1 =>
  (gR w [1] x1 11).bind fun x2 =>
  (aI 0 w x2 v1).bind fun x3 =>
  (gR w [0] o 0).bind fun x4 =>
  (gR w [1] x4 10).bind fun x5 =>
  (aI 0 w x5 v1).bind fun x6 =>
  (pF w [0] o 10 (.int (0 : Int32))).bind fun w7 =>
  (pF w7 [0] o 11 (.int (0 : Int32))).bind fun w8 =>
  (fX0_fillLeft N w8 o v1 v2).bind fun w9 =>
  fX0_goesWay_42 N o v1 v2 v3 x3
    (fun y33 y34 w35 =>
      some ((((10 : Int32) * y33) + y34), w35))
    (fun w36 =>
      some ((-1 : Int32), w36))
    N x3 x6 w9

def fX0_ground (N : Nat) (w : Wd) (o : Nat) (v1 : Int32) (v2 : Int32) : Option (Int32 × Wd) :=
  (fX0_isThrow N w o v1 v2).bind fun x1 =>
  if x1 = 0 then
    some ((-2 : Int32), w)
  else
    (gR w [0] o 0).bind fun x2 =>
    (gR w [1] x2 7).bind fun x3 =>
    (aR 5 w x3 v1).bind fun x4 =>
    (fX0_keepsAlone N w o x4).bind fun x5 =>
    if x5 = 0 then
      some ((-1 : Int32), w)
    else
      (gR w [0] o 0).bind fun x6 =>
      (gR w [1] x6 7).bind fun x7 =>
      (aR 5 w x7 v1).bind fun x8 =>
      (fX0_stateOf N w o x8 v2).bind fun x9 =>
      (fJ7_bitCount N w x9).bind fun x10 =>
      (fX0_lays N w o (((1 : Int32) <<< (x10 &&& 31)) - (1 : Int32))).bind fun w11 =>
      (gR w11 [0] o 12).bind fun x12 =>
      (aI 0 w11 x12 x9).bind fun x13 =>
      some (x13, w11)

def fX0_isSeed (N : Nat) (w : Wd) (v0 : Int32) : Option (Int32) :=
  (fX0_isIn N w v0.toInt64 (0 : Int64) (2000000000 : Int64)).bind fun x1 =>
  if x1 = 0 ∨ x1 = 1 then some x1 else none

def fX0_gusts (N : Nat) (w : Wd) (nx : Nat) (o : Nat) (v1 : Int32) (v2 : Int32) (v3 : Int32) : Option (Int32 × Wd × Nat) :=
  (fX0_isCity N w o).bind fun x1 =>
  if x1 = 0 then
    some ((-2 : Int32), w, nx)
  else
    (fX0_isSeed N w v1).bind fun x2 =>
    if x2 = 0 then
      some ((-2 : Int32), w, nx)
    else
      (fX0_isIn N w v2.toInt64 (0 : Int64) (2000 : Int64)).bind fun x3 =>
      if x3 = 0 then
        some ((-2 : Int32), w, nx)
      else
        (fX0_isIn N w v3.toInt64 (0 : Int64) (2 : Int64)).bind fun x4 =>
        if x4 = 0 then
          some ((-2 : Int32), w, nx)
        else
          (gR w [0] o 0).bind fun x5 =>
          (ckC w [1] x5).bind fun c7 =>
          (fX1_keeps N w x5).bind fun x6 =>
          if x6 = 0 then
            some ((-1 : Int32), w, nx)
          else
            (fX0_blows N w nx o v1.toInt64 v2).bind fun w8 =>
            if v3 = 0 then
              (gR w8.1 [0] o 0).bind fun x11 =>
              (ckC w8.1 [1] x11).bind fun c13 =>
              (fX1_balls N w8.1 x11).bind fun x12 =>
              (gI w8.1 [0] o 19).bind fun x14 =>
              some ((x12 - x14), w8.1, w8.2)
            else
              if v3 = (1 : Int32) then
                (gI w8.1 [0] o 20).bind fun x10 =>
                some (x10, w8.1, w8.2)
              else
                (gI w8.1 [0] o 21).bind fun x9 =>
                some (x9, w8.1, w8.2)

def fX3_init (N : Nat) (w : Wd) (o : Nat) (v1 : Nat) : Option (Wd) :=
  (pF w [3] o 2 (.ref v1)).bind fun w1 =>
  some w1

def fX4_init (N : Nat) (w : Wd) (o : Nat) : Option (Wd) :=
  some w

def fX0_init (N : Nat) (w : Wd) (nx : Nat) (o : Nat) : Option (Wd × Nat) :=
  (some (wup w nx (.inr (1, newX1)))).bind fun w2 =>
  (fX1_init N w2 (nx + 1) nx).bind fun w3 =>
  (pF w3.1 [0] o 0 (.ref nx)).bind fun w4 =>
  (nwA 2 1600 w4 w3.2 (1600 : Int32)).bind fun w5 =>
  (pF w5 [0] o 1 (.ref w3.2)).bind fun w6 =>
  (pF w6 [0] o 4 (.int (-1 : Int32))).bind fun w7 =>
  (some (wup w7 (w3.2 + 1) (.inr (2, newX2)))).bind fun w8 =>
  (fX2_init N w8 (w3.2 + 2) (w3.2 + 1) (0 : Int32)).bind fun w9 =>
  (pF w9.1 [0] o 5 (.ref (w3.2 + 1))).bind fun w10 =>
  (some (wup w10 w9.2 (.inr (3, newX3)))).bind fun w11 =>
  (fX3_init N w11 w9.2 o).bind fun w12 =>
  (pF w12 [0] o 6 (.ref w9.2)).bind fun w13 =>
  (nwA 3 5040 w13 (w9.2 + 1) (5040 : Int32)).bind fun w14 =>
  (pF w14 [0] o 7 (.ref (w9.2 + 1))).bind fun w15 =>
  (nwA 0 6 w15 (w9.2 + 2) (6 : Int32)).bind fun w16 =>
  (pF w16 [0] o 8 (.ref (w9.2 + 2))).bind fun w17 =>
  (nwA 0 1200 w17 (w9.2 + 3) (1200 : Int32)).bind fun w18 =>
  (pF w18 [0] o 9 (.ref (w9.2 + 3))).bind fun w19 =>
  (nwA 0 512 w19 (w9.2 + 4) (512 : Int32)).bind fun w20 =>
  (pF w20 [0] o 12 (.ref (w9.2 + 4))).bind fun w21 =>
  (nwA 1 18688 w21 (w9.2 + 5) (18688 : Int32)).bind fun w22 =>
  (pF w22 [0] o 14 (.ref (w9.2 + 5))).bind fun w23 =>
  (nwA 1 18688 w23 (w9.2 + 6) (18688 : Int32)).bind fun w24 =>
  (pF w24 [0] o 15 (.ref (w9.2 + 6))).bind fun w25 =>
  (nwA 0 8 w25 (w9.2 + 7) (8 : Int32)).bind fun w26 =>
  (pF w26 [0] o 16 (.ref (w9.2 + 7))).bind fun w27 =>
  (nwA 0 48 w27 (w9.2 + 8) (48 : Int32)).bind fun w28 =>
  (pF w28 [0] o 17 (.ref (w9.2 + 8))).bind fun w29 =>
  (nwA 3 60 w29 (w9.2 + 9) (60 : Int32)).bind fun w30 =>
  (pF w30 [0] o 18 (.ref (w9.2 + 9))).bind fun w31 =>
  (nwQ 6 4 w31 (w9.2 + 10) (4 : Int32)).bind fun w32 =>
  (some (wup w32 (w9.2 + 11) (.inr (4, newX4)))).bind fun w33 =>
  (fX4_init N w33 (w9.2 + 11)).bind fun w34 =>
  (sR 6 [4] w34 (w9.2 + 10) (0 : Int32) (w9.2 + 11)).bind fun w35 =>
  (some (wup w35 (w9.2 + 12) (.inr (4, newX4)))).bind fun w36 =>
  (fX4_init N w36 (w9.2 + 12)).bind fun w37 =>
  (sR 6 [4] w37 (w9.2 + 10) (1 : Int32) (w9.2 + 12)).bind fun w38 =>
  (some (wup w38 (w9.2 + 13) (.inr (4, newX4)))).bind fun w39 =>
  (fX4_init N w39 (w9.2 + 13)).bind fun w40 =>
  (sR 6 [4] w40 (w9.2 + 10) (2 : Int32) (w9.2 + 13)).bind fun w41 =>
  (some (wup w41 (w9.2 + 14) (.inr (4, newX4)))).bind fun w42 =>
  (fX4_init N w42 (w9.2 + 14)).bind fun w43 =>
  (sR 6 [4] w43 (w9.2 + 10) (3 : Int32) (w9.2 + 14)).bind fun w44 =>
  (pF w44 [0] o 22 (.ref (w9.2 + 10))).bind fun w45 =>
  (nwQ 7 3 w45 (w9.2 + 15) (3 : Int32)).bind fun w46 =>
  (pF w46 [0] o 23 (.ref (w9.2 + 15))).bind fun w47 =>
  some (w47, (w9.2 + 16))

def fX0_isRows (N : Nat) (w : Wd) (v0 : Int32) (v1 : Int32) (v2 : Int32) : Option (Int32) :=
  (fX0_isIn N w v0.toInt64 (1 : Int64) (8 : Int64)).bind fun x1 =>
  if x1 = 0 then
    some (0 : Int32)
  else
    (fX0_isIn N w v1.toInt64 (0 : Int64) (9 : Int64)).bind fun x2 =>
    if x2 = 0 then
      some (0 : Int32)
    else
      (fX0_isIn N w v2.toInt64 (0 : Int64) (9 : Int64)).bind fun x3 =>
      if x3 = 0 then
        some (0 : Int32)
      else
        some (1 : Int32)

def fX0_isSooner_20 (N : Nat) (o : Nat) (v1 : Int32) (v3 : Nat) (k99 : Int32 → Wd → Option (Int32 × Wd)) : Nat → Int32 → Int32 → Wd → Option (Int32 × Wd)
  | 0, _, _, _ => none
  | n + 1, v2, v4, w =>
    (gR w [0] o 8).bind fun x6 =>
    (aI 0 w x6 v1).bind fun x7 =>
    (gI w [2, 8, 9, 10, 11] v3 3).bind fun x8 =>
    if (x7 + x8) ≤ v4 then
      k99 v2 w
    else
      (ckC w famT v3).bind fun c10 =>
      (fX2_height N w v3 v4).bind fun x9 =>
      if x9 = 0 then
        (some (v4 + (1 : Int32))).bind fun x11 =>
        fX0_isSooner_20 N o v1 v3 k99 n v2 x11 w
      else
        (ckC w famT v3).bind fun c13 =>
        (fX2_height N w v3 v4).bind fun x12 =>
        (gR w [0] o 8).bind fun x14 =>
        (ckC w famT v3).bind fun c16 =>
        (fX2_to N w v3 v4).bind fun x15 =>
        (aI 0 w x14 x15).bind fun x17 =>
        if (v4 + x12) < x17 then
          (gR w [0] o 8).bind fun x18 =>
          (ckC w famT v3).bind fun c20 =>
          (fX2_to N w v3 v4).bind fun x19 =>
          (ckC w famT v3).bind fun c22 =>
          (fX2_height N w v3 v4).bind fun x21 =>
          (sI 0 w x18 x19 (v4 + x21)).bind fun w23 =>
          (some (v4 + (1 : Int32))).bind fun x24 =>
          fX0_isSooner_20 N o v1 v3 k99 n (1 : Int32) x24 w23
        else
          (some (v4 + (1 : Int32))).bind fun x25 =>
          fX0_isSooner_20 N o v1 v3 k99 n v2 x25 w
def fX0_isSooner (N : Nat) (w : Wd) (o : Nat) (v1 : Int32) : Option (Int32 × Wd) :=
  (gR w [0] o 0).bind fun x1 =>
  (gR w [1] x1 7).bind fun x2 =>
  (aR 5 w x2 v1).bind fun x3 =>
  (gR w [0] o 8).bind fun x4 =>
  (aI 0 w x4 v1).bind fun x5 =>
  fX0_isSooner_20 N o v1 x3
    (fun y26 w27 =>
      if y26 = 0 ∨ y26 = 1 then some (y26, w27) else none)
    N (0 : Int32) x5 w

def fX0_isToss (N : Nat) (w : Wd) (o : Nat) (v1 : Int32) (v2 : Int32) (v3 : Int32) : Option (Int32) :=
  (fX0_isIn N w v2.toInt64 (0 : Int64) (9 : Int64)).bind fun x1 =>
  if x1 = 0 then
    some (0 : Int32)
  else
    (fX0_isRoof N w o v3).bind fun x2 =>
    if x2 = 0 then
      some (0 : Int32)
    else
      if 0 < v2 then
        some (1 : Int32)
      else
        if v3 = v1 then
          some (1 : Int32)
        else
          some (0 : Int32)

def fX0_takesRow_3 (N : Nat) (o : Nat) (v1 : Int32) (v2 : Nat) (v3 : Int32) (k51 : Wd → Option (Wd)) : Nat → Int32 → Wd → Option (Wd)
  | 0, _, _ => none
  | n + 1, v4, w =>
    if v3 ≤ v4 then
      k51 w
    else
      (gR w [0] o 22).bind fun x1 =>
      (aR 6 w x1 v1).bind fun x2 =>
      (ckC w [4] x2).bind fun c4 =>
      (fX4_at N w x2 v4).bind fun x3 =>
      (gR w [0] o 22).bind fun x5 =>
      (aR 6 w x5 v1).bind fun x6 =>
      (ckC w [4] x6).bind fun c8 =>
      (fX4_at N w x6 v4).bind fun x7 =>
      (ckC w famT v2).bind fun c10 =>
      (fX2_set N w v2 v4 (x3.toInt32 / (10 : Int32)) (x7.toInt32 - x7.toInt32 / (10 : Int32) * (10 : Int32))).bind fun w9 =>
      (some (v4 + (1 : Int32))).bind fun x11 =>
      fX0_takesRow_3 N o v1 v2 v3 k51 n x11 w9
def fX0_takesRow (N : Nat) (w : Wd) (o : Nat) (v1 : Int32) (v2 : Nat) (v3 : Int32) : Option (Wd) :=
  fX0_takesRow_3 N o v1 v2 v3
    (fun w12 =>
      (pF w12 [2, 8, 9, 10, 11] v2 3 (.int v3)).bind fun w13 =>
      some w13)
    N (0 : Int32) w

def fX0_keep (N : Nat) (w : Wd) (nx : Nat) (o : Nat) (v1 : Int32) : Option (Int32 × Wd × Nat) :=
  (fX0_isIn N w v1.toInt64 (0 : Int64) (2 : Int64)).bind fun x1 =>
  if x1 = 0 then
    some ((-2 : Int32), w, nx)
  else
    (gR w [0] o 23).bind fun x2 =>
    (gR w [0] o 0).bind fun x3 =>
    (ckC w [1] x3).bind fun c5 =>
    (fX1_copy N w nx x3).bind fun x4 =>
    (sR 7 [1] x4.2.1 x2 v1 x4.1).bind fun w6 =>
    some ((0 : Int32), w6, x4.2.2)

def fX0_keeps (N : Nat) (w : Wd) (o : Nat) : Option (Int32) :=
  (fX0_isCity N w o).bind fun x1 =>
  if x1 = 0 then
    some (-2 : Int32)
  else
    (gR w [0] o 0).bind fun x2 =>
    (ckC w [1] x2).bind fun c4 =>
    (fX1_keeps N w x2).bind fun x3 =>
    if x3 = 0 then
      some (0 : Int32)
    else
      some (1 : Int32)

def fX0_lands_41 (N : Nat) (w : Wd) (o : Nat) (v1 : Int32) (v2 : Int32) (v3 : Int32) (k68 : Int32 → Option (Int32)) (k82 : Option (Int32)) : Nat → Int32 → Option (Int32)
  | 0, _ => none
  | n + 1, v4 =>
    (gR w [0] o 0).bind fun x6 =>
    (gI w [1] x6 0).bind fun x7 =>
    if x7 ≤ v4 then
      k82
    else
      (gR w [0] o 0).bind fun x8 =>
      (ckC w [1] x8).bind fun c10 =>
      (fX1_isFrom N w x8 v4 v3 v1 v2).bind fun x9 =>
      if x9 = 0 then
        (some (v4 + (1 : Int32))).bind fun x11 =>
        fX0_lands_41 N w o v1 v2 v3 k68 k82 n x11
      else
        k68 v4
def fX0_lands_32 (N : Nat) (w : Wd) (o : Nat) (v1 : Int32) (v2 : Int32) (k68 : Int32 → Int32 → Option (Int32)) (k88 : Option (Int32)) : Nat → Int32 → Option (Int32)
  | 0, _ => none
  | n + 1, v3 =>
    if (9 : Int32) < v3 then
      k88
    else
      fX0_lands_41 N w o v1 v2 v3
        (fun y12 =>
          k68 v3 y12)
        (
          (some (v3 + (1 : Int32))).bind fun x13 =>
          fX0_lands_32 N w o v1 v2 k68 k88 n x13)
        N (0 : Int32)
def fX0_lands (N : Nat) (w : Wd) (o : Nat) (v1 : Int32) (v2 : Int32) : Option (Int32) :=
  (fX0_isRoof N w o v1).bind fun x1 =>
  if x1 = 0 then
    some (-2 : Int32)
  else
    (fX0_isBeat N w v2).bind fun x2 =>
    if x2 = 0 then
      some (-2 : Int32)
    else
      (gR w [0] o 0).bind fun x3 =>
      (ckC w [1] x3).bind fun c5 =>
      (fX1_keeps N w x3).bind fun x4 =>
      if x4 = 0 then
        some (-1 : Int32)
      else
        fX0_lands_32 N w o v1 v2
          (fun y14 y15 =>
            some (((10 : Int32) * y14) + y15))
          (
            some (-1 : Int32))
          N (1 : Int32)

def fX0_soonestOf_2 (N : Nat) (o : Nat) (v1 : Int32) (k23 : Wd → Option (Int32 × Wd)) : Nat → Int32 → Wd → Option (Int32 × Wd)
  | 0, _, _ => none
  | n + 1, v2, w =>
    if (6 : Int32) ≤ v2 then
      k23 w
    else
      (gR w [0] o 8).bind fun x1 =>
      (sI 0 w x1 v2 (1000000 : Int32)).bind fun w2 =>
      (some (v2 + (1 : Int32))).bind fun x3 =>
      fX0_soonestOf_2 N o v1 k23 n x3 w2
def fX0_soonestOf_56 (N : Nat) (o : Nat) (v1 : Int32) (k101 : Int32 → Wd → Option (Int32 × Wd)) : Nat → Int32 → Int32 → Wd → Option (Int32 × Wd)
  | 0, _, _, _ => none
  | n + 1, v2, v3, w =>
    (gR w [0] o 0).bind fun x13 =>
    (gI w [1] x13 0).bind fun x14 =>
    if x14 ≤ v3 then
      k101 v2 w
    else
      (gR w [0] o 8).bind fun x15 =>
      (aI 0 w x15 v3).bind fun x16 =>
      if (1000000 : Int32) ≤ x16 then
        (some ((v2 ||| (0 : Int32)))).bind fun x17 =>
        (some (v3 + (1 : Int32))).bind fun x18 =>
        fX0_soonestOf_56 N o v1 k101 n x17 x18 w
      else
        (fX0_isSooner N w o v3).bind fun x19 =>
        if x19.1 = 0 then
          (some ((v2 ||| (0 : Int32)))).bind fun x20 =>
          (some (v3 + (1 : Int32))).bind fun x21 =>
          fX0_soonestOf_56 N o v1 k101 n x20 x21 x19.2
        else
          (some ((v2 ||| (1 : Int32)))).bind fun x22 =>
          (some (v3 + (1 : Int32))).bind fun x23 =>
          fX0_soonestOf_56 N o v1 k101 n x22 x23 x19.2
def fX0_soonestOf_48 (N : Nat) (o : Nat) (v1 : Int32) (k104 : Wd → Option (Int32 × Wd)) : Nat → Int32 → Wd → Option (Int32 × Wd)
  | 0, _, _ => none
  | n + 1, v2, w =>
    if v2 = 0 then
      k104 w
    else
      fX0_soonestOf_56 N o v1
        (fun y24 w25 =>
          fX0_soonestOf_48 N o v1 k104 n y24 w25)
        N (0 : Int32) (0 : Int32) w
def fX0_soonestOf (N : Nat) (w : Wd) (o : Nat) (v1 : Int32) : Option (Int32 × Wd) :=
  fX0_soonestOf_2 N o v1
    (fun w4 =>
      (gR w4 [0] o 8).bind fun x5 =>
      (gR w4 [0] o 0).bind fun x6 =>
      (gR w4 [1] x6 10).bind fun x7 =>
      (aI 0 w4 x7 v1).bind fun x8 =>
      (gR w4 [0] o 0).bind fun x9 =>
      (gR w4 [1] x9 11).bind fun x10 =>
      (aI 0 w4 x10 v1).bind fun x11 =>
      (sI 0 w4 x5 x8 x11).bind fun w12 =>
      fX0_soonestOf_48 N o v1
        (fun w26 =>
          (gR w26 [0] o 8).bind fun x27 =>
          (gR w26 [0] o 0).bind fun x28 =>
          (gR w26 [1] x28 12).bind fun x29 =>
          (aI 0 w26 x29 v1).bind fun x30 =>
          (aI 0 w26 x27 x30).bind fun x31 =>
          if x31 = (1000000 : Int32) then
            some ((-1 : Int32), w26)
          else
            (gR w26 [0] o 8).bind fun x32 =>
            (gR w26 [0] o 0).bind fun x33 =>
            (gR w26 [1] x33 12).bind fun x34 =>
            (aI 0 w26 x34 v1).bind fun x35 =>
            (aI 0 w26 x32 x35).bind fun x36 =>
            some (x36, w26))
        N (1 : Int32) w12)
    N (0 : Int32) w

def fX0_latest_45 (N : Nat) (o : Nat) (v1 : Int32) (v2 : Int32) (v3 : Int32) (k91 : Int32 → Wd → Option (Int32 × Wd)) : Nat → Int32 → Int32 → Wd → Option (Int32 × Wd)
  | 0, _, _, _ => none
  | n + 1, v4, v5, w =>
    if v5 < v3 then
      k91 v4 w
    else
      if v4 = (-1 : Int32) then
        (gR w [0] o 0).bind fun x7 =>
        (gR w [1] x7 11).bind fun x8 =>
        (sI 0 w x8 v1 v5).bind fun w9 =>
        (fX0_soonestOf N w9 o v1).bind fun x10 =>
        if v2 < x10.1 then
          (some (v5 + (-1 : Int32))).bind fun x11 =>
          fX0_latest_45 N o v1 v2 v3 k91 n (-1 : Int32) x11 x10.2
        else
          (some (v5 + (-1 : Int32))).bind fun x12 =>
          fX0_latest_45 N o v1 v2 v3 k91 n v5 x12 x10.2
      else
        k91 v4 w
def fX0_latest (N : Nat) (w : Wd) (o : Nat) (v1 : Int32) (v2 : Int32) : Option (Int32 × Wd) :=
  (fX0_isLetter N w o v1).bind fun x1 =>
  if x1 = 0 then
    some ((-2 : Int32), w)
  else
    (fX0_isBeat N w v2).bind fun x2 =>
    if x2 = 0 then
      some ((-2 : Int32), w)
    else
      (gR w [0] o 0).bind fun x3 =>
      (gR w [1] x3 11).bind fun x4 =>
      (aI 0 w x4 v1).bind fun x5 =>
      (fX0_soonestOf N w o v1).bind fun x6 =>
      if x6.1 = (-1 : Int32) then
        some ((-1 : Int32), x6.2)
      else
        fX0_latest_45 N o v1 v2 x5
          (fun y13 w14 =>
            (gR w14 [0] o 0).bind fun x15 =>
            (gR w14 [1] x15 11).bind fun x16 =>
            (sI 0 w14 x16 v1 x5).bind fun w17 =>
            some (y13, w17))
          N (-1 : Int32) v2 x6.2

def fX0_throwsOn_34 (N : Nat) (w : Wd) (o : Nat) (v1 : Int32) (v2 : Int32) (v3 : Int32) (v4 : Int32) (v5 : Int32) (v6 : Int32) (v7 : Int32) (s0 : Int32) (s1 : Int32) (r17 : Int32 → Wd → Option (Wd)) (k108 : Wd → Option (Wd)) : Option (Wd) :=
  if s1 < s0 then
    k108 w
  else
    if v1 = 0 then none else
    (some (((v3 + v7) - (v3 + v7) / v1 * v1))).bind fun x1 =>
    (fX0_has N w v4 x1).bind fun x2 =>
    if x2 = 0 then
      if (73 : Int32) ≤ (v5 + v7) then
        (some (v7 + (1 : Int32))).bind fun x4 =>
        r17 x4 w
      else
        (gR w [0] o 15).bind fun x5 =>
        (aL w x5 ((((73 : Int32) * (v4 ||| ((1 : Int32) <<< (x1 &&& 31)))) + v5) + v7)).bind fun x6 =>
        (gR w [0] o 14).bind fun x7 =>
        (aL w x7 (((73 : Int32) * v4) + v5)).bind fun x8 =>
        (sL w x5 ((((73 : Int32) * (v4 ||| ((1 : Int32) <<< (x1 &&& 31)))) + v5) + v7) (x6 + x8)).bind fun w9 =>
        (some (v7 + (1 : Int32))).bind fun x10 =>
        r17 x10 w9
    else
      (some (v7 + (1 : Int32))).bind fun x3 =>
      r17 x3 w
def fX0_throwsOn_17 (N : Nat) (o : Nat) (v1 : Int32) (v2 : Int32) (v3 : Int32) (v4 : Int32) (v5 : Int32) (v6 : Int32) (k108 : Wd → Option (Wd)) : Nat → Int32 → Wd → Option (Wd)
  | 0, _, _ => none
  | n + 1, v7, w =>
    if v6 = 0 then
      fX0_throwsOn_34 N w o v1 v2 v3 v4 v5 v6 v7 v7 v2 (fX0_throwsOn_17 N o v1 v2 v3 v4 v5 v6 k108 n) k108
    else
      (gR w [0] o 16).bind fun x11 =>
      (aI 0 w x11 v3).bind fun x12 =>
      fX0_throwsOn_34 N w o v1 v2 v3 v4 v5 v6 v7 v7 x12 (fX0_throwsOn_17 N o v1 v2 v3 v4 v5 v6 k108 n) k108
def fX0_throwsOn (N : Nat) (w : Wd) (o : Nat) (v1 : Int32) (v2 : Int32) (v3 : Int32) (v4 : Int32) (v5 : Int32) (v6 : Int32) : Option (Wd) :=
  if v6 = 0 then
    fX0_throwsOn_17 N o v1 v2 v3 v4 v5 v6
      (fun w13 =>
        some w13)
      N (0 : Int32) w
  else
    (gR w [0] o 16).bind fun x14 =>
    (aI 0 w x14 v3).bind fun x15 =>
    fX0_throwsOn_17 N o v1 v2 v3 v4 v5 v6
      (fun w16 =>
        some w16)
      N x15 w

def fX0_waysWith_3 (N : Nat) (o : Nat) (v1 : Int32) (v2 : Int32) (v3 : Int32) (v4 : Int32) (k36 : Wd → Option (Int64 × Wd)) : Nat → Int32 → Wd → Option (Int64 × Wd)
  | 0, _, _ => none
  | n + 1, v5, w =>
    (gR w [0] o 14).bind fun x1 =>
    (aLen w x1).bind fun x2 =>
    if x2 ≤ v5 then
      k36 w
    else
      (gR w [0] o 14).bind fun x3 =>
      if v5 = 0 then
        (sL w x3 v5 (1 : Int64)).bind fun w6 =>
        (some (v5 + (1 : Int32))).bind fun x7 =>
        fX0_waysWith_3 N o v1 v2 v3 v4 k36 n x7 w6
      else
        (sL w x3 v5 (0 : Int64)).bind fun w4 =>
        (some (v5 + (1 : Int32))).bind fun x5 =>
        fX0_waysWith_3 N o v1 v2 v3 v4 k36 n x5 w4
def fX0_waysWith_48 (N : Nat) (o : Nat) (v1 : Int32) (v2 : Int32) (v3 : Int32) (v4 : Int32) (v5 : Int32) (k72 : Wd → Option (Int64 × Wd)) : Nat → Int32 → Wd → Option (Int64 × Wd)
  | 0, _, _ => none
  | n + 1, v6, w =>
    (gR w [0] o 15).bind fun x9 =>
    (aLen w x9).bind fun x10 =>
    if x10 ≤ v6 then
      k72 w
    else
      (gR w [0] o 15).bind fun x11 =>
      (sL w x11 v6 (0 : Int64)).bind fun w12 =>
      (some (v6 + (1 : Int32))).bind fun x13 =>
      fX0_waysWith_48 N o v1 v2 v3 v4 v5 k72 n x13 w12
def fX0_waysWith_86 (N : Nat) (o : Nat) (v1 : Int32) (v2 : Int32) (v3 : Int32) (v4 : Int32) (v5 : Int32) (v6 : Int32) (k141 : Wd → Option (Int64 × Wd)) : Nat → Int32 → Wd → Option (Int64 × Wd)
  | 0, _, _ => none
  | n + 1, v7, w =>
    if (73 : Int32) ≤ v7 then
      k141 w
    else
      (gR w [0] o 14).bind fun x15 =>
      (aL w x15 (((73 : Int32) * v6) + v7)).bind fun x16 =>
      if (lg_cmp x16 (0 : Int64)) ≤ 0 then
        (some (v7 + (1 : Int32))).bind fun x17 =>
        fX0_waysWith_86 N o v1 v2 v3 v4 v5 v6 k141 n x17 w
      else
        if v4 ≤ v5 then
          (fX0_throwsOn N w o v1 v3 v5 v6 v7 (0 : Int32)).bind fun w18 =>
          (some (v7 + (1 : Int32))).bind fun x19 =>
          fX0_waysWith_86 N o v1 v2 v3 v4 v5 v6 k141 n x19 w18
        else
          (fX0_throwsOn N w o v1 v3 v5 v6 v7 (1 : Int32)).bind fun w20 =>
          (some (v7 + (1 : Int32))).bind fun x21 =>
          fX0_waysWith_86 N o v1 v2 v3 v4 v5 v6 k141 n x21 w20
def fX0_waysWith_75 (N : Nat) (o : Nat) (v1 : Int32) (v2 : Int32) (v3 : Int32) (v4 : Int32) (v5 : Int32) (k147 : Wd → Option (Int64 × Wd)) : Nat → Int32 → Wd → Option (Int64 × Wd)
  | 0, _, _ => none
  | n + 1, v6, w =>
    if ((1 : Int32) <<< (v1 &&& 31)) ≤ v6 then
      k147 w
    else
      fX0_waysWith_86 N o v1 v2 v3 v4 v5 v6
        (fun w22 =>
          (some (v6 + (1 : Int32))).bind fun x23 =>
          fX0_waysWith_75 N o v1 v2 v3 v4 v5 k147 n x23 w22)
        N (0 : Int32) w
def fX0_waysWith_39 (N : Nat) (o : Nat) (v1 : Int32) (v2 : Int32) (v3 : Int32) (v4 : Int32) (k171 : Wd → Option (Int64 × Wd)) : Nat → Int32 → Wd → Option (Int64 × Wd)
  | 0, _, _ => none
  | n + 1, v5, w =>
    if v1 ≤ v5 then
      k171 w
    else
      fX0_waysWith_48 N o v1 v2 v3 v4 v5
        (fun w14 =>
          fX0_waysWith_75 N o v1 v2 v3 v4 v5
            (fun w24 =>
              (gR w24 [0] o 15).bind fun x25 =>
              (gR w24 [0] o 14).bind fun x26 =>
              (gR w24 [0] o 14).bind fun x27 =>
              (aLen w24 x27).bind fun x28 =>
              (cpL w24 x25 (0 : Int32) x26 (0 : Int32) x28).bind fun w29 =>
              (some (v5 + (1 : Int32))).bind fun x30 =>
              fX0_waysWith_39 N o v1 v2 v3 v4 k171 n x30 w29)
            N (0 : Int32) w14)
        N (0 : Int32) w
def fX0_waysWith (N : Nat) (w : Wd) (o : Nat) (v1 : Int32) (v2 : Int32) (v3 : Int32) (v4 : Int32) : Option (Int64 × Wd) :=
  fX0_waysWith_3 N o v1 v2 v3 v4
    (fun w8 =>
      fX0_waysWith_39 N o v1 v2 v3 v4
        (fun w31 =>
          if (73 : Int32) ≤ (v2 * v1) then
            some ((0 : Int64), w31)
          else
            (gR w31 [0] o 14).bind fun x32 =>
            (aL w31 x32 (((73 : Int32) * (((1 : Int32) <<< (v1 &&& 31)) - (1 : Int32))) + (v2 * v1))).bind fun x33 =>
            some (x33, w31))
        N (0 : Int32) w8)
    N (0 : Int32) w

def fX0_least_59 (N : Nat) (o : Nat) (v1 : Int32) (v2 : Int32) (v3 : Int32) (v4 : Int32) (v5 : Int32) (k89 : Wd → Option (Int32 × Wd)) : Nat → Wd → Option (Int32 × Wd)
  | 0, _ => none
  | n + 1, w =>
    (fX0_waysWith N w o v1 v2 v3 (v5 + (1 : Int32))).bind fun x6 =>
    if (lg_cmp x6.1 (0 : Int64)) = 0 then
      (gR x6.2 [0] o 16).bind fun x7 =>
      (aI 0 x6.2 x7 v5).bind fun x8 =>
      (sI 0 x6.2 x7 v5 (x8 + (1 : Int32))).bind fun w9 =>
      fX0_least_59 N o v1 v2 v3 v4 v5 k89 n w9
    else
      k89 x6.2
def fX0_least_44 (N : Nat) (o : Nat) (v1 : Int32) (v2 : Int32) (v3 : Int32) (v4 : Int32) (k95 : Wd → Option (Int32 × Wd)) : Nat → Int32 → Wd → Option (Int32 × Wd)
  | 0, _, _ => none
  | n + 1, v5, w =>
    if v4 < v5 then
      k95 w
    else
      (gR w [0] o 16).bind fun x4 =>
      (sI 0 w x4 v5 (0 : Int32)).bind fun w5 =>
      fX0_least_59 N o v1 v2 v3 v4 v5
        (fun w10 =>
          (some (v5 + (1 : Int32))).bind fun x11 =>
          fX0_least_44 N o v1 v2 v3 v4 k95 n x11 w10)
        N w5
def fX0_least (N : Nat) (w : Wd) (o : Nat) (v1 : Int32) (v2 : Int32) (v3 : Int32) (v4 : Int32) : Option (Int32 × Wd) :=
  (fX0_isRows N w v1 v2 v3).bind fun x1 =>
  if x1 = 0 then
    some ((-2 : Int32), w)
  else
    (fX0_isIn N w v4.toInt64 (0 : Int64) ((v1 - (1 : Int32)).toInt64)).bind fun x2 =>
    if x2 = 0 then
      some ((-2 : Int32), w)
    else
      (fX0_waysWith N w o v1 v2 v3 (0 : Int32)).bind fun x3 =>
      if (lg_cmp x3.1 (0 : Int64)) = 0 then
        some ((-1 : Int32), x3.2)
      else
        fX0_least_44 N o v1 v2 v3 v4
          (fun w12 =>
            (gR w12 [0] o 16).bind fun x13 =>
            (aI 0 w12 x13 v4).bind fun x14 =>
            some (x14, w12))
          N (0 : Int32) x3.2

def fX0_letter (N : Nat) (w : Wd) (o : Nat) (v1 : Int32) (v2 : Int32) : Option (Int32) :=
  (fX0_isLetter N w o v1).bind fun x1 =>
  if x1 = 0 then
    some (-2 : Int32)
  else
    (fX0_isIn N w v2.toInt64 (0 : Int64) (2 : Int64)).bind fun x2 =>
    if x2 = 0 then
      some (-2 : Int32)
    else
      if v2 = 0 then
        (gR w [0] o 0).bind fun x9 =>
        (gR w [1] x9 10).bind fun x10 =>
        (aI 0 w x10 v1).bind fun x11 =>
        some x11
      else
        if v2 = (1 : Int32) then
          (gR w [0] o 0).bind fun x6 =>
          (gR w [1] x6 11).bind fun x7 =>
          (aI 0 w x7 v1).bind fun x8 =>
          some x8
        else
          (gR w [0] o 0).bind fun x3 =>
          (gR w [1] x3 12).bind fun x4 =>
          (aI 0 w x4 v1).bind fun x5 =>
          some x5

def fX0_missed_50 (N : Nat) (o : Nat) (v2 : Int32) (v3 : Int32) (v4 : Int32) (k95 : Int32 → Wd → Option (Int32 × Wd)) : Nat → Int32 → Wd → Option (Int32 × Wd)
  | 0, _, _ => none
  | n + 1, v6, w =>
    (gR w [0] o 6).bind fun x7 =>
    (gI w [3] x7 1).bind fun x8 =>
    if (v2 + v4) < x8 then
      k95 v6 w
    else
      (gR w [0] o 6).bind fun x9 =>
      (gI w [3] x9 0).bind fun x10 =>
      if x10 = v3 then
        (some ((v6 + (1 : Int32)))).bind fun x15 =>
        (gR w [0] o 6).bind fun x16 =>
        (ckC w [3] x16).bind fun c18 =>
        (fX3_goes N w x16).bind fun w17 =>
        fX0_missed_50 N o v2 v3 v4 k95 n x15 w17
      else
        (some ((v6 + (0 : Int32)))).bind fun x11 =>
        (gR w [0] o 6).bind fun x12 =>
        (ckC w [3] x12).bind fun c14 =>
        (fX3_goes N w x12).bind fun w13 =>
        fX0_missed_50 N o v2 v3 v4 k95 n x11 w13
def fX0_missed (N : Nat) (w : Wd) (o : Nat) (v1 : Int32) (v2 : Int32) (v3 : Int32) (v4 : Int32) : Option (Int32 × Wd) :=
  (fX0_isRoof N w o v3).bind fun x1 =>
  if x1 = 0 then
    some ((-2 : Int32), w)
  else
    (fX0_isIn N w v4.toInt64 (0 : Int64) (10000 : Int64)).bind fun x2 =>
    if x2 = 0 then
      some ((-2 : Int32), w)
    else
      (fX0_asksBall N w o v1 v2).bind fun x3 =>
      if 0 ≤ x3.1 then
        (gR x3.2 [0] o 6).bind fun x4 =>
        (ckC x3.2 [3] x4).bind fun c6 =>
        (fX3_goes N x3.2 x4).bind fun w5 =>
        fX0_missed_50 N o v2 v3 v4
          (fun y19 w20 =>
            some (y19, w20))
          N (0 : Int32) w5
      else
        some (x3.1, x3.2)

def fX0_misses (N : Nat) (w : Wd) (o : Nat) (v1 : Int32) (v2 : Int32) (v3 : Int32) : Option (Int32 × Wd) :=
  (fX0_isRoof N w o v3).bind fun x1 =>
  if x1 = 0 then
    some ((-2 : Int32), w)
  else
    (fX0_asksBall N w o v1 v2).bind fun x2 =>
    if 0 ≤ x2.1 then
      (fX0_nextOn N x2.2 o v3).bind fun x3 =>
      some (x3.1, x3.2)
    else
      some (x2.1, x2.2)

def fX0_orbitOf_18 (N : Nat) (o : Nat) (v1 : Int32) (v2 : Int32) (v3 : Int32) (v4 : Int32) (k80 : Int32 → Int32 → Int32 → Wd → Option (Int32 × Wd)) : Nat → Int32 → Int32 → Int32 → Wd → Option (Int32 × Wd)
  | 0, _, _, _, _ => none
  | n + 1, v5, v6, v7, w =>
    (some (v5 + (1 : Int32))).bind fun x4 =>
    (gR w [0] o 6).bind fun x5 =>
    (gI w [3] x5 0).bind fun x6 =>
    (some ((v7 ||| ((1 : Int32) <<< (x6 &&& 31))))).bind fun x7 =>
    (gR w [0] o 6).bind fun x8 =>
    (ckC w [3] x8).bind fun c10 =>
    (fX3_height N w x8).bind fun x9 =>
    (some ((v6 + x9))).bind fun x11 =>
    (gR w [0] o 6).bind fun x12 =>
    (ckC w [3] x12).bind fun c14 =>
    (fX3_goes N w x12).bind fun w13 =>
    (gR w13 [0] o 6).bind fun x15 =>
    (gI w13 [3] x15 0).bind fun x16 =>
    if x16 = v1 then
      (gR w13 [0] o 6).bind fun x17 =>
      (gI w13 [3] x17 1).bind fun x18 =>
      if v4 = 0 then none else
      if ((x18 - v2) - (x18 - v2) / v4 * v4) = 0 then
        k80 x4 x11 x7 w13
      else
        fX0_orbitOf_18 N o v1 v2 v3 v4 k80 n x4 x11 x7 w13
    else
      fX0_orbitOf_18 N o v1 v2 v3 v4 k80 n x4 x11 x7 w13
def fX0_orbitOf (N : Nat) (w : Wd) (o : Nat) (v1 : Int32) (v2 : Int32) (v3 : Int32) : Option (Int32 × Wd) :=
  (gR w [0] o 0).bind fun x1 =>
  (ckC w [1] x1).bind fun c3 =>
  (fX1_round N w x1).bind fun x2 =>
  fX0_orbitOf_18 N o v1 v2 v3 x2
    (fun y19 y20 y21 w22 =>
      if v3 = 0 then
        some (y19, w22)
      else
        if v3 = (1 : Int32) then
          some (y20, w22)
        else
          if v3 = (2 : Int32) then
            if x2 = 0 then none else
            some ((y20 / x2), w22)
          else
            some (y21, w22))
    N (0 : Int32) (0 : Int32) (0 : Int32) w

def fX0_orbit (N : Nat) (w : Wd) (o : Nat) (v1 : Int32) (v2 : Int32) (v3 : Int32) : Option (Int32 × Wd) :=
  (fX0_isIn N w v3.toInt64 (0 : Int64) (3 : Int64)).bind fun x1 =>
  if x1 = 0 then
    some ((-2 : Int32), w)
  else
    (fX0_asksBall N w o v1 v2).bind fun x2 =>
    if 0 ≤ x2.1 then
      (fX0_orbitOf N x2.2 o v1 v2 v3).bind fun x3 =>
      some (x3.1, x3.2)
    else
      some (x2.1, x2.2)

def fX0_orbits_32 (N : Nat) (o : Nat) (v1 : Int32) (k54 : Wd → Option (Int32 × Wd)) : Nat → Int32 → Wd → Option (Int32 × Wd)
  | 0, _, _ => none
  | n + 1, v2, w =>
    (gR w [0] o 7).bind fun x8 =>
    (aLen w x8).bind fun x9 =>
    if x9 ≤ v2 then
      k54 w
    else
      (gR w [0] o 7).bind fun x10 =>
      (sI 3 w x10 v2 (0 : Int32)).bind fun w11 =>
      (some (v2 + (1 : Int32))).bind fun x12 =>
      fX0_orbits_32 N o v1 k54 n x12 w11
def fX0_orbits_113 (N : Nat) (o : Nat) (v1 : Int32) (v2 : Int32) (v3 : Int32) (v4 : Int32) (k179 : Wd → Option (Int32 × Wd)) : Nat → Wd → Option (Int32 × Wd)
  | 0, _ => none
  | n + 1, w =>
    (gR w [0] o 7).bind fun x23 =>
    (gR w [0] o 6).bind fun x24 =>
    (gI w [3] x24 0).bind fun x25 =>
    (gR w [0] o 6).bind fun x26 =>
    (gI w [3] x26 1).bind fun x27 =>
    if v1 = 0 then none else
    (aI 3 w x23 (((840 : Int32) * x25) + (x27 - x27 / v1 * v1))).bind fun x28 =>
    if x28 = 0 then
      (gR w [0] o 7).bind fun x29 =>
      (gR w [0] o 6).bind fun x30 =>
      (gI w [3] x30 0).bind fun x31 =>
      (gR w [0] o 6).bind fun x32 =>
      (gI w [3] x32 1).bind fun x33 =>
      if v1 = 0 then none else
      (sI 3 w x29 (((840 : Int32) * x31) + (x33 - x33 / v1 * v1)) (1 : Int32)).bind fun w34 =>
      (gR w34 [0] o 6).bind fun x35 =>
      (ckC w34 [3] x35).bind fun c37 =>
      (fX3_goes N w34 x35).bind fun w36 =>
      fX0_orbits_113 N o v1 v2 v3 v4 k179 n w36
    else
      k179 w
def fX0_orbits_72 (N : Nat) (o : Nat) (v1 : Int32) (v3 : Int32) (k185 : Int32 → Wd → Option (Int32 × Wd)) : Nat → Int32 → Int32 → Wd → Option (Int32 × Wd)
  | 0, _, _, _ => none
  | n + 1, v2, v4, w =>
    if v1 ≤ v4 then
      k185 v2 w
    else
      (gR w [0] o 7).bind fun x16 =>
      (aI 3 w x16 (((840 : Int32) * v3) + v4)).bind fun x17 =>
      if x17 = 0 then
        (gR w [0] o 6).bind fun x19 =>
        (ckC w [3] x19).bind fun c21 =>
        (fX3_begin N w x19 v3 v4).bind fun x20 =>
        if x20.1 = 0 then
          (some (v4 + (1 : Int32))).bind fun x40 =>
          fX0_orbits_72 N o v1 v3 k185 n v2 x40 x20.2
        else
          (some (v2 + (1 : Int32))).bind fun x22 =>
          fX0_orbits_113 N o v1 x22 v3 v4
            (fun w38 =>
              (some (v4 + (1 : Int32))).bind fun x39 =>
              fX0_orbits_72 N o v1 v3 k185 n x22 x39 w38)
            N x20.2
      else
        (some (v4 + (1 : Int32))).bind fun x18 =>
        fX0_orbits_72 N o v1 v3 k185 n v2 x18 w
def fX0_orbits_58 (N : Nat) (o : Nat) (v1 : Int32) (k191 : Int32 → Wd → Option (Int32 × Wd)) : Nat → Int32 → Int32 → Wd → Option (Int32 × Wd)
  | 0, _, _, _ => none
  | n + 1, v2, v3, w =>
    (gR w [0] o 0).bind fun x14 =>
    (gI w [1] x14 0).bind fun x15 =>
    if x15 ≤ v3 then
      k191 v2 w
    else
      fX0_orbits_72 N o v1 v3
        (fun y41 w42 =>
          (some (v3 + (1 : Int32))).bind fun x43 =>
          fX0_orbits_58 N o v1 k191 n y41 x43 w42)
        N v2 (0 : Int32) w
def fX0_orbits (N : Nat) (w : Wd) (o : Nat) : Option (Int32 × Wd) :=
  (fX0_isCity N w o).bind fun x1 =>
  if x1 = 0 then
    some ((-2 : Int32), w)
  else
    (gR w [0] o 0).bind fun x2 =>
    (ckC w [1] x2).bind fun c4 =>
    (fX1_keeps N w x2).bind fun x3 =>
    if x3 = 0 then
      some ((-1 : Int32), w)
    else
      (gR w [0] o 0).bind fun x5 =>
      (ckC w [1] x5).bind fun c7 =>
      (fX1_round N w x5).bind fun x6 =>
      fX0_orbits_32 N o x6
        (fun w13 =>
          fX0_orbits_58 N o x6
            (fun y44 w45 =>
              some (y44, w45))
            N (0 : Int32) (0 : Int32) w13)
        N (0 : Int32) w

def fX0_period (N : Nat) (w : Wd) (o : Nat) (v1 : Int32) : Option (Int32) :=
  (fX0_isRoof N w o v1).bind fun x1 =>
  if x1 = 0 then
    some (-2 : Int32)
  else
    (gR w [0] o 0).bind fun x2 =>
    (gR w [1] x2 7).bind fun x3 =>
    (aR 5 w x3 v1).bind fun x4 =>
    (gI w [2, 8, 9, 10, 11] x4 3).bind fun x5 =>
    some x5

def fX0_readers_25 (N : Nat) (o : Nat) (v2 : Int32) (k60 : Int32 → Wd → Option (Int32 × Wd)) : Nat → Int32 → Wd → Option (Int32 × Wd)
  | 0, _, _ => none
  | n + 1, v4, w =>
    (gR w [0] o 6).bind fun x3 =>
    (gI w [3] x3 1).bind fun x4 =>
    if v2 < x4 then
      k60 v4 w
    else
      (gR w [0] o 6).bind fun x5 =>
      (gI w [3] x5 0).bind fun x6 =>
      (some ((v4 ||| ((1 : Int32) <<< (x6 &&& 31))))).bind fun x7 =>
      (gR w [0] o 6).bind fun x8 =>
      (ckC w [3] x8).bind fun c10 =>
      (fX3_goes N w x8).bind fun w9 =>
      fX0_readers_25 N o v2 k60 n x7 w9
def fX0_readers (N : Nat) (w : Wd) (o : Nat) (v1 : Int32) (v2 : Int32) : Option (Int32 × Wd) :=
  (fX0_isBeat N w v2).bind fun x1 =>
  if x1 = 0 then
    some ((-2 : Int32), w)
  else
    (fX0_asksLetter N w o v1).bind fun x2 =>
    if 0 ≤ x2.1 then
      fX0_readers_25 N o v2
        (fun y11 w12 =>
          some (y11, w12))
        N (0 : Int32) x2.2
    else
      some (x2.1, x2.2)

def fX0_rows (N : Nat) (w : Wd) (o : Nat) (v1 : Int32) (v2 : Int32) (v3 : Int32) : Option (Int64 × Wd) :=
  (fX0_isRows N w v1 v2 v3).bind fun x1 =>
  if x1 = 0 then
    some ((-2 : Int64), w)
  else
    (fX0_waysWith N w o v1 v2 v3 (0 : Int32)).bind fun x2 =>
    some (x2.1, x2.2)

def fX0_same_35 (N : Nat) (o : Nat) (v3 : Int32) (v4 : Int32) (k57 : Wd → Option (Int32 × Wd)) : Nat → Wd → Option (Int32 × Wd)
  | 0, _ => none
  | n + 1, w =>
    (gR w [0] o 6).bind fun x4 =>
    (gI w [3] x4 1).bind fun x5 =>
    if v4 ≤ x5 then
      k57 w
    else
      (gR w [0] o 6).bind fun x6 =>
      (ckC w [3] x6).bind fun c8 =>
      (fX3_goes N w x6).bind fun w7 =>
      fX0_same_35 N o v3 v4 k57 n w7
def fX0_same (N : Nat) (w : Wd) (o : Nat) (v1 : Int32) (v2 : Int32) (v3 : Int32) (v4 : Int32) : Option (Int32 × Wd) :=
  (fX0_isRoof N w o v3).bind fun x1 =>
  if x1 = 0 then
    some ((-2 : Int32), w)
  else
    (fX0_isBeat N w v4).bind fun x2 =>
    if x2 = 0 then
      some ((-2 : Int32), w)
    else
      (fX0_asksBall N w o v1 v2).bind fun x3 =>
      if 0 ≤ x3.1 then
        fX0_same_35 N o v3 v4
          (fun w9 =>
            (gR w9 [0] o 6).bind fun x10 =>
            (gI w9 [3] x10 1).bind fun x11 =>
            if x11 = v4 then
              (gR w9 [0] o 6).bind fun x12 =>
              (gI w9 [3] x12 0).bind fun x13 =>
              if x13 = v3 then
                some ((1 : Int32), w9)
              else
                some ((0 : Int32), w9)
            else
              some ((0 : Int32), w9))
          N x3.2
      else
        some (x3.1, x3.2)

def fX0_set (N : Nat) (w : Wd) (o : Nat) (v1 : Int32) (v2 : Int32) (v3 : Int32) (v4 : Int32) : Option (Int32 × Wd) :=
  (fX0_isThrow N w o v1 v2).bind fun x1 =>
  if x1 = 0 then
    some ((-2 : Int32), w)
  else
    (fX0_isToss N w o v1 v3 v4).bind fun x2 =>
    if x2 = 0 then
      some ((-2 : Int32), w)
    else
      (gR w [0] o 0).bind fun x3 =>
      (gR w [1] x3 7).bind fun x4 =>
      (aR 5 w x4 v1).bind fun x5 =>
      (ckC w famT x5).bind fun c7 =>
      (fX2_height N w x5 v2).bind fun x6 =>
      (ckC w famT x5).bind fun c9 =>
      (fX2_to N w x5 v2).bind fun x8 =>
      (some ((((10 : Int32) * x6) + x8))).bind fun x10 =>
      (ckC w famT x5).bind fun c12 =>
      (fX2_set N w x5 v2 v3 v4).bind fun w11 =>
      some (x10, w11)

def fX0_shift_33 (N : Nat) (o : Nat) (v2 : Int32) (v3 : Nat) (k76 : Wd → Option (Int32 × Wd)) : Nat → Int32 → Wd → Option (Int32 × Wd)
  | 0, _, _ => none
  | n + 1, v4, w =>
    (gI w [2, 8, 9, 10, 11] v3 3).bind fun x8 =>
    if x8 ≤ v4 then
      k76 w
    else
      (gR w [0] o 5).bind fun x9 =>
      (ckC w famT x9).bind fun c11 =>
      (fX2_height N w x9 (v4 + v2)).bind fun x10 =>
      (gR w [0] o 5).bind fun x12 =>
      (ckC w famT x12).bind fun c14 =>
      (fX2_to N w x12 (v4 + v2)).bind fun x13 =>
      (ckC w famT v3).bind fun c16 =>
      (fX2_set N w v3 v4 x10 x13).bind fun w15 =>
      (some (v4 + (1 : Int32))).bind fun x17 =>
      fX0_shift_33 N o v2 v3 k76 n x17 w15
def fX0_shift (N : Nat) (w : Wd) (o : Nat) (v1 : Int32) (v2 : Int32) : Option (Int32 × Wd) :=
  (fX0_isThrow N w o v1 v2).bind fun x1 =>
  if x1 = 0 then
    some ((-2 : Int32), w)
  else
    (gR w [0] o 0).bind fun x2 =>
    (gR w [1] x2 7).bind fun x3 =>
    (aR 5 w x3 v1).bind fun x4 =>
    (gR w [0] o 5).bind fun x5 =>
    (ckC w famT x5).bind fun c7 =>
    (fX2_be N w x5 x4).bind fun w6 =>
    fX0_shift_33 N o v2 x4
      (fun w18 =>
        (gI w18 [2, 8, 9, 10, 11] x4 3).bind fun x19 =>
        some (x19, w18))
      N (0 : Int32) w6

def fX0_silent_24 (N : Nat) (w : Wd) (o : Nat) (v1 : Int32) (v2 : Int32) (k61 : Int32 → Option (Int32)) : Nat → Int32 → Int32 → Option (Int32)
  | 0, _, _ => none
  | n + 1, v3, v4 =>
    if v2 ≤ v4 then
      k61 v3
    else
      (gR w [0] o 0).bind fun x5 =>
      (gR w [1] x5 7).bind fun x6 =>
      (aR 5 w x6 v1).bind fun x7 =>
      (ckC w famT x7).bind fun c9 =>
      (fX2_height N w x7 v4).bind fun x8 =>
      if x8 = 0 then
        (some ((v3 + (1 : Int32)))).bind fun x12 =>
        (some (v4 + (1 : Int32))).bind fun x13 =>
        fX0_silent_24 N w o v1 v2 k61 n x12 x13
      else
        (some ((v3 + (0 : Int32)))).bind fun x10 =>
        (some (v4 + (1 : Int32))).bind fun x11 =>
        fX0_silent_24 N w o v1 v2 k61 n x10 x11
def fX0_silent (N : Nat) (w : Wd) (o : Nat) (v1 : Int32) : Option (Int32) :=
  (fX0_isRoof N w o v1).bind fun x1 =>
  if x1 = 0 then
    some (-2 : Int32)
  else
    (gR w [0] o 0).bind fun x2 =>
    (ckC w [1] x2).bind fun c4 =>
    (fX1_round N w x2).bind fun x3 =>
    fX0_silent_24 N w o v1 x3
      (fun y14 =>
        some y14)
      N (0 : Int32) (0 : Int32)

def fX0_soonest (N : Nat) (w : Wd) (o : Nat) (v1 : Int32) (v2 : Int32) : Option (Int32 × Wd) :=
  (fX0_isLetter N w o v1).bind fun x1 =>
  if x1 = 0 then
    some ((-2 : Int32), w)
  else
    (fX0_isIn N w v2.toInt64 (0 : Int64) (2 : Int64)).bind fun x2 =>
    if x2 = 0 then
      some ((-2 : Int32), w)
    else
      (fX0_soonestOf N w o v1).bind fun x3 =>
      if x3.1 = (-1 : Int32) then
        some (x3.1, x3.2)
      else
        if v2 = 0 then
          some (x3.1, x3.2)
        else
          (fX0_goesWay N x3.2 o v1 x3.1 (-1 : Int32)).bind fun x4 =>
          if v2 = (1 : Int32) then
            (gI x4.2 [0] o 10).bind fun x9 =>
            some (x9, x4.2)
          else
            (gR x4.2 [0] o 0).bind fun x5 =>
            (gR x4.2 [1] x5 11).bind fun x6 =>
            (aI 0 x4.2 x6 v1).bind fun x7 =>
            (gI x4.2 [0] o 11).bind fun x8 =>
            some (((x3.1 - x7) - x8), x4.2)

def fX0_state (N : Nat) (w : Wd) (o : Nat) (v1 : Int32) (v2 : Int32) : Option (Int32) :=
  (fX0_isThrow N w o v1 v2).bind fun x1 =>
  if x1 = 0 then
    some (-2 : Int32)
  else
    (gR w [0] o 0).bind fun x2 =>
    (gR w [1] x2 7).bind fun x3 =>
    (aR 5 w x3 v1).bind fun x4 =>
    (fX0_keepsAlone N w o x4).bind fun x5 =>
    if x5 = 0 then
      some (-1 : Int32)
    else
      (gR w [0] o 0).bind fun x6 =>
      (gR w [1] x6 7).bind fun x7 =>
      (aR 5 w x7 v1).bind fun x8 =>
      (fX0_stateOf N w o x8 v2).bind fun x9 =>
      some x9

def fX0_suits (N : Nat) (w : Wd) (o : Nat) (v1 : Int32) : Option (Int32) :=
  (fX0_isRoof N w o v1).bind fun x1 =>
  if x1 = 0 then
    some (-2 : Int32)
  else
    (fX0_firstUnsuited N w o v1).bind fun x2 =>
    if x2 = (-1 : Int32) then
      some (1 : Int32)
    else
      some (0 : Int32)

def fX0_swap (N : Nat) (w : Wd) (o : Nat) (v1 : Int32) (v2 : Int32) (v3 : Int32) : Option (Int32 × Wd) :=
  (fX0_isThrow N w o v1 v2).bind fun x1 =>
  if x1 = 0 then
    some ((-2 : Int32), w)
  else
    (fX0_isThrow N w o v1 v3).bind fun x2 =>
    if x2 = 0 then
      some ((-2 : Int32), w)
    else
      if v2 = v3 then
        some ((-2 : Int32), w)
      else
        (gR w [0] o 0).bind fun x3 =>
        (gR w [1] x3 7).bind fun x4 =>
        (aR 5 w x4 v1).bind fun x5 =>
        (ckC w famT x5).bind fun c7 =>
        (fX2_height N w x5 v3).bind fun x6 =>
        (some (((x6 + v3) - v2))).bind fun x8 =>
        (ckC w famT x5).bind fun c10 =>
        (fX2_height N w x5 v2).bind fun x9 =>
        (some (((x9 - v3) + v2))).bind fun x11 =>
        (ckC w famT x5).bind fun c13 =>
        (fX2_height N w x5 v2).bind fun x12 =>
        if x12 = 0 then
          some ((-5 : Int32), w)
        else
          (ckC w famT x5).bind fun c15 =>
          (fX2_height N w x5 v3).bind fun x14 =>
          if x14 = 0 then
            some ((-5 : Int32), w)
          else
            (fX0_isIn N w x8.toInt64 (1 : Int64) (9 : Int64)).bind fun x16 =>
            if x16 = 0 then
              some ((-5 : Int32), w)
            else
              (fX0_isIn N w x11.toInt64 (1 : Int64) (9 : Int64)).bind fun x17 =>
              if x17 = 0 then
                some ((-5 : Int32), w)
              else
                (ckC w famT x5).bind fun c19 =>
                (fX2_to N w x5 v3).bind fun x18 =>
                (ckC w famT x5).bind fun c21 =>
                (fX2_to N w x5 v2).bind fun x20 =>
                (ckC w famT x5).bind fun c23 =>
                (fX2_set N w x5 v3 x11 x20).bind fun w22 =>
                (ckC w22 famT x5).bind fun c25 =>
                (fX2_set N w22 x5 v2 x8 x18).bind fun w24 =>
                some ((0 : Int32), w24)

def fX0_tosses (N : Nat) (w : Wd) (o : Nat) (v1 : Int32) (v2 : Int32) (v3 : Int32) : Option (Int32) :=
  (fX0_isRoof N w o v1).bind fun x1 =>
  if x1 = 0 then
    some (-2 : Int32)
  else
    (fX0_isBeat N w v2).bind fun x2 =>
    if x2 = 0 then
      some (-2 : Int32)
    else
      (fX0_isIn N w v3.toInt64 (0 : Int64) (2 : Int64)).bind fun x3 =>
      if x3 = 0 then
        some (-2 : Int32)
      else
        (gR w [0] o 0).bind fun x4 =>
        (gR w [1] x4 7).bind fun x5 =>
        (aR 5 w x5 v1).bind fun x6 =>
        if v3 = 0 then
          (ckC w famT x6).bind fun c12 =>
          (fX2_height N w x6 v2).bind fun x11 =>
          some x11
        else
          if v3 = (1 : Int32) then
            (ckC w famT x6).bind fun c10 =>
            (fX2_to N w x6 v2).bind fun x9 =>
            some x9
          else
            (ckC w famT x6).bind fun c8 =>
            (dX2_hand N w c8 x6 v2).bind fun x7 =>
            some x7

def fX0_turn (N : Nat) (w : Wd) (o : Nat) : Option (Int32) :=
  (fX0_isCity N w o).bind fun x1 =>
  if x1 = 0 then
    some (-2 : Int32)
  else
    (gR w [0] o 0).bind fun x2 =>
    (ckC w [1] x2).bind fun c4 =>
    (fX1_round N w x2).bind fun x3 =>
    some x3

def fX0_unsuited (N : Nat) (w : Wd) (o : Nat) (v1 : Int32) : Option (Int32) :=
  (fX0_isRoof N w o v1).bind fun x1 =>
  if x1 = 0 then
    some (-2 : Int32)
  else
    (fX0_firstUnsuited N w o v1).bind fun x2 =>
    some x2

def fX0_way (N : Nat) (w : Wd) (o : Nat) (v1 : Int32) (v2 : Int32) : Option (Int32 × Wd) :=
  (fX0_isLetter N w o v1).bind fun x1 =>
  if x1 = 0 then
    some ((-2 : Int32), w)
  else
    (fX0_soonestOf N w o v1).bind fun x2 =>
    if x2.1 = (-1 : Int32) then
      some ((-1 : Int32), x2.2)
    else
      if 0 ≤ v2 then
        (fX0_goesWay N x2.2 o v1 x2.1 v2).bind fun x3 =>
        some (x3.1, x3.2)
      else
        some ((-1 : Int32), x2.2)

def fX0_years_59 (N : Nat) (o : Nat) (v1 : Int32) (v2 : Int32) (v3 : Int32) (k99 : Int32 → Wd → Nat → Option (Int32 × Wd × Nat)) : Nat → Int32 → Int32 → Wd → Nat → Option (Int32 × Wd × Nat)
  | 0, _, _, _, _ => none
  | n + 1, v4, v5, w, nx =>
    if v2 ≤ v5 then
      k99 v4 w nx
    else
      (fX0_blows N w nx o (v1.toInt64 + v5.toInt64) v3).bind fun w8 =>
      (gI w8.1 [0] o 19).bind fun x9 =>
      if x9 ≤ 0 then
        (some ((v4 + (0 : Int32)))).bind fun x10 =>
        (some (v5 + (1 : Int32))).bind fun x11 =>
        fX0_years_59 N o v1 v2 v3 k99 n x10 x11 w8.1 w8.2
      else
        (some ((v4 + (1 : Int32)))).bind fun x12 =>
        (some (v5 + (1 : Int32))).bind fun x13 =>
        fX0_years_59 N o v1 v2 v3 k99 n x12 x13 w8.1 w8.2
def fX0_years (N : Nat) (w : Wd) (nx : Nat) (o : Nat) (v1 : Int32) (v2 : Int32) (v3 : Int32) : Option (Int32 × Wd × Nat) :=
  (fX0_isCity N w o).bind fun x1 =>
  if x1 = 0 then
    some ((-2 : Int32), w, nx)
  else
    (fX0_isSeed N w v1).bind fun x2 =>
    if x2 = 0 then
      some ((-2 : Int32), w, nx)
    else
      (fX0_isIn N w v2.toInt64 (1 : Int64) (20 : Int64)).bind fun x3 =>
      if x3 = 0 then
        some ((-2 : Int32), w, nx)
      else
        (fX0_isIn N w v3.toInt64 (0 : Int64) (2000 : Int64)).bind fun x4 =>
        if x4 = 0 then
          some ((-2 : Int32), w, nx)
        else
          (gR w [0] o 0).bind fun x5 =>
          (ckC w [1] x5).bind fun c7 =>
          (fX1_keeps N w x5).bind fun x6 =>
          if x6 = 0 then
            some ((-1 : Int32), w, nx)
          else
            fX0_years_59 N o v1 v2 v3
              (fun y14 w15 y16 =>
                some (y14, w15, y16))
              21 (0 : Int32) (0 : Int32) w nx

def fX4_make (N : Nat) (w : Wd) (nx : Nat) (o : Nat) (v1 : Int32) (v2 : Int32) : Option (Wd × Nat) :=
  if v1 = 0 then
    (nwA 2 60 w nx v2).bind fun w7 =>
    (pF w7 [4] o 0 (.ref nx)).bind fun w8 =>
    some (w8, (nx + 1))
  else
    if v1 = (1 : Int32) then
      (nwA 4 60 w nx v2).bind fun w5 =>
      (pF w5 [4] o 0 (.ref nx)).bind fun w6 =>
      some (w6, (nx + 1))
    else
      if v1 = (2 : Int32) then
        (nwA 0 60 w nx v2).bind fun w3 =>
        (pF w3 [4] o 0 (.ref nx)).bind fun w4 =>
        some (w4, (nx + 1))
      else
        (nwA 1 60 w nx v2).bind fun w1 =>
        (pF w1 [4] o 0 (.ref nx)).bind fun w2 =>
        some (w2, (nx + 1))

def fX4_put (N : Nat) (w : Wd) (o : Nat) (v1 : Int32) (v2 : Int64) : Option (Wd) :=
  (gN w [4] o 0).bind fun x1 =>
  (isA 2 w x1).bind fun x2 =>
  if x2 = 0 then
    (gN w [4] o 0).bind fun x3 =>
    (isA 4 w x3).bind fun x4 =>
    if x4 = 0 then
      (gN w [4] o 0).bind fun x5 =>
      (isA 0 w x5).bind fun x6 =>
      if x6 = 0 then
        (gN w [4] o 0).bind fun x7 =>
        (asA 1 w x7).bind fun x8 =>
        (sL w x8 v1 v2).bind fun w9 =>
        some w9
      else
        (gN w [4] o 0).bind fun x10 =>
        (asA 0 w x10).bind fun x11 =>
        (sI 0 w x11 v1 v2.toInt32).bind fun w12 =>
        some w12
    else
      (gN w [4] o 0).bind fun x13 =>
      (asA 4 w x13).bind fun x14 =>
      (sI 4 w x14 v1 v2.toInt32.toInt16.toInt32).bind fun w15 =>
      some w15
  else
    (gN w [4] o 0).bind fun x16 =>
    (asA 2 w x16).bind fun x17 =>
    (sI 2 w x17 v1 v2.toInt32.toInt8.toInt32).bind fun w18 =>
    some w18

def fX6_wrong (ad : Nat → Nat) (N : Nat) (w : Wd) (nx : Nat) (o : Nat) (v1 : Int32) : Option (Nat × Wd × Nat) :=
  (some (wup w nx (.inr (7, newX7)))).bind fun w1 =>
  (gI w1 [6] o 3).bind fun x2 =>
  (fX7_init N w1 nx v1 x2).bind fun w3 =>
  some (nx, w3, (nx + 1))

def fX6_isNext (ad : Nat → Nat) (N : Nat) (w : Wd) (o : Nat) (v1 : Int32) (v2 : Int32) : Option (Int32) :=
  (gI w [6] o 2).bind fun x1 =>
  (gI w [6] o 0).bind fun x2 =>
  if x2 ≤ x1 then
    some (0 : Int32)
  else
    (gR w [6] o 6).bind fun x3 =>
    (gR w [0] x3 1).bind fun x4 =>
    (gI w [6] o 2).bind fun x5 =>
    (aI 2 w x4 x5).bind fun x6 =>
    (fX0_isIn N w x6.toInt64 v1.toInt64 v2.toInt64).bind fun x7 =>
    if x7 = 0 then
      some (0 : Int32)
    else
      some (1 : Int32)

def fX6_next_0 (ad : Nat → Nat) (N : Nat) (o : Nat) (k58 : Wd → Option (Wd)) : Nat → Wd → Option (Wd)
  | 0, _ => none
  | n + 1, w =>
    (gI w [6] o 2).bind fun x1 =>
    (gI w [6] o 0).bind fun x2 =>
    if x2 ≤ x1 then
      k58 w
    else
      (gR w [6] o 6).bind fun x3 =>
      (gR w [0] x3 1).bind fun x4 =>
      (gI w [6] o 2).bind fun x5 =>
      (aI 2 w x4 x5).bind fun x6 =>
      if x6 = (32 : Int32) then
        (gI w [6] o 2).bind fun x7 =>
        (pF w [6] o 2 (.int (x7 + (1 : Int32)))).bind fun w8 =>
        fX6_next_0 ad N o k58 n w8
      else
        (gR w [6] o 6).bind fun x9 =>
        (gR w [0] x9 1).bind fun x10 =>
        (gI w [6] o 2).bind fun x11 =>
        (aI 2 w x10 x11).bind fun x12 =>
        if x12 = (10 : Int32) then
          (gI w [6] o 2).bind fun x13 =>
          (pF w [6] o 2 (.int (x13 + (1 : Int32)))).bind fun w14 =>
          fX6_next_0 ad N o k58 n w14
        else
          k58 w
def fX6_next_148 (ad : Nat → Nat) (N : Nat) (o : Nat) (k204 : Wd → Option (Wd)) : Nat → Wd → Option (Wd)
  | 0, _ => none
  | n + 1, w =>
    (fX6_isNext ad N w o (48 : Int32) (57 : Int32)).bind fun x33 =>
    if x33 = 0 then
      k204 w
    else
      (gI w [6] o 4).bind fun x34 =>
      (gR w [6] o 6).bind fun x35 =>
      (gR w [0] x35 1).bind fun x36 =>
      (gI w [6] o 2).bind fun x37 =>
      (aI 2 w x36 x37).bind fun x38 =>
      (fJ0_min N w (99999 : Int32) ((((10 : Int32) * x34) + x38) - (48 : Int32))).bind fun x39 =>
      (pF w [6] o 4 (.int x39)).bind fun w40 =>
      (gI w40 [6] o 2).bind fun x41 =>
      (pF w40 [6] o 2 (.int (x41 + (1 : Int32)))).bind fun w42 =>
      fX6_next_148 ad N o k204 n w42
def fX6_next_98 (ad : Nat → Nat) (N : Nat) (o : Nat) (k122 : Wd → Option (Wd)) : Nat → Wd → Option (Wd)
  | 0, _ => none
  | n + 1, w =>
    (fX6_isNext ad N w o (97 : Int32) (122 : Int32)).bind fun x45 =>
    if x45 = 0 then
      k122 w
    else
      (gI w [6] o 2).bind fun x46 =>
      (pF w [6] o 2 (.int (x46 + (1 : Int32)))).bind fun w47 =>
      fX6_next_98 ad N o k122 n w47
def fX6_next_58 (ad : Nat → Nat) (N : Nat) (w : Wd) (o : Nat) : Option (Wd) :=
  (gI w [6] o 2).bind fun x16 =>
  (pF w [6] o 3 (.int x16)).bind fun w17 =>
  (gI w17 [6] o 2).bind fun x18 =>
  (gI w17 [6] o 0).bind fun x19 =>
  if x18 = x19 then
    (pF w17 [6] o 5 (.ref (ad 0))).bind fun w50 =>
    some w50
  else
    (fX6_isNext ad N w17 o (97 : Int32) (122 : Int32)).bind fun x20 =>
    if x20 = 0 then
      (fX6_isNext ad N w17 o (48 : Int32) (57 : Int32)).bind fun x21 =>
      if x21 = 0 then
        (gR w17 [6] o 6).bind fun x22 =>
        (gR w17 [0] x22 1).bind fun x23 =>
        (gI w17 [6] o 2).bind fun x24 =>
        (aI 2 w17 x23 x24).bind fun x25 =>
        if x25 = (59 : Int32) then
          (pF w17 [6] o 5 (.ref (ad 3))).bind fun w29 =>
          (gI w29 [6] o 2).bind fun x30 =>
          (pF w29 [6] o 2 (.int (x30 + (1 : Int32)))).bind fun w31 =>
          some w31
        else
          (pF w17 [6] o 5 (.ref (ad 4))).bind fun w26 =>
          (gI w26 [6] o 2).bind fun x27 =>
          (pF w26 [6] o 2 (.int (x27 + (1 : Int32)))).bind fun w28 =>
          some w28
      else
        (pF w17 [6] o 4 (.int (0 : Int32))).bind fun w32 =>
        fX6_next_148 ad N o
          (fun w43 =>
            (pF w43 [6] o 5 (.ref (ad 2))).bind fun w44 =>
            some w44)
          N w32
    else
      fX6_next_98 ad N o
        (fun w48 =>
          (pF w48 [6] o 5 (.ref (ad 1))).bind fun w49 =>
          some w49)
        N w17
def fX6_next (ad : Nat → Nat) (N : Nat) (w : Wd) (o : Nat) : Option (Wd) :=
  fX6_next_0 ad N o
    (fun w15 =>
      fX6_next_58 ad N w15 o)
    N w

def fX6_number (ad : Nat → Nat) (N : Nat) (w : Wd) (nx : Nat) (o : Nat) (v1 : Int32) (v2 : Int32) : Option ((Int32 × Wd × Nat) ⊕ Tw) :=
  (gR w [6] o 5).bind fun x1 =>
  if x1 = (ad 2) then
    (gI w [6] o 4).bind fun x2 =>
    (fX0_isIn N w x2.toInt64 v1.toInt64 v2.toInt64).bind fun x3 =>
    if x3 = 0 then
      (fX6_wrong ad N w nx o (2 : Int32)).bind fun x6 =>
      (ckC x6.2.1 [7] x6.1).bind fun c7 =>
      some (.inr (x6.1, x6.2.1, x6.2.2))
    else
      (gI w [6] o 4).bind fun x4 =>
      (fX6_next ad N w o).bind fun w5 =>
      some (.inl (x4, w5, nx))
  else
    (fX6_wrong ad N w nx o (1 : Int32)).bind fun x8 =>
    (ckC x8.2.1 [7] x8.1).bind fun c9 =>
    some (.inr (x8.1, x8.2.1, x8.2.2))

def fX6_roof (ad : Nat → Nat) (N : Nat) (w : Wd) (nx : Nat) (o : Nat) : Option ((Int32 × Wd × Nat) ⊕ Tw) :=
  (gR w [6] o 1).bind fun x1 =>
  (gI w [1] x1 0).bind fun x2 =>
  (fX6_number ad N w nx o (0 : Int32) (x2 - (1 : Int32))).bind fun x3 =>
  thr x3 fun y4 =>
  some (.inl (y4.1, y4.2.1, y4.2.2))

def fX6_other (ad : Nat → Nat) (N : Nat) (w : Wd) (nx : Nat) (o : Nat) (v1 : Int32) : Option ((Int32 × Wd × Nat) ⊕ Tw) :=
  (gR w [6] o 5).bind fun x1 =>
  if x1 = (ad 2) then
    (gI w [6] o 4).bind fun x4 =>
    if x4 = v1 then
      (fX6_wrong ad N w nx o (2 : Int32)).bind fun x7 =>
      (ckC x7.2.1 [7] x7.1).bind fun c8 =>
      some (.inr (x7.1, x7.2.1, x7.2.2))
    else
      (fX6_roof ad N w nx o).bind fun x5 =>
      thr x5 fun y6 =>
      some (.inl (y6.1, y6.2.1, y6.2.2))
  else
    (fX6_roof ad N w nx o).bind fun x2 =>
    thr x2 fun y3 =>
    some (.inl (y3.1, y3.2.1, y3.2.2))

def fJ0_max (N : Nat) (w : Wd) (v0 : Int32) (v1 : Int32) : Option (Int32) :=
  if v0 < v1 then
    some v1
  else
    some v0

def fX6_cross (ad : Nat → Nat) (N : Nat) (w : Wd) (nx : Nat) (o : Nat) : Option ((Wd × Nat) ⊕ Tw) :=
  (fX6_roof ad N w nx o).bind fun x1 =>
  thr x1 fun y2 =>
  (fX6_other ad N y2.2.1 y2.2.2 o y2.1).bind fun x3 =>
  thr x3 fun y4 =>
  (gR y4.2.1 [6] o 1).bind fun x5 =>
  (gR y4.2.1 [1] x5 8).bind fun x6 =>
  (gR y4.2.1 [6] o 1).bind fun x7 =>
  (gI y4.2.1 [1] x7 1).bind fun x8 =>
  (fJ0_min N y4.2.1 y2.1 y4.1).bind fun x9 =>
  (sI 0 y4.2.1 x6 x8 x9).bind fun w10 =>
  (gR w10 [6] o 1).bind fun x11 =>
  (gR w10 [1] x11 9).bind fun x12 =>
  (gR w10 [6] o 1).bind fun x13 =>
  (gI w10 [1] x13 1).bind fun x14 =>
  (fJ0_max N w10 y2.1 y4.1).bind fun x15 =>
  (sI 0 w10 x12 x14 x15).bind fun w16 =>
  (gR w16 [6] o 1).bind fun x17 =>
  (gI w16 [1] x17 1).bind fun x18 =>
  (pF w16 [1] x17 1 (.int (x18 + (1 : Int32)))).bind fun w19 =>
  some (.inl (w19, y4.2.2))

def fX6_is_30 (ad : Nat → Nat) (N : Nat) (w : Wd) (o : Nat) (v1 : Nat) (k60 : Option (Int32)) (k68 : Option (Int32)) : Nat → Int32 → Option (Int32)
  | 0, _ => none
  | n + 1, v2 =>
    if (txL v1) ≤ v2 then
      k68
    else
      (gR w [6] o 6).bind fun x4 =>
      (gR w [0] x4 1).bind fun x5 =>
      (gI w [6] o 3).bind fun x6 =>
      (aI 2 w x5 (x6 + v2)).bind fun x7 =>
      (txAt v1 v2).bind fun x8 =>
      if x7 = x8 then
        (some (v2 + (1 : Int32))).bind fun x9 =>
        fX6_is_30 ad N w o v1 k60 k68 n x9
      else
        k60
def fX6_is (ad : Nat → Nat) (N : Nat) (w : Wd) (o : Nat) (v1 : Nat) : Option (Int32) :=
  (gR w [6] o 5).bind fun x1 =>
  if x1 = (ad 1) then
    (gI w [6] o 2).bind fun x2 =>
    (gI w [6] o 3).bind fun x3 =>
    if (x2 - x3) = (txL v1) then
      fX6_is_30 ad N w o v1
        (
          some (0 : Int32))
        (
          some (1 : Int32))
        N (0 : Int32)
    else
      some (0 : Int32)
  else
    some (0 : Int32)

def fX6_takes (ad : Nat → Nat) (N : Nat) (w : Wd) (o : Nat) (v1 : Nat) : Option (Int32 × Wd) :=
  (fX6_is ad N w o v1).bind fun x1 =>
  if x1 = 0 then
    if x1 = 0 ∨ x1 = 1 then some (x1, w) else none
  else
    (fX6_next ad N w o).bind fun w2 =>
    if x1 = 0 ∨ x1 = 1 then some (x1, w2) else none

def fX6_needs (ad : Nat → Nat) (N : Nat) (w : Wd) (nx : Nat) (o : Nat) (v1 : Nat) : Option ((Wd × Nat) ⊕ Tw) :=
  (fX6_takes ad N w o v1).bind fun x1 =>
  if x1.1 = 0 then
    (fX6_wrong ad N x1.2 nx o (1 : Int32)).bind fun x2 =>
    (ckC x2.2.1 [7] x2.1).bind fun c3 =>
    some (.inr (x2.1, x2.2.1, x2.2.2))
  else
    some (.inl (x1.2, nx))

def fX6_told (ad : Nat → Nat) (N : Nat) (w : Wd) (nx : Nat) (o : Nat) (v1 : Nat) (v2 : Int32) (v3 : Int32) : Option ((Int32 × Wd × Nat) ⊕ Tw) :=
  (fX6_needs ad N w nx o v1).bind fun w1 =>
  thr w1 fun y2 =>
  (fX6_number ad N y2.1 y2.2 o v2 v3).bind fun x3 =>
  thr x3 fun y4 =>
  some (.inl (y4.1, y4.2.1, y4.2.2))

def fX6_first_18 (ad : Nat → Nat) (N : Nat) (o : Nat) (k52 : Wd → Nat → Option ((Wd × Nat) ⊕ Tw)) : Nat → Int32 → Wd → Nat → Option ((Wd × Nat) ⊕ Tw)
  | 0, _, _, _ => none
  | n + 1, v1, w, nx =>
    (gR w [6] o 1).bind fun x5 =>
    (gI w [1] x5 0).bind fun x6 =>
    if x6 ≤ v1 then
      k52 w nx
    else
      (gR w [6] o 1).bind fun x7 =>
      (gR w [1] x7 7).bind fun x8 =>
      (some (wup w nx (.inr (2, newX2)))).bind fun w9 =>
      (fX2_init N w9 (nx + 1) nx v1).bind fun w10 =>
      (sR 5 famT w10.1 x8 v1 nx).bind fun w11 =>
      (some (v1 + (1 : Int32))).bind fun x12 =>
      fX6_first_18 ad N o k52 n x12 w11 w10.2
def fX6_first (ad : Nat → Nat) (N : Nat) (w : Wd) (nx : Nat) (o : Nat) : Option ((Wd × Nat) ⊕ Tw) :=
  (gR w [6] o 1).bind fun x1 =>
  (fX6_told ad N w nx o (0) (1 : Int32) (6 : Int32)).bind fun x2 =>
  thr x2 fun y3 =>
  (pF y3.2.1 [1] x1 0 (.int y3.1)).bind fun w4 =>
  fX6_first_18 ad N o
    (fun w13 y14 =>
      some (.inl (w13, y14)))
    7 (0 : Int32) w4 y3.2.2

def fX6_gusts (ad : Nat → Nat) (N : Nat) (w : Wd) (nx : Nat) (o : Nat) : Option ((Wd × Nat) ⊕ Tw) :=
  (gR w [6] o 1).bind fun x1 =>
  (pF w [1] x1 6 (.int (1 : Int32))).bind fun w2 =>
  (gR w2 [6] o 1).bind fun x3 =>
  (fX6_told ad N w2 nx o (8) (1 : Int32) (9 : Int32)).bind fun x4 =>
  thr x4 fun y5 =>
  (pF y5.2.1 [1] x3 4 (.int y5.1)).bind fun w6 =>
  (gR w6 [6] o 1).bind fun x7 =>
  (fX6_told ad N w6 y5.2.2 o (9) (0 : Int32) (100 : Int32)).bind fun x8 =>
  thr x8 fun y9 =>
  (pF y9.2.1 [1] x7 5 (.int y9.1)).bind fun w10 =>
  some (.inl (w10, y9.2.2))

def fX6_init (ad : Nat → Nat) (N : Nat) (w : Wd) (nx : Nat) (o : Nat) (v1 : Nat) : Option (Wd × Nat) :=
  (pF w [6] o 6 (.ref v1)).bind fun w1 =>
  (gR w1 [6] o 6).bind fun x3 =>
  (gI w1 [0] x3 2).bind fun x4 =>
  (pF w1 [6] o 0 (.int x4)).bind fun w5 =>
  (some (wup w5 nx (.inr (1, newX1)))).bind fun w6 =>
  (fX1_init N w6 (nx + 1) nx).bind fun w7 =>
  (pF w7.1 [6] o 1 (.ref nx)).bind fun w8 =>
  (pF w8 [6] o 5 (.ref (ad 0))).bind fun w9 =>
  (ckC w9 [6] o).bind fun c11 =>
  (fX6_next ad N w9 o).bind fun w10 =>
  some (w10, w7.2)

def fX6_kind (ad : Nat → Nat) (N : Nat) (w : Wd) (nx : Nat) (o : Nat) (v1 : Int32) : Option ((Nat × Wd × Nat) ⊕ Tw) :=
  (fX6_takes ad N w o (1)).bind fun x1 =>
  if x1.1 = 0 then
    (fX6_takes ad N x1.2 o (2)).bind fun x2 =>
    if x2.1 = 0 then
      (fX6_takes ad N x2.2 o (3)).bind fun x3 =>
      if x3.1 = 0 then
        (fX6_takes ad N x3.2 o (4)).bind fun x4 =>
        if x4.1 = 0 then
          (fX6_needs ad N x4.2 nx o (5)).bind fun w5 =>
          thr w5 fun y6 =>
          (some (wup y6.1 y6.2 (.inr (11, newX11)))).bind fun w7 =>
          (fX11_init N w7 (y6.2 + 1) y6.2 v1).bind fun w8 =>
          some (.inl (y6.2, w8.1, w8.2))
        else
          (some (wup x4.2 nx (.inr (10, newX10)))).bind fun w9 =>
          (fX10_init N w9 (nx + 1) nx v1).bind fun w10 =>
          some (.inl (nx, w10.1, w10.2))
      else
        (some (wup x3.2 nx (.inr (9, newX9)))).bind fun w11 =>
        (fX9_init N w11 (nx + 1) nx v1).bind fun w12 =>
        some (.inl (nx, w12.1, w12.2))
    else
      (some (wup x2.2 nx (.inr (8, newX8)))).bind fun w13 =>
      (fX8_init N w13 (nx + 1) nx v1).bind fun w14 =>
      some (.inl (nx, w14.1, w14.2))
  else
    (some (wup x1.2 nx (.inr (2, newX2)))).bind fun w15 =>
    (fX2_init N w15 (nx + 1) nx v1).bind fun w16 =>
    some (.inl (nx, w16.1, w16.2))

def fX6_letter (ad : Nat → Nat) (N : Nat) (w : Wd) (nx : Nat) (o : Nat) : Option ((Wd × Nat) ⊕ Tw) :=
  (fX6_roof ad N w nx o).bind fun x1 =>
  thr x1 fun y2 =>
  (fX6_told ad N y2.2.1 y2.2.2 o (7) (0 : Int32) (9999 : Int32)).bind fun x3 =>
  thr x3 fun y4 =>
  (fX6_needs ad N y4.2.1 y4.2.2 o (6)).bind fun w5 =>
  thr w5 fun y6 =>
  (gR y6.1 [6] o 1).bind fun x7 =>
  (gR y6.1 [1] x7 12).bind fun x8 =>
  (gR y6.1 [6] o 1).bind fun x9 =>
  (gI y6.1 [1] x9 2).bind fun x10 =>
  (fX6_other ad N y6.1 y6.2 o y2.1).bind fun x11 =>
  thr x11 fun y12 =>
  (sI 0 y12.2.1 x8 x10 y12.1).bind fun w13 =>
  (gR w13 [6] o 1).bind fun x14 =>
  (gR w13 [1] x14 10).bind fun x15 =>
  (gR w13 [6] o 1).bind fun x16 =>
  (gI w13 [1] x16 2).bind fun x17 =>
  (sI 0 w13 x15 x17 y2.1).bind fun w18 =>
  (gR w18 [6] o 1).bind fun x19 =>
  (gR w18 [1] x19 11).bind fun x20 =>
  (gR w18 [6] o 1).bind fun x21 =>
  (gI w18 [1] x21 2).bind fun x22 =>
  (sI 0 w18 x20 x22 y4.1).bind fun w23 =>
  (gR w23 [6] o 1).bind fun x24 =>
  (gI w23 [1] x24 2).bind fun x25 =>
  (pF w23 [1] x24 2 (.int (x25 + (1 : Int32)))).bind fun w26 =>
  some (.inl (w26, y12.2.2))

def fX6_thrower (ad : Nat → Nat) (N : Nat) (w : Wd) (nx : Nat) (o : Nat) : Option ((Wd × Nat) ⊕ Tw) :=
  (fX6_roof ad N w nx o).bind fun x1 =>
  thr x1 fun y2 =>
  (fX6_kind ad N y2.2.1 y2.2.2 o y2.1).bind fun x3 =>
  thr x3 fun y4 =>
  (gR y4.2.1 [6] o 1).bind fun x5 =>
  (gR y4.2.1 [1] x5 7).bind fun x6 =>
  (aR 5 y4.2.1 x6 y2.1).bind fun x7 =>
  (ckC y4.2.1 famT y4.1).bind fun c9 =>
  (fX2_be N y4.2.1 y4.1 x7).bind fun w8 =>
  (gR w8 [6] o 1).bind fun x10 =>
  (gR w8 [1] x10 7).bind fun x11 =>
  (sR 5 famT w8 x11 y2.1 y4.1).bind fun w12 =>
  some (.inl (w12, y4.2.2))

def fX6_row_17 (ad : Nat → Nat) (N : Nat) (o : Nat) (v1 : Int32) (v2 : Nat) (k23 : Wd → Nat → Option ((Wd × Nat) ⊕ Tw)) (k92 : Wd → Nat → Option ((Wd × Nat) ⊕ Tw)) (k126 : Int32 → Wd → Nat → Option ((Wd × Nat) ⊕ Tw)) : Nat → Int32 → Wd → Nat → Option ((Wd × Nat) ⊕ Tw)
  | 0, _, _, _ => none
  | n + 1, v3, w, nx =>
    if v3 = (8 : Int32) then
      k23 w nx
    else
      (fX6_number ad N w nx o (0 : Int32) (9 : Int32)).bind fun x6 =>
      thr x6 fun y7 =>
      (fX6_takes ad N y7.2.1 o (6)).bind fun x8 =>
      if x8.1 = 0 then
        (ckC x8.2 famT v2).bind fun c10 =>
        (fX2_set N x8.2 v2 v3 y7.1 v1).bind fun w9 =>
        (some (v3 + (1 : Int32))).bind fun x11 =>
        (gR w9 [6] o 5).bind fun x12 =>
        if x12 = (ad 2) then
          fX6_row_17 ad N o v1 v2 k23 k92 k126 n x11 w9 y7.2.2
        else
          k126 x11 w9 y7.2.2
      else
        if y7.1 = 0 then
          (gR x8.2 [6] o 5).bind fun x19 =>
          if x19 = (ad 2) then
            (gI x8.2 [6] o 4).bind fun x26 =>
            if x26 = v1 then
              (fX6_roof ad N x8.2 y7.2.2 o).bind fun x27 =>
              thr x27 fun y28 =>
              (ckC y28.2.1 famT v2).bind fun c30 =>
              (fX2_set N y28.2.1 v2 v3 y7.1 y28.1).bind fun w29 =>
              (some (v3 + (1 : Int32))).bind fun x31 =>
              (gR w29 [6] o 5).bind fun x32 =>
              if x32 = (ad 2) then
                fX6_row_17 ad N o v1 v2 k23 k92 k126 n x31 w29 y28.2.2
              else
                k126 x31 w29 y28.2.2
            else
              k92 x8.2 y7.2.2
          else
            (fX6_roof ad N x8.2 y7.2.2 o).bind fun x20 =>
            thr x20 fun y21 =>
            (ckC y21.2.1 famT v2).bind fun c23 =>
            (fX2_set N y21.2.1 v2 v3 y7.1 y21.1).bind fun w22 =>
            (some (v3 + (1 : Int32))).bind fun x24 =>
            (gR w22 [6] o 5).bind fun x25 =>
            if x25 = (ad 2) then
              fX6_row_17 ad N o v1 v2 k23 k92 k126 n x24 w22 y21.2.2
            else
              k126 x24 w22 y21.2.2
        else
          (fX6_roof ad N x8.2 y7.2.2 o).bind fun x13 =>
          thr x13 fun y14 =>
          (ckC y14.2.1 famT v2).bind fun c16 =>
          (fX2_set N y14.2.1 v2 v3 y7.1 y14.1).bind fun w15 =>
          (some (v3 + (1 : Int32))).bind fun x17 =>
          (gR w15 [6] o 5).bind fun x18 =>
          if x18 = (ad 2) then
            fX6_row_17 ad N o v1 v2 k23 k92 k126 n x17 w15 y14.2.2
          else
            k126 x17 w15 y14.2.2
def fX6_row (ad : Nat → Nat) (N : Nat) (w : Wd) (nx : Nat) (o : Nat) : Option ((Wd × Nat) ⊕ Tw) :=
  (fX6_roof ad N w nx o).bind fun x1 =>
  thr x1 fun y2 =>
  (gR y2.2.1 [6] o 1).bind fun x3 =>
  (gR y2.2.1 [1] x3 7).bind fun x4 =>
  (aR 5 y2.2.1 x4 y2.1).bind fun x5 =>
  fX6_row_17 ad N o y2.1 x5
    (fun w33 y34 =>
      (gI w33 [6] o 4).bind fun x35 =>
      (fX0_isIn N w33 x35.toInt64 (0 : Int64) (9 : Int64)).bind fun x36 =>
      if x36 = 0 then
        (fX6_wrong ad N w33 y34 o (2 : Int32)).bind fun x37 =>
        (ckC x37.2.1 [7] x37.1).bind fun c38 =>
        some (.inr (x37.1, x37.2.1, x37.2.2))
      else
        (fX6_wrong ad N w33 y34 o (3 : Int32)).bind fun x39 =>
        (ckC x39.2.1 [7] x39.1).bind fun c40 =>
        some (.inr (x39.1, x39.2.1, x39.2.2)))
    (fun w41 y42 =>
      (fX6_wrong ad N w41 y42 o (2 : Int32)).bind fun x43 =>
      (ckC x43.2.1 [7] x43.1).bind fun c44 =>
      some (.inr (x43.1, x43.2.1, x43.2.2)))
    (fun y45 w46 y47 =>
      (pF w46 [2, 8, 9, 10, 11] x5 3 (.int y45)).bind fun w48 =>
      some (.inl (w48, y47)))
    10 (0 : Int32) y2.2.1 y2.2.2

def fX6_takes_2 (ad : Nat → Nat) (N : Nat) (w : Wd) (nx : Nat) (o : Nat) (v1 : Nat) (v2 : Int32) (v3 : Int32) : Option ((Int32 × Wd × Nat) ⊕ Tw) :=
  (fX6_is ad N w o v1).bind fun x1 =>
  if x1 = 0 then
    (fX6_takes ad N w o v1).bind fun x2 =>
    if x2.1 = 0 ∨ x2.1 = 1 then some (.inl (x2.1, x2.2, nx)) else none
  else
    if v2 = 0 then
      (fX6_takes ad N w o v1).bind fun x3 =>
      if x3.1 = 0 ∨ x3.1 = 1 then some (.inl (x3.1, x3.2, nx)) else none
    else
      (fX6_wrong ad N w nx o v3).bind fun x4 =>
      (ckC x4.2.1 [7] x4.1).bind fun c5 =>
      some (.inr (x4.1, x4.2.1, x4.2.2))

def fX6_line (ad : Nat → Nat) (N : Nat) (w : Wd) (nx : Nat) (o : Nat) : Option ((Wd × Nat) ⊕ Tw) :=
  (fX6_takes ad N w o (10)).bind fun x1 =>
  if x1.1 = 0 then
    (fX6_takes ad N x1.2 o (11)).bind fun x2 =>
    if x2.1 = 0 then
      (gR x2.2 [6] o 1).bind fun x3 =>
      (gI x2.2 [1] x3 1).bind fun x4 =>
      if x4 = (6 : Int32) then
        (fX6_takes_2 ad N x2.2 nx o (12) (1 : Int32) (3 : Int32)).bind fun x35 =>
        thr x35 fun y36 =>
        if y36.1 = 0 then
          (gR y36.2.1 [6] o 1).bind fun x37 =>
          (gI y36.2.1 [1] x37 2).bind fun x38 =>
          if x38 = (8 : Int32) then
            (fX6_takes_2 ad N y36.2.1 y36.2.2 o (13) (1 : Int32) (3 : Int32)).bind fun x51 =>
            thr x51 fun y52 =>
            if y52.1 = 0 then
              (gR y52.2.1 [6] o 1).bind fun x53 =>
              (gI y52.2.1 [1] x53 6).bind fun x54 =>
              (fX6_takes_2 ad N y52.2.1 y52.2.2 o (14) x54 (2 : Int32)).bind fun x55 =>
              thr x55 fun y56 =>
              if y56.1 = 0 then
                (fX6_wrong ad N y56.2.1 y56.2.2 o (1 : Int32)).bind fun x57 =>
                (ckC x57.2.1 [7] x57.1).bind fun c58 =>
                some (.inr (x57.1, x57.2.1, x57.2.2))
              else
                (fX6_gusts ad N y56.2.1 y56.2.2 o).bind fun w59 =>
                thr w59 fun y60 =>
                some (.inl (y60.1, y60.2))
            else
              (fX6_letter ad N y52.2.1 y52.2.2 o).bind fun w61 =>
              thr w61 fun y62 =>
              some (.inl (y62.1, y62.2))
          else
            (fX6_takes_2 ad N y36.2.1 y36.2.2 o (13) (0 : Int32) (3 : Int32)).bind fun x39 =>
            thr x39 fun y40 =>
            if y40.1 = 0 then
              (gR y40.2.1 [6] o 1).bind fun x41 =>
              (gI y40.2.1 [1] x41 6).bind fun x42 =>
              (fX6_takes_2 ad N y40.2.1 y40.2.2 o (14) x42 (2 : Int32)).bind fun x43 =>
              thr x43 fun y44 =>
              if y44.1 = 0 then
                (fX6_wrong ad N y44.2.1 y44.2.2 o (1 : Int32)).bind fun x45 =>
                (ckC x45.2.1 [7] x45.1).bind fun c46 =>
                some (.inr (x45.1, x45.2.1, x45.2.2))
              else
                (fX6_gusts ad N y44.2.1 y44.2.2 o).bind fun w47 =>
                thr w47 fun y48 =>
                some (.inl (y48.1, y48.2))
            else
              (fX6_letter ad N y40.2.1 y40.2.2 o).bind fun w49 =>
              thr w49 fun y50 =>
              some (.inl (y50.1, y50.2))
        else
          (fX6_cross ad N y36.2.1 y36.2.2 o).bind fun w63 =>
          thr w63 fun y64 =>
          some (.inl (y64.1, y64.2))
      else
        (fX6_takes_2 ad N x2.2 nx o (12) (0 : Int32) (3 : Int32)).bind fun x5 =>
        thr x5 fun y6 =>
        if y6.1 = 0 then
          (gR y6.2.1 [6] o 1).bind fun x7 =>
          (gI y6.2.1 [1] x7 2).bind fun x8 =>
          if x8 = (8 : Int32) then
            (fX6_takes_2 ad N y6.2.1 y6.2.2 o (13) (1 : Int32) (3 : Int32)).bind fun x21 =>
            thr x21 fun y22 =>
            if y22.1 = 0 then
              (gR y22.2.1 [6] o 1).bind fun x23 =>
              (gI y22.2.1 [1] x23 6).bind fun x24 =>
              (fX6_takes_2 ad N y22.2.1 y22.2.2 o (14) x24 (2 : Int32)).bind fun x25 =>
              thr x25 fun y26 =>
              if y26.1 = 0 then
                (fX6_wrong ad N y26.2.1 y26.2.2 o (1 : Int32)).bind fun x27 =>
                (ckC x27.2.1 [7] x27.1).bind fun c28 =>
                some (.inr (x27.1, x27.2.1, x27.2.2))
              else
                (fX6_gusts ad N y26.2.1 y26.2.2 o).bind fun w29 =>
                thr w29 fun y30 =>
                some (.inl (y30.1, y30.2))
            else
              (fX6_letter ad N y22.2.1 y22.2.2 o).bind fun w31 =>
              thr w31 fun y32 =>
              some (.inl (y32.1, y32.2))
          else
            (fX6_takes_2 ad N y6.2.1 y6.2.2 o (13) (0 : Int32) (3 : Int32)).bind fun x9 =>
            thr x9 fun y10 =>
            if y10.1 = 0 then
              (gR y10.2.1 [6] o 1).bind fun x11 =>
              (gI y10.2.1 [1] x11 6).bind fun x12 =>
              (fX6_takes_2 ad N y10.2.1 y10.2.2 o (14) x12 (2 : Int32)).bind fun x13 =>
              thr x13 fun y14 =>
              if y14.1 = 0 then
                (fX6_wrong ad N y14.2.1 y14.2.2 o (1 : Int32)).bind fun x15 =>
                (ckC x15.2.1 [7] x15.1).bind fun c16 =>
                some (.inr (x15.1, x15.2.1, x15.2.2))
              else
                (fX6_gusts ad N y14.2.1 y14.2.2 o).bind fun w17 =>
                thr w17 fun y18 =>
                some (.inl (y18.1, y18.2))
            else
              (fX6_letter ad N y10.2.1 y10.2.2 o).bind fun w19 =>
              thr w19 fun y20 =>
              some (.inl (y20.1, y20.2))
        else
          (fX6_cross ad N y6.2.1 y6.2.2 o).bind fun w33 =>
          thr w33 fun y34 =>
          some (.inl (y34.1, y34.2))
    else
      (fX6_row ad N x2.2 nx o).bind fun w65 =>
      thr w65 fun y66 =>
      some (.inl (y66.1, y66.2))
  else
    (fX6_thrower ad N x1.2 nx o).bind fun w67 =>
    thr w67 fun y68 =>
    some (.inl (y68.1, y68.2))

def fX6_read_0 (ad : Nat → Nat) (N : Nat) (o : Nat) (k41 : Wd → Nat → Option ((Nat × Wd × Nat) ⊕ Tw)) (k67 : Wd → Nat → Option ((Nat × Wd × Nat) ⊕ Tw)) : Nat → Wd → Nat → Option ((Nat × Wd × Nat) ⊕ Tw)
  | 0, _, _ => none
  | n + 1, w, nx =>
    (gR w [6] o 5).bind fun x1 =>
    if x1 = (ad 0) then
      k67 w nx
    else
      (gR w [6] o 1).bind fun x2 =>
      (gI w [1] x2 3).bind fun x3 =>
      if x3 = 0 then
        (fX6_first ad N w nx o).bind fun w11 =>
        thr w11 fun y12 =>
        (gR y12.1 [6] o 5).bind fun x13 =>
        if x13 = (ad 3) then
          (fX6_next ad N y12.1 o).bind fun w14 =>
          (gR w14 [6] o 1).bind fun x15 =>
          (gI w14 [1] x15 3).bind fun x16 =>
          (pF w14 [1] x15 3 (.int (x16 + (1 : Int32)))).bind fun w17 =>
          fX6_read_0 ad N o k41 k67 n w17 y12.2
        else
          k41 y12.1 y12.2
      else
        (fX6_line ad N w nx o).bind fun w4 =>
        thr w4 fun y5 =>
        (gR y5.1 [6] o 5).bind fun x6 =>
        if x6 = (ad 3) then
          (fX6_next ad N y5.1 o).bind fun w7 =>
          (gR w7 [6] o 1).bind fun x8 =>
          (gI w7 [1] x8 3).bind fun x9 =>
          (pF w7 [1] x8 3 (.int (x9 + (1 : Int32)))).bind fun w10 =>
          fX6_read_0 ad N o k41 k67 n w10 y5.2
        else
          k41 y5.1 y5.2
def fX6_read (ad : Nat → Nat) (N : Nat) (w : Wd) (nx : Nat) (o : Nat) : Option ((Nat × Wd × Nat) ⊕ Tw) :=
  fX6_read_0 ad N o
    (fun w18 y19 =>
      (fX6_wrong ad N w18 y19 o (1 : Int32)).bind fun x20 =>
      (ckC x20.2.1 [7] x20.1).bind fun c21 =>
      some (.inr (x20.1, x20.2.1, x20.2.2)))
    (fun w22 y23 =>
      (gR w22 [6] o 1).bind fun x24 =>
      some (.inl (x24, w22, y23)))
    268 w nx

