/-! printed by gen.py -/
set_option maxRecDepth 100000
def fX5_isCity (N : Nat) (w : Wd) (o : Nat) : Option (Int32) :=
  (gR w [5] o 17).bind fun x1 =>
  (aI 0 w x1 (0 : Int32)).bind fun x2 =>
  if x2 ≤ 0 then
    some (0 : Int32)
  else
    some (1 : Int32)

def fX5_in (N : Nat) (w : Wd) (v0 : Int64) (v2 : Int64) (v4 : Int64) : Option (Int32) :=
  if (lg_cmp v0 v2) < 0 then
    some (0 : Int32)
  else
    if 0 < (lg_cmp v0 v4) then
      some (0 : Int32)
    else
      some (1 : Int32)

def fX5_isBeat (N : Nat) (w : Wd) (v0 : Int32) : Option (Int32) :=
  (fX5_in N w v0.toInt64 (0 : Int64) (99999 : Int64)).bind fun x1 =>
  if x1 = 0 ∨ x1 = 1 then some x1 else none

def fX5_round_16 (N : Nat) (w : Wd) (o : Nat) (v1 : Int32) (v2 : Int32) (k34 : Int32 → Option (Int32)) : Nat → Int32 → Option (Int32)
  | 0, _ => none
  | n + 1, v3 =>
    (gR w [5] o 19).bind fun x3 =>
    (aI 0 w x3 v2).bind fun x4 =>
    if x4 = 0 then none else
    if (v3 - v3 / x4 * x4) = 0 then
      k34 v3
    else
      (some ((v3 + v1))).bind fun x5 =>
      fX5_round_16 N w o v1 v2 k34 n x5
def fX5_round_4 (N : Nat) (w : Wd) (o : Nat) (k42 : Int32 → Option (Int32)) : Nat → Int32 → Int32 → Option (Int32)
  | 0, _, _ => none
  | n + 1, v1, v2 =>
    (gR w [5] o 17).bind fun x1 =>
    (aI 0 w x1 (0 : Int32)).bind fun x2 =>
    if x2 ≤ v2 then
      k42 v1
    else
      fX5_round_16 N w o v1 v2
        (fun y6 =>
          (some (v2 + (1 : Int32))).bind fun x7 =>
          fX5_round_4 N w o k42 n y6 x7)
        N v1
def fX5_round (N : Nat) (w : Wd) (o : Nat) : Option (Int32) :=
  fX5_round_4 N w o
    (fun y8 =>
      some y8)
    N (1 : Int32) (0 : Int32)

def fX5_placeOf (N : Nat) (w : Wd) (o : Nat) (v1 : Int32) (v2 : Int32) : Option (Int32) :=
  (gR w [5] o 19).bind fun x1 =>
  (aI 0 w x1 v1).bind fun x2 =>
  if x2 = 0 then none else
  (some ((v2 - v2 / x2 * x2))).bind fun x3 =>
  if 0 ≤ x3 then
    some (((8 : Int32) * v1) + x3)
  else
    (gR w [5] o 19).bind fun x4 =>
    (aI 0 w x4 v1).bind fun x5 =>
    some (((8 : Int32) * v1) + (x3 + x5))

def fX5_highOf (N : Nat) (w : Wd) (o : Nat) (v1 : Int32) (v2 : Int32) : Option (Int32) :=
  (gR w [5] o 20).bind fun x1 =>
  (fX5_placeOf N w o v1 v2).bind fun x2 =>
  (aI 0 w x1 x2).bind fun x3 =>
  some x3

def fX5_toOf (N : Nat) (w : Wd) (o : Nat) (v1 : Int32) (v2 : Int32) : Option (Int32) :=
  (gR w [5] o 21).bind fun x1 =>
  (fX5_placeOf N w o v1 v2).bind fun x2 =>
  (aI 0 w x1 x2).bind fun x3 =>
  some x3

def fX5_comesDown_19 (N : Nat) (w : Wd) (o : Nat) (v1 : Int32) (v2 : Int32) (v4 : Int32) (k69 : Int32 → Option (Int32)) : Nat → Int32 → Int32 → Option (Int32)
  | 0, _, _ => none
  | n + 1, v3, v5 =>
    if (9 : Int32) < v5 then
      k69 v3
    else
      (fX5_highOf N w o v4 (v2 - v5)).bind fun x3 =>
      if x3 = v5 then
        (fX5_toOf N w o v4 (v2 - v5)).bind fun x6 =>
        if x6 = v1 then
          (some ((v3 + (1 : Int32)))).bind fun x9 =>
          (some (v5 + (1 : Int32))).bind fun x10 =>
          fX5_comesDown_19 N w o v1 v2 v4 k69 n x9 x10
        else
          (some ((v3 + (0 : Int32)))).bind fun x7 =>
          (some (v5 + (1 : Int32))).bind fun x8 =>
          fX5_comesDown_19 N w o v1 v2 v4 k69 n x7 x8
      else
        (some ((v3 + (0 : Int32)))).bind fun x4 =>
        (some (v5 + (1 : Int32))).bind fun x5 =>
        fX5_comesDown_19 N w o v1 v2 v4 k69 n x4 x5
def fX5_comesDown_5 (N : Nat) (w : Wd) (o : Nat) (v1 : Int32) (v2 : Int32) (k75 : Int32 → Option (Int32)) : Nat → Int32 → Int32 → Option (Int32)
  | 0, _, _ => none
  | n + 1, v3, v4 =>
    (gR w [5] o 17).bind fun x1 =>
    (aI 0 w x1 (0 : Int32)).bind fun x2 =>
    if x2 ≤ v4 then
      k75 v3
    else
      fX5_comesDown_19 N w o v1 v2 v4
        (fun y11 =>
          (some (v4 + (1 : Int32))).bind fun x12 =>
          fX5_comesDown_5 N w o v1 v2 k75 n y11 x12)
        N v3 (1 : Int32)
def fX5_comesDown (N : Nat) (w : Wd) (o : Nat) (v1 : Int32) (v2 : Int32) : Option (Int32) :=
  fX5_comesDown_5 N w o v1 v2
    (fun y13 =>
      some y13)
    N (0 : Int32) (0 : Int32)

def fX5_isClash_20 (N : Nat) (w : Wd) (o : Nat) (s0 : Int32) (s1 : Int32) : Option (Int32) :=
  if s0 = s1 then
    some (0 : Int32)
  else
    some (1 : Int32)
def fX5_isClash (N : Nat) (w : Wd) (o : Nat) (v1 : Int32) (v2 : Int32) : Option (Int32) :=
  (fX5_comesDown N w o v1 v2).bind fun x1 =>
  (fX5_highOf N w o v1 v2).bind fun x2 =>
  if x2 ≤ 0 then
    fX5_isClash_20 N w o x1 (0 : Int32)
  else
    fX5_isClash_20 N w o x1 (1 : Int32)

def fX5_isUp_14 (N : Nat) (w : Wd) (o : Nat) (v1 : Int32) (v2 : Int32) (k33 : Option (Int32)) (k41 : Option (Int32)) : Nat → Int32 → Option (Int32)
  | 0, _ => none
  | n + 1, v3 =>
    (gR w [5] o 17).bind fun x2 =>
    (aI 0 w x2 (0 : Int32)).bind fun x3 =>
    if x3 ≤ v3 then
      k41
    else
      (fX5_isClash N w o v3 v2).bind fun x4 =>
      if x4 = 0 then
        (some (v3 + (1 : Int32))).bind fun x5 =>
        fX5_isUp_14 N w o v1 v2 k33 k41 n x5
      else
        k33
def fX5_isUp_7 (N : Nat) (w : Wd) (o : Nat) (v1 : Int32) (k33 : Option (Int32)) (k47 : Option (Int32)) : Nat → Int32 → Option (Int32)
  | 0, _ => none
  | n + 1, v2 =>
    if v1 ≤ v2 then
      k47
    else
      fX5_isUp_14 N w o v1 v2
        (
          k33)
        (
          (some (v2 + (1 : Int32))).bind fun x6 =>
          fX5_isUp_7 N w o v1 k33 k47 n x6)
        N (0 : Int32)
def fX5_isUp (N : Nat) (w : Wd) (o : Nat) : Option (Int32) :=
  (fX5_round N w o).bind fun x1 =>
  fX5_isUp_7 N w o x1
    (
      some (0 : Int32))
    (
      some (1 : Int32))
    N (0 : Int32)

def fX5_air_51 (N : Nat) (w : Wd) (o : Nat) (v1 : Int32) (v3 : Int32) (k85 : Int32 → Option (Int32 × Wd)) : Nat → Int32 → Int32 → Option (Int32 × Wd)
  | 0, _, _ => none
  | n + 1, v2, v4 =>
    if v1 < v4 then
      k85 v2
    else
      (fX5_highOf N w o v3 v4).bind fun x8 =>
      if (v4 + x8) ≤ v1 then
        (some ((v2 + (0 : Int32)))).bind fun x9 =>
        (some (v4 + (1 : Int32))).bind fun x10 =>
        fX5_air_51 N w o v1 v3 k85 n x9 x10
      else
        (some ((v2 + (1 : Int32)))).bind fun x11 =>
        (some (v4 + (1 : Int32))).bind fun x12 =>
        fX5_air_51 N w o v1 v3 k85 n x11 x12
def fX5_air_35 (N : Nat) (w : Wd) (o : Nat) (v1 : Int32) (k91 : Int32 → Option (Int32 × Wd)) : Nat → Int32 → Int32 → Option (Int32 × Wd)
  | 0, _, _ => none
  | n + 1, v2, v3 =>
    (gR w [5] o 17).bind fun x5 =>
    (aI 0 w x5 (0 : Int32)).bind fun x6 =>
    if x6 ≤ v3 then
      k91 v2
    else
      (some ((v1 - (8 : Int32)))).bind fun x7 =>
      fX5_air_51 N w o v1 v3
        (fun y13 =>
          (some (v3 + (1 : Int32))).bind fun x14 =>
          fX5_air_35 N w o v1 k91 n y13 x14)
        N v2 x7
def fX5_air (N : Nat) (w : Wd) (o : Nat) (v1 : Int32) : Option (Int32 × Wd) :=
  (pF w [5] o 0 (.int (0 : Int32))).bind fun w1 =>
  (fX5_isCity N w1 o).bind fun x2 =>
  if x2 = 0 then
    some ((-2 : Int32), w1)
  else
    (fX5_isBeat N w1 v1).bind fun x3 =>
    if x3 = 0 then
      some ((-2 : Int32), w1)
    else
      (fX5_isUp N w1 o).bind fun x4 =>
      if x4 = 0 then
        some ((-1 : Int32), w1)
      else
        fX5_air_35 N w1 o v1
          (fun y15 =>
            some (y15, w1))
          N (0 : Int32) (0 : Int32)

def fX5_isLetter (N : Nat) (w : Wd) (o : Nat) (v1 : Int32) : Option (Int32) :=
  (gR w [5] o 22).bind fun x1 =>
  (aI 0 w x1 (1 : Int32)).bind fun x2 =>
  (fX5_in N w v1.toInt64 (0 : Int64) ((x2 - (1 : Int32)).toInt64)).bind fun x3 =>
  if x3 = 0 ∨ x3 = 1 then some x3 else none

def fX5_starts (N : Nat) (w : Wd) (o : Nat) (v1 : Int32) (v2 : Int32) : Option (Int32 × Wd) :=
  (fX5_isUp N w o).bind fun x1 =>
  if x1 = 0 then
    some ((0 : Int32), w)
  else
    (fX5_highOf N w o v1 v2).bind fun x2 =>
    if x2 = 0 then
      some ((0 : Int32), w)
    else
      (pF w [5] o 30 (.int v1)).bind fun w3 =>
      (pF w3 [5] o 31 (.int v2)).bind fun w4 =>
      some ((1 : Int32), w4)

def fX5_follows (N : Nat) (w : Wd) (o : Nat) : Option (Wd) :=
  (gI w [5] o 30).bind fun x1 =>
  (gI w [5] o 31).bind fun x2 =>
  (fX5_highOf N w o x1 x2).bind fun x3 =>
  (gI w [5] o 30).bind fun x4 =>
  (gI w [5] o 31).bind fun x5 =>
  (fX5_toOf N w o x4 x5).bind fun x6 =>
  (pF w [5] o 30 (.int x6)).bind fun w7 =>
  (gI w7 [5] o 31).bind fun x8 =>
  (pF w7 [5] o 31 (.int (x8 + x3))).bind fun w9 =>
  some w9

def fX5_alone_53 (N : Nat) (o : Nat) (v1 : Int32) (v2 : Int32) (v3 : Int32) (v4 : Int32) (k74 : Wd → Option (Int32 × Wd)) (k99 : Wd → Option (Int32 × Wd)) : Nat → Wd → Option (Int32 × Wd)
  | 0, _ => none
  | n + 1, w =>
    (fX5_follows N w o).bind fun w9 =>
    (gI w9 [5] o 30).bind fun x10 =>
    (gR w9 [5] o 24).bind fun x11 =>
    (aI 0 w9 x11 (((3 : Int32) * v1) + (2 : Int32))).bind fun x12 =>
    if x10 = x12 then
      k74 w9
    else
      (gI w9 [5] o 30).bind fun x13 =>
      if x13 = v2 then
        (gI w9 [5] o 31).bind fun x14 =>
        if v4 = 0 then none else
        if ((x14 - v3) - (x14 - v3) / v4 * v4) = 0 then
          k99 w9
        else
          fX5_alone_53 N o v1 v2 v3 v4 k74 k99 n w9
      else
        fX5_alone_53 N o v1 v2 v3 v4 k74 k99 n w9
def fX5_alone (N : Nat) (w : Wd) (o : Nat) (v1 : Int32) : Option (Int32 × Wd) :=
  (pF w [5] o 0 (.int (0 : Int32))).bind fun w1 =>
  (fX5_isLetter N w1 o v1).bind fun x2 =>
  if x2 = 0 then
    some ((-2 : Int32), w1)
  else
    (gR w1 [5] o 24).bind fun x3 =>
    (aI 0 w1 x3 ((3 : Int32) * v1)).bind fun x4 =>
    (gR w1 [5] o 24).bind fun x5 =>
    (aI 0 w1 x5 (((3 : Int32) * v1) + (1 : Int32))).bind fun x6 =>
    (fX5_starts N w1 o x4 x6).bind fun x7 =>
    if x7.1 = 0 then
      some ((-1 : Int32), x7.2)
    else
      (fX5_round N x7.2 o).bind fun x8 =>
      fX5_alone_53 N o v1 x4 x6 x8
        (fun w15 =>
          (gI w15 [5] o 31).bind fun x16 =>
          some (x16, w15))
        (fun w17 =>
          some ((-1 : Int32), w17))
        N x7.2

def fX5_areRows (N : Nat) (w : Wd) (v0 : Int32) (v1 : Int32) (v2 : Int32) : Option (Int32) :=
  (fX5_in N w v0.toInt64 (1 : Int64) (8 : Int64)).bind fun x1 =>
  if x1 = 0 then
    some (0 : Int32)
  else
    (fX5_in N w v1.toInt64 (0 : Int64) (9 : Int64)).bind fun x2 =>
    if x2 = 0 then
      some (0 : Int32)
    else
      (fX5_in N w v2.toInt64 (0 : Int64) (9 : Int64)).bind fun x3 =>
      if x3 = 0 then
        some (0 : Int32)
      else
        some (1 : Int32)

def fX5_is (N : Nat) (w : Wd) (o : Nat) (v1 : Int64) : Option (Int32) :=
  (gI w [5] o 12).bind fun x1 =>
  if x1 = 0 then
    (gI w [5] o 8).bind fun x2 =>
    if x2 = (1 : Int32) then
      (gL w [5] o 11).bind fun x3 =>
      if (lg_cmp x3 v1) = 0 then
        some (1 : Int32)
      else
        some (0 : Int32)
    else
      some (0 : Int32)
  else
    some (0 : Int32)

def fX5_isByte (N : Nat) (w : Wd) (o : Nat) (v1 : Int32) (v2 : Int32) (v3 : Int32) : Option (Int32) :=
  (gI w [5] o 6).bind fun x1 =>
  if x1 ≤ v1 then
    some (0 : Int32)
  else
    (gR w [5] o 5).bind fun x2 =>
    (aI 2 w x2 v1).bind fun x3 =>
    if x3 < v2 then
      some (0 : Int32)
    else
      (gR w [5] o 5).bind fun x4 =>
      (aI 2 w x4 v1).bind fun x5 =>
      if v3 < x5 then
        some (0 : Int32)
      else
        some (1 : Int32)

def fX5_next_0 (N : Nat) (o : Nat) (k43 : Wd → Option (Wd)) : Nat → Wd → Option (Wd)
  | 0, _ => none
  | n + 1, w =>
    (gI w [5] o 7).bind fun x1 =>
    (fX5_isByte N w o x1 (32 : Int32) (32 : Int32)).bind fun x2 =>
    if x2 = 0 then
      (gI w [5] o 7).bind fun x5 =>
      (fX5_isByte N w o x5 (10 : Int32) (10 : Int32)).bind fun x6 =>
      if x6 = 0 then
        k43 w
      else
        (gI w [5] o 7).bind fun x7 =>
        (pF w [5] o 7 (.int (x7 + (1 : Int32)))).bind fun w8 =>
        fX5_next_0 N o k43 n w8
    else
      (gI w [5] o 7).bind fun x3 =>
      (pF w [5] o 7 (.int (x3 + (1 : Int32)))).bind fun w4 =>
      fX5_next_0 N o k43 n w4
def fX5_next_208 (N : Nat) (o : Nat) (k307 : Wd → Option (Wd)) : Nat → Wd → Option (Wd)
  | 0, _ => none
  | n + 1, w =>
    (gI w [5] o 7).bind fun x30 =>
    (fX5_isByte N w o x30 (48 : Int32) (57 : Int32)).bind fun x31 =>
    if x31 = 0 then
      k307 w
    else
      (gI w [5] o 10).bind fun x32 =>
      if x32 ≤ (100000 : Int32) then
        (gI w [5] o 10).bind fun x33 =>
        (gR w [5] o 5).bind fun x34 =>
        (gI w [5] o 7).bind fun x35 =>
        (aI 2 w x34 x35).bind fun x36 =>
        (pF w [5] o 10 (.int ((((10 : Int32) * x33) + x36) - (48 : Int32)))).bind fun w37 =>
        (gI w37 [5] o 7).bind fun x38 =>
        (pF w37 [5] o 7 (.int (x38 + (1 : Int32)))).bind fun w39 =>
        fX5_next_208 N o k307 n w39
      else
        (pF w [5] o 10 (.int (1000000 : Int32))).bind fun w40 =>
        (gI w40 [5] o 7).bind fun x41 =>
        (pF w40 [5] o 7 (.int (x41 + (1 : Int32)))).bind fun w42 =>
        fX5_next_208 N o k307 n w42
def fX5_next_153 (N : Nat) (w : Wd) (o : Nat) (v1 : Int32) (s0 : Nat) (s1 : Int64) (r102 : Int32 → Wd → Option (Wd)) (k185 : Wd → Option (Wd)) : Option (Wd) :=
  (pF w [5] s0 11 (.long s1)).bind fun w51 =>
  if v1 ≤ (11 : Int32) then
    (gI w51 [5] o 7).bind fun x52 =>
    (pF w51 [5] o 7 (.int (x52 + (1 : Int32)))).bind fun w53 =>
    (some (v1 + (1 : Int32))).bind fun x54 =>
    r102 x54 w53
  else
    (pF w51 [5] o 11 (.long (-1 : Int64))).bind fun w55 =>
    (gI w55 [5] o 7).bind fun x56 =>
    (pF w55 [5] o 7 (.int (x56 + (1 : Int32)))).bind fun w57 =>
    (some (v1 + (1 : Int32))).bind fun x58 =>
    r102 x58 w57
def fX5_next_102 (N : Nat) (o : Nat) (k185 : Wd → Option (Wd)) : Nat → Int32 → Wd → Option (Wd)
  | 0, _, _ => none
  | n + 1, v1, w =>
    (gI w [5] o 7).bind fun x45 =>
    (fX5_isByte N w o x45 (97 : Int32) (122 : Int32)).bind fun x46 =>
    if x46 = 0 then
      k185 w
    else
      if v1 ≤ (11 : Int32) then
        (gL w [5] o 11).bind fun x47 =>
        (gR w [5] o 5).bind fun x48 =>
        (gI w [5] o 7).bind fun x49 =>
        (aI 2 w x48 x49).bind fun x50 =>
        fX5_next_153 N w o v1 o ((((27 : Int64) * x47) + x50.toInt64) - (96 : Int64)) (fX5_next_102 N o k185 n) k185
      else
        fX5_next_153 N w o v1 o (-1 : Int64) (fX5_next_102 N o k185 n) k185
def fX5_next (N : Nat) (w : Wd) (o : Nat) : Option (Wd) :=
  fX5_next_0 N o
    (fun w9 =>
      (gI w9 [5] o 7).bind fun x10 =>
      (pF w9 [5] o 9 (.int x10)).bind fun w11 =>
      (pF w11 [5] o 10 (.int (0 : Int32))).bind fun w12 =>
      (pF w12 [5] o 11 (.long (0 : Int64))).bind fun w13 =>
      (gI w13 [5] o 7).bind fun x14 =>
      (gI w13 [5] o 6).bind fun x15 =>
      if x14 = x15 then
        (pF w13 [5] o 8 (.int (0 : Int32))).bind fun w60 =>
        some w60
      else
        (gI w13 [5] o 7).bind fun x16 =>
        (fX5_isByte N w13 o x16 (97 : Int32) (122 : Int32)).bind fun x17 =>
        if x17 = 0 then
          (gI w13 [5] o 7).bind fun x18 =>
          (fX5_isByte N w13 o x18 (48 : Int32) (57 : Int32)).bind fun x19 =>
          if x19 = 0 then
            (gR w13 [5] o 5).bind fun x20 =>
            (gI w13 [5] o 7).bind fun x21 =>
            (aI 2 w13 x20 x21).bind fun x22 =>
            if x22 = (59 : Int32) then
              (pF w13 [5] o 8 (.int (3 : Int32))).bind fun w26 =>
              (gI w26 [5] o 7).bind fun x27 =>
              (pF w26 [5] o 7 (.int (x27 + (1 : Int32)))).bind fun w28 =>
              some w28
            else
              (pF w13 [5] o 8 (.int (4 : Int32))).bind fun w23 =>
              (gI w23 [5] o 7).bind fun x24 =>
              (pF w23 [5] o 7 (.int (x24 + (1 : Int32)))).bind fun w25 =>
              some w25
          else
            (pF w13 [5] o 8 (.int (2 : Int32))).bind fun w29 =>
            fX5_next_208 N o
              (fun w43 =>
                some w43)
              N w29
        else
          (pF w13 [5] o 8 (.int (1 : Int32))).bind fun w44 =>
          fX5_next_102 N o
            (fun w59 =>
              some w59)
            N (0 : Int32) w44)
    N w

def fX5_takes (N : Nat) (w : Wd) (o : Nat) (v1 : Int64) : Option (Int32 × Wd) :=
  (fX5_is N w o v1).bind fun x1 =>
  if x1 = 0 then
    some ((0 : Int32), w)
  else
    (fX5_next N w o).bind fun w2 =>
    some ((1 : Int32), w2)

def fX5_fails (N : Nat) (w : Wd) (o : Nat) (v1 : Int32) : Option (Wd) :=
  (gI w [5] o 12).bind fun x1 =>
  if x1 = 0 then
    (pF w [5] o 12 (.int v1)).bind fun w2 =>
    (gI w2 [5] o 9).bind fun x3 =>
    (pF w2 [5] o 13 (.int x3)).bind fun w4 =>
    some w4
  else
    some w

def fX5_asks (N : Nat) (w : Wd) (o : Nat) (v1 : Int64) : Option (Wd) :=
  (fX5_takes N w o v1).bind fun x1 =>
  if x1.1 = 0 then
    (fX5_fails N x1.2 o (1 : Int32)).bind fun w2 =>
    some w2
  else
    some x1.2

def fX5_at (N : Nat) (w : Wd) (v0 : Int32) (v1 : Int32) : Option (Int32) :=
  some (((73 : Int32) * v0) + v1)

def fX5_copyRow_3 (N : Nat) (v0 : Nat) (v1 : Int32) (v2 : Int32) (v3 : Int32) (k31 : Wd → Option (Wd)) : Nat → Int32 → Wd → Option (Wd)
  | 0, _, _ => none
  | n + 1, v4, w =>
    if v1 ≤ v4 then
      k31 w
    else
      (aI 0 w v0 ((v1 * v2) + v4)).bind fun x1 =>
      (sI 0 w v0 ((v1 * v3) + v4) x1).bind fun w2 =>
      (some (v4 + (1 : Int32))).bind fun x3 =>
      fX5_copyRow_3 N v0 v1 v2 v3 k31 n x3 w2
def fX5_copyRow (N : Nat) (w : Wd) (v0 : Nat) (v1 : Int32) (v2 : Int32) (v3 : Int32) : Option (Wd) :=
  fX5_copyRow_3 N v0 v1 v2 v3
    (fun w4 =>
      some w4)
    N (0 : Int32) w

def fX5_copyCity (N : Nat) (w : Wd) (o : Nat) (v1 : Int32) (v2 : Int32) : Option (Wd) :=
  (gR w [5] o 16).bind fun x1 =>
  (fX5_copyRow N w x1 (1 : Int32) v1 v2).bind fun w2 =>
  (gR w2 [5] o 17).bind fun x3 =>
  (fX5_copyRow N w2 x3 (1 : Int32) v1 v2).bind fun w4 =>
  (gR w4 [5] o 18).bind fun x5 =>
  (fX5_copyRow N w4 x5 (6 : Int32) v1 v2).bind fun w6 =>
  (gR w6 [5] o 19).bind fun x7 =>
  (fX5_copyRow N w6 x7 (6 : Int32) v1 v2).bind fun w8 =>
  (gR w8 [5] o 20).bind fun x9 =>
  (fX5_copyRow N w8 x9 (48 : Int32) v1 v2).bind fun w10 =>
  (gR w10 [5] o 21).bind fun x11 =>
  (fX5_copyRow N w10 x11 (48 : Int32) v1 v2).bind fun w12 =>
  (gR w12 [5] o 22).bind fun x13 =>
  (fX5_copyRow N w12 x13 (2 : Int32) v1 v2).bind fun w14 =>
  (gR w14 [5] o 23).bind fun x15 =>
  (fX5_copyRow N w14 x15 (12 : Int32) v1 v2).bind fun w16 =>
  (gR w16 [5] o 24).bind fun x17 =>
  (fX5_copyRow N w16 x17 (24 : Int32) v1 v2).bind fun w18 =>
  (gR w18 [5] o 25).bind fun x19 =>
  (fX5_copyRow N w18 x19 (2 : Int32) v1 v2).bind fun w20 =>
  some w20

def fX5_back (N : Nat) (w : Wd) (o : Nat) (v1 : Int32) : Option (Int32 × Wd) :=
  (pF w [5] o 0 (.int (0 : Int32))).bind fun w1 =>
  (fX5_in N w1 v1.toInt64 (0 : Int64) (2 : Int64)).bind fun x2 =>
  if x2 = 0 then
    some ((-2 : Int32), w1)
  else
    (gR w1 [5] o 27).bind fun x3 =>
    (aI 3 w1 x3 v1).bind fun x4 =>
    if x4 = 0 then
      some ((-6 : Int32), w1)
    else
      (fX5_copyCity N w1 o ((1 : Int32) + v1) (0 : Int32)).bind fun w5 =>
      some ((0 : Int32), w5)

def fX5_backwards_107 (N : Nat) (o : Nat) (v1 : Int32) (v2 : Int32) (v3 : Int32) (v4 : Int32) (v5 : Int32) (k174 : Wd → Option (Int32 × Wd)) : Nat → Int32 → Wd → Option (Int32 × Wd)
  | 0, _, _ => none
  | n + 1, v6, w =>
    if (9 : Int32) < v6 then
      k174 w
    else
      (fX5_highOf N w o v5 ((v1 - v3) - v6)).bind fun x15 =>
      if x15 = v6 then
        (fX5_toOf N w o v5 ((v1 - v3) - v6)).bind fun x17 =>
        if x17 = v2 then
          (gR w [5] o 20).bind fun x18 =>
          (sI 0 w x18 v4 v6).bind fun w19 =>
          (gR w19 [5] o 21).bind fun x20 =>
          (sI 0 w19 x20 v4 v5).bind fun w21 =>
          (some (v6 + (1 : Int32))).bind fun x22 =>
          fX5_backwards_107 N o v1 v2 v3 v4 v5 k174 n x22 w21
        else
          (some (v6 + (1 : Int32))).bind fun x23 =>
          fX5_backwards_107 N o v1 v2 v3 v4 v5 k174 n x23 w
      else
        (some (v6 + (1 : Int32))).bind fun x16 =>
        fX5_backwards_107 N o v1 v2 v3 v4 v5 k174 n x16 w
def fX5_backwards_93 (N : Nat) (o : Nat) (v1 : Int32) (v2 : Int32) (v3 : Int32) (v4 : Int32) (k180 : Wd → Option (Int32 × Wd)) : Nat → Int32 → Wd → Option (Int32 × Wd)
  | 0, _, _ => none
  | n + 1, v5, w =>
    (gR w [5] o 17).bind fun x13 =>
    (aI 0 w x13 (0 : Int32)).bind fun x14 =>
    if x14 ≤ v5 then
      k180 w
    else
      fX5_backwards_107 N o v1 v2 v3 v4 v5
        (fun w24 =>
          (some (v5 + (1 : Int32))).bind fun x25 =>
          fX5_backwards_93 N o v1 v2 v3 v4 k180 n x25 w24)
        N (1 : Int32) w
def fX5_backwards_58 (N : Nat) (o : Nat) (v1 : Int32) (v2 : Int32) (k186 : Wd → Option (Int32 × Wd)) : Nat → Int32 → Wd → Option (Int32 × Wd)
  | 0, _, _ => none
  | n + 1, v3, w =>
    if v1 ≤ v3 then
      k186 w
    else
      (some ((((8 : Int32) * ((30 : Int32) + v2)) + v3))).bind fun x8 =>
      (gR w [5] o 20).bind fun x9 =>
      (sI 0 w x9 x8 (0 : Int32)).bind fun w10 =>
      (gR w10 [5] o 21).bind fun x11 =>
      (sI 0 w10 x11 x8 v2).bind fun w12 =>
      fX5_backwards_93 N o v1 v2 v3 x8
        (fun w26 =>
          (some (v3 + (1 : Int32))).bind fun x27 =>
          fX5_backwards_58 N o v1 v2 k186 n x27 w26)
        N (0 : Int32) w12
def fX5_backwards_46 (N : Nat) (o : Nat) (v1 : Int32) (k202 : Wd → Option (Int32 × Wd)) : Nat → Int32 → Wd → Option (Int32 × Wd)
  | 0, _, _ => none
  | n + 1, v2, w =>
    (gR w [5] o 17).bind fun x6 =>
    (aI 0 w x6 (0 : Int32)).bind fun x7 =>
    if x7 ≤ v2 then
      k202 w
    else
      fX5_backwards_58 N o v1 v2
        (fun w28 =>
          (gR w28 [5] o 19).bind fun x29 =>
          (sI 0 w28 x29 ((30 : Int32) + v2) v1).bind fun w30 =>
          (some (v2 + (1 : Int32))).bind fun x31 =>
          fX5_backwards_46 N o v1 k202 n x31 w30)
        N (0 : Int32) w
def fX5_backwards (N : Nat) (w : Wd) (o : Nat) : Option (Int32 × Wd) :=
  (pF w [5] o 0 (.int (0 : Int32))).bind fun w1 =>
  (fX5_isCity N w1 o).bind fun x2 =>
  if x2 = 0 then
    some ((-2 : Int32), w1)
  else
    (fX5_isUp N w1 o).bind fun x3 =>
    if x3 = 0 then
      some ((-1 : Int32), w1)
    else
      (fX5_round N w1 o).bind fun x4 =>
      if x4 ≤ (8 : Int32) then
        (fX5_copyCity N w1 o (0 : Int32) (5 : Int32)).bind fun w5 =>
        fX5_backwards_46 N o x4
          (fun w32 =>
            (fX5_copyCity N w32 o (5 : Int32) (0 : Int32)).bind fun w33 =>
            some (x4, w33))
          N (0 : Int32) w5
      else
        some ((-5 : Int32), w1)

def fX5_isRoof (N : Nat) (w : Wd) (o : Nat) (v1 : Int32) : Option (Int32) :=
  (gR w [5] o 17).bind fun x1 =>
  (aI 0 w x1 (0 : Int32)).bind fun x2 =>
  (fX5_in N w v1.toInt64 (0 : Int64) ((x2 - (1 : Int32)).toInt64)).bind fun x3 =>
  if x3 = 0 ∨ x3 = 1 then some x3 else none

def fX5_isToss (N : Nat) (w : Wd) (o : Nat) (v1 : Int32) (v2 : Int32) : Option (Int32) :=
  (fX5_isRoof N w o v1).bind fun x1 =>
  if x1 = 0 then
    some (0 : Int32)
  else
    (fX5_isBeat N w v2).bind fun x2 =>
    if x2 = 0 then
      some (0 : Int32)
    else
      some (1 : Int32)

def fX5_ball_54 (N : Nat) (o : Nat) (v3 : Int32) (v4 : Int32) (k70 : Wd → Option (Int32 × Wd)) : Nat → Int32 → Wd → Option (Int32 × Wd)
  | 0, _, _ => none
  | n + 1, v5, w =>
    if v3 ≤ v5 then
      k70 w
    else
      (fX5_follows N w o).bind fun w6 =>
      (some (v5 + (1 : Int32))).bind fun x7 =>
      fX5_ball_54 N o v3 v4 k70 n x7 w6
def fX5_ball (N : Nat) (w : Wd) (o : Nat) (v1 : Int32) (v2 : Int32) (v3 : Int32) (v4 : Int32) : Option (Int32 × Wd) :=
  (pF w [5] o 0 (.int (0 : Int32))).bind fun w1 =>
  (fX5_isToss N w1 o v1 v2).bind fun x2 =>
  if x2 = 0 then
    some ((-2 : Int32), w1)
  else
    (fX5_in N w1 v3.toInt64 (0 : Int64) (200 : Int64)).bind fun x3 =>
    if x3 = 0 then
      some ((-2 : Int32), w1)
    else
      (fX5_in N w1 v4.toInt64 (0 : Int64) (1 : Int64)).bind fun x4 =>
      if x4 = 0 then
        some ((-2 : Int32), w1)
      else
        (fX5_starts N w1 o v1 v2).bind fun x5 =>
        if x5.1 = 0 then
          some ((-1 : Int32), x5.2)
        else
          fX5_ball_54 N o v3 v4
            (fun w8 =>
              if v4 = 0 then
                (gI w8 [5] o 30).bind fun x10 =>
                some (x10, w8)
              else
                (gI w8 [5] o 31).bind fun x9 =>
                some (x9, w8))
            N (0 : Int32) x5.2

def fX5_ballsOf_17 (N : Nat) (w : Wd) (o : Nat) (v1 : Int32) (v3 : Int32) (k44 : Int32 → Option (Int32)) : Nat → Int32 → Int32 → Option (Int32)
  | 0, _, _ => none
  | n + 1, v2, v4 =>
    (gR w [5] o 17).bind fun x2 =>
    (aI 0 w x2 (0 : Int32)).bind fun x3 =>
    if x3 ≤ v4 then
      k44 v2
    else
      (fX5_highOf N w o v4 v3).bind fun x4 =>
      (some ((v2 + x4))).bind fun x5 =>
      (some (v4 + (1 : Int32))).bind fun x6 =>
      fX5_ballsOf_17 N w o v1 v3 k44 n x5 x6
def fX5_ballsOf_9 (N : Nat) (w : Wd) (o : Nat) (v1 : Int32) (k50 : Int32 → Option (Int32)) : Nat → Int32 → Int32 → Option (Int32)
  | 0, _, _ => none
  | n + 1, v2, v3 =>
    if v1 ≤ v3 then
      k50 v2
    else
      fX5_ballsOf_17 N w o v1 v3
        (fun y7 =>
          (some (v3 + (1 : Int32))).bind fun x8 =>
          fX5_ballsOf_9 N w o v1 k50 n y7 x8)
        N v2 (0 : Int32)
def fX5_ballsOf (N : Nat) (w : Wd) (o : Nat) : Option (Int32) :=
  (fX5_round N w o).bind fun x1 =>
  fX5_ballsOf_9 N w o x1
    (fun y9 =>
      if x1 = 0 then none else
      some (y9 / x1))
    N (0 : Int32) (0 : Int32)

def fX5_balls (N : Nat) (w : Wd) (o : Nat) : Option (Int32 × Wd) :=
  (pF w [5] o 0 (.int (0 : Int32))).bind fun w1 =>
  (fX5_isCity N w1 o).bind fun x2 =>
  if x2 = 0 then
    some ((-2 : Int32), w1)
  else
    (fX5_isUp N w1 o).bind fun x3 =>
    if x3 = 0 then
      some ((-1 : Int32), w1)
    else
      (fX5_ballsOf N w1 o).bind fun x4 =>
      some (x4, w1)

def fX5_begins (N : Nat) (w : Wd) (o : Nat) : Option (Wd) :=
  (pF w [5] o 12 (.int (0 : Int32))).bind fun w1 =>
  (pF w1 [5] o 13 (.int (-1 : Int32))).bind fun w2 =>
  (pF w2 [5] o 7 (.int (0 : Int32))).bind fun w3 =>
  (fX5_next N w3 o).bind fun w4 =>
  some w4

def fX5_behind (N : Nat) (w : Wd) (v0 : Int32) (v1 : Int32) : Option (Int32) :=
  if (v0 &&& (1 : Int32)) = 0 then
    if v1 = 0 then
      some (v0 >>> ((1 : Int32) &&& 31))
    else
      some (-1 : Int32)
  else
    if v1 = 0 then
      some (-1 : Int32)
    else
      if ((v0 >>> (v1 &&& 31)) &&& (1 : Int32)) = (1 : Int32) then
        some (-1 : Int32)
      else
        some ((v0 >>> ((1 : Int32) &&& 31)) ||| ((1 : Int32) <<< ((v1 - (1 : Int32)) &&& 31)))

def fX5_bitsOf_4 (N : Nat) (w : Wd) (k20 : Int32 → Option (Int32)) : Nat → Int32 → Int32 → Option (Int32)
  | 0, _, _ => none
  | n + 1, v1, v2 =>
    if v2 = 0 then
      k20 v1
    else
      (some (v1 + (1 : Int32))).bind fun x1 =>
      (some ((v2 &&& (v2 - (1 : Int32))))).bind fun x2 =>
      fX5_bitsOf_4 N w k20 n x1 x2
def fX5_bitsOf (N : Nat) (w : Wd) (v0 : Int32) : Option (Int32) :=
  fX5_bitsOf_4 N w
    (fun y3 =>
      some y3)
    N (0 : Int32) v0

def fX5_blowsAt_163 (N : Nat) (w : Wd) (o : Nat) (v1 : Int32) (v2 : Int32) (v3 : Int32) (v4 : Int32) : Option (Wd) :=
  if v4 = 0 then
    some w
  else
    (gR w [5] o 42).bind fun x6 =>
    (fX5_toOf N w o v1 v2).bind fun x7 =>
    (sI 3 w x6 (((16 : Int32) * x7) + ((v2 + v3) - (v2 + v3) / (16 : Int32) * (16 : Int32))) (1 : Int32)).bind fun w8 =>
    some w8
def fX5_blowsAt_160 (N : Nat) (w : Wd) (o : Nat) (v1 : Int32) (v2 : Int32) (v3 : Int32) (v4 : Int32) (s0 : Nat) (s1 : Int32) : Option (Wd) :=
  (pF w [5] s0 44 (.int s1)).bind fun w23 =>
  fX5_blowsAt_163 N w23 o v1 v2 v3 v4
def fX5_blowsAt_140 (N : Nat) (w : Wd) (o : Nat) (v1 : Int32) (v2 : Int32) (v3 : Int32) (v4 : Int32) (s0 : Nat) (s1 : Int32) : Option (Wd) :=
  (pF w [5] s0 45 (.int s1)).bind fun w20 =>
  (gI w20 [5] o 44).bind fun x21 =>
  if x21 = (-1 : Int32) then
    fX5_blowsAt_160 N w20 o v1 v2 v3 v4 o v2
  else
    (gI w20 [5] o 44).bind fun x22 =>
    fX5_blowsAt_160 N w20 o v1 v2 v3 v4 o x22
def fX5_blowsAt_106 (N : Nat) (w : Wd) (o : Nat) (v1 : Int32) (v2 : Int32) (v3 : Int32) (s0 : Int32) : Option (Wd) :=
  if s0 = 0 then
    fX5_blowsAt_163 N w o v1 v2 v3 s0
  else
    (gI w [5] o 43).bind fun x16 =>
    (pF w [5] o 43 (.int (x16 + (1 : Int32)))).bind fun w17 =>
    (gI w17 [5] o 44).bind fun x18 =>
    if x18 = (-1 : Int32) then
      fX5_blowsAt_140 N w17 o v1 v2 v3 s0 o v1
    else
      (gI w17 [5] o 45).bind fun x19 =>
      fX5_blowsAt_140 N w17 o v1 v2 v3 s0 o x19
def fX5_blowsAt (N : Nat) (w : Wd) (o : Nat) (v1 : Int32) (v2 : Int32) : Option (Wd) :=
  (fX5_highOf N w o v1 v2).bind fun x1 =>
  if x1 = 0 then
    some w
  else
    (gR w [5] o 42).bind fun x2 =>
    (aI 3 w x2 (((16 : Int32) * v1) + (v2 - v2 / (16 : Int32) * (16 : Int32)))).bind fun x3 =>
    (gR w [5] o 42).bind fun x4 =>
    (sI 3 w x4 (((16 : Int32) * v1) + (v2 - v2 / (16 : Int32) * (16 : Int32))) (0 : Int32)).bind fun w5 =>
    if x3 = 0 then
      (gR w5 [5] o 25).bind fun x9 =>
      (aI 0 w5 x9 (0 : Int32)).bind fun x10 =>
      if x1 < x10 then
        fX5_blowsAt_163 N w5 o v1 v2 x1 x3
      else
        (gL w5 [5] o 41).bind fun x11 =>
        (pF w5 [5] o 41 (.long ((((1103515245 : Int64) * x11) + (12345 : Int64)) - (((1103515245 : Int64) * x11) + (12345 : Int64)) / (2147483648 : Int64) * (2147483648 : Int64)))).bind fun w12 =>
        (gL w12 [5] o 41).bind fun x13 =>
        (gR w12 [5] o 25).bind fun x14 =>
        (aI 0 w12 x14 (1 : Int32)).bind fun x15 =>
        if 0 ≤ (lg_cmp ((x13 / (65536 : Int64)) - (x13 / (65536 : Int64)) / (100 : Int64) * (100 : Int64)) x15.toInt64) then
          fX5_blowsAt_106 N w12 o v1 v2 x1 (0 : Int32)
        else
          fX5_blowsAt_106 N w12 o v1 v2 x1 (1 : Int32)
    else
      fX5_blowsAt_163 N w5 o v1 v2 x1 x3

def fX5_blows_23 (N : Nat) (o : Nat) (v3 : Int32) (k44 : Wd → Option (Wd)) : Nat → Int32 → Wd → Option (Wd)
  | 0, _, _ => none
  | n + 1, v4, w =>
    if (96 : Int32) ≤ v4 then
      k44 w
    else
      (gR w [5] o 42).bind fun x5 =>
      (sI 3 w x5 v4 (0 : Int32)).bind fun w6 =>
      (some (v4 + (1 : Int32))).bind fun x7 =>
      fX5_blows_23 N o v3 k44 n x7 w6
def fX5_blows_56 (N : Nat) (o : Nat) (v3 : Int32) (v4 : Int32) (k81 : Wd → Option (Wd)) : Nat → Int32 → Wd → Option (Wd)
  | 0, _, _ => none
  | n + 1, v5, w =>
    (gR w [5] o 17).bind fun x9 =>
    (aI 0 w x9 (0 : Int32)).bind fun x10 =>
    if x10 ≤ v5 then
      k81 w
    else
      (fX5_blowsAt N w o v5 v4).bind fun w11 =>
      (some (v5 + (1 : Int32))).bind fun x12 =>
      fX5_blows_56 N o v3 v4 k81 n x12 w11
def fX5_blows_47 (N : Nat) (o : Nat) (v3 : Int32) (k87 : Wd → Option (Wd)) : Nat → Int32 → Wd → Option (Wd)
  | 0, _, _ => none
  | n + 1, v4, w =>
    if v3 ≤ v4 then
      k87 w
    else
      fX5_blows_56 N o v3 v4
        (fun w13 =>
          (some (v4 + (1 : Int32))).bind fun x14 =>
          fX5_blows_47 N o v3 k87 n x14 w13)
        N (0 : Int32) w
def fX5_blows (N : Nat) (w : Wd) (o : Nat) (v1 : Int64) (v3 : Int32) : Option (Wd) :=
  (pF w [5] o 41 (.long v1)).bind fun w1 =>
  (pF w1 [5] o 43 (.int (0 : Int32))).bind fun w2 =>
  (pF w2 [5] o 44 (.int (-1 : Int32))).bind fun w3 =>
  (pF w3 [5] o 45 (.int (-1 : Int32))).bind fun w4 =>
  fX5_blows_23 N o v3
    (fun w8 =>
      fX5_blows_47 N o v3
        (fun w15 =>
          some w15)
        N (0 : Int32) w8)
    N (0 : Int32) w4

def fX5_throwers_4 (N : Nat) (w : Wd) (o : Nat) (v1 : Int32) (k37 : Int32 → Option (Int32)) : Nat → Int32 → Int32 → Option (Int32)
  | 0, _, _ => none
  | n + 1, v2, v3 =>
    (gR w [5] o 17).bind fun x1 =>
    (aI 0 w x1 (0 : Int32)).bind fun x2 =>
    if x2 ≤ v3 then
      k37 v2
    else
      (fX5_highOf N w o v3 v1).bind fun x3 =>
      if x3 ≤ 0 then
        (some ((v2 + (0 : Int32)))).bind fun x4 =>
        (some (v3 + (1 : Int32))).bind fun x5 =>
        fX5_throwers_4 N w o v1 k37 n x4 x5
      else
        (some ((v2 + (1 : Int32)))).bind fun x6 =>
        (some (v3 + (1 : Int32))).bind fun x7 =>
        fX5_throwers_4 N w o v1 k37 n x6 x7
def fX5_throwers (N : Nat) (w : Wd) (o : Nat) (v1 : Int32) : Option (Int32) :=
  fX5_throwers_4 N w o v1
    (fun y8 =>
      some y8)
    N (0 : Int32) (0 : Int32)

def fX5_busiest_35 (N : Nat) (w : Wd) (o : Nat) (v1 : Int32) (v2 : Int32) (k64 : Int32 → Option (Int32 × Wd)) : Nat → Int32 → Int32 → Option (Int32 × Wd)
  | 0, _, _ => none
  | n + 1, v3, v4 =>
    if v2 ≤ v4 then
      k64 v3
    else
      (fX5_throwers N w o v4).bind fun x5 =>
      (fX5_throwers N w o v3).bind fun x6 =>
      if x5 ≤ x6 then
        (some (v4 + (1 : Int32))).bind fun x7 =>
        fX5_busiest_35 N w o v1 v2 k64 n v3 x7
      else
        (some (v4 + (1 : Int32))).bind fun x8 =>
        fX5_busiest_35 N w o v1 v2 k64 n v4 x8
def fX5_busiest (N : Nat) (w : Wd) (o : Nat) (v1 : Int32) : Option (Int32 × Wd) :=
  (pF w [5] o 0 (.int (0 : Int32))).bind fun w1 =>
  (fX5_isCity N w1 o).bind fun x2 =>
  if x2 = 0 then
    some ((-2 : Int32), w1)
  else
    (fX5_in N w1 v1.toInt64 (0 : Int64) (1 : Int64)).bind fun x3 =>
    if x3 = 0 then
      some ((-2 : Int32), w1)
    else
      (fX5_round N w1 o).bind fun x4 =>
      fX5_busiest_35 N w1 o v1 x4
        (fun y9 =>
          if v1 = 0 then
            some (y9, w1)
          else
            (fX5_throwers N w1 o y9).bind fun x10 =>
            some (x10, w1))
        N (0 : Int32) (1 : Int32)

def fX5_isSolo_2 (N : Nat) (w : Wd) (o : Nat) (v1 : Int32) (k27 : Option (Int32)) (k35 : Option (Int32)) : Nat → Int32 → Option (Int32)
  | 0, _ => none
  | n + 1, v2 =>
    (gR w [5] o 19).bind fun x1 =>
    (aI 0 w x1 v1).bind fun x2 =>
    if x2 ≤ v2 then
      k35
    else
      (gR w [5] o 21).bind fun x3 =>
      (aI 0 w x3 (((8 : Int32) * v1) + v2)).bind fun x4 =>
      if x4 = v1 then
        (some (v2 + (1 : Int32))).bind fun x5 =>
        fX5_isSolo_2 N w o v1 k27 k35 n x5
      else
        k27
def fX5_isSolo_52 (N : Nat) (w : Wd) (o : Nat) (v1 : Int32) (v2 : Int32) (k87 : Int32 → Option (Int32)) : Nat → Int32 → Int32 → Option (Int32)
  | 0, _, _ => none
  | n + 1, v3, v4 =>
    if (9 : Int32) < v4 then
      k87 v3
    else
      (fX5_highOf N w o v1 (v2 - v4)).bind fun x8 =>
      if x8 = v4 then
        (some ((v3 + (1 : Int32)))).bind fun x11 =>
        (some (v4 + (1 : Int32))).bind fun x12 =>
        fX5_isSolo_52 N w o v1 v2 k87 n x11 x12
      else
        (some ((v3 + (0 : Int32)))).bind fun x9 =>
        (some (v4 + (1 : Int32))).bind fun x10 =>
        fX5_isSolo_52 N w o v1 v2 k87 n x9 x10
def fX5_isSolo_102 (N : Nat) (w : Wd) (o : Nat) (v1 : Int32) (v2 : Int32) (s0 : Int32) (s1 : Int32) (r37 : Int32 → Option (Int32)) (k105 : Option (Int32)) (k113 : Option (Int32)) : Option (Int32) :=
  if s0 = s1 then
    (some (v2 + (1 : Int32))).bind fun x15 =>
    r37 x15
  else
    k105
def fX5_isSolo_37 (N : Nat) (w : Wd) (o : Nat) (v1 : Int32) (k105 : Option (Int32)) (k113 : Option (Int32)) : Nat → Int32 → Option (Int32)
  | 0, _ => none
  | n + 1, v2 =>
    (gR w [5] o 19).bind fun x6 =>
    (aI 0 w x6 v1).bind fun x7 =>
    if x7 ≤ v2 then
      k113
    else
      fX5_isSolo_52 N w o v1 v2
        (fun y13 =>
          (fX5_highOf N w o v1 v2).bind fun x14 =>
          if x14 ≤ 0 then
            fX5_isSolo_102 N w o v1 v2 y13 (0 : Int32) (fX5_isSolo_37 N w o v1 k105 k113 n) k105 k113
          else
            fX5_isSolo_102 N w o v1 v2 y13 (1 : Int32) (fX5_isSolo_37 N w o v1 k105 k113 n) k105 k113)
        N (0 : Int32) (1 : Int32)
def fX5_isSolo (N : Nat) (w : Wd) (o : Nat) (v1 : Int32) : Option (Int32) :=
  fX5_isSolo_2 N w o v1
    (
      some (0 : Int32))
    (
      fX5_isSolo_37 N w o v1
        (
          some (0 : Int32))
        (
          some (1 : Int32))
        N (0 : Int32))
    N (0 : Int32)

def fX5_stateOf_8 (N : Nat) (w : Wd) (o : Nat) (v1 : Int32) (v2 : Int32) (k61 : Int32 → Option (Int32)) : Nat → Int32 → Int32 → Option (Int32)
  | 0, _, _ => none
  | n + 1, v3, v4 =>
    if v2 ≤ v4 then
      k61 v3
    else
      (fX5_highOf N w o v1 v4).bind fun x2 =>
      if x2 ≤ 0 then
        (some (v4 + (1 : Int32))).bind fun x3 =>
        fX5_stateOf_8 N w o v1 v2 k61 n v3 x3
      else
        (fX5_highOf N w o v1 v4).bind fun x4 =>
        if (v4 + x4) < v2 then
          (some (v4 + (1 : Int32))).bind fun x5 =>
          fX5_stateOf_8 N w o v1 v2 k61 n v3 x5
        else
          (fX5_highOf N w o v1 v4).bind fun x6 =>
          (some ((v3 ||| ((1 : Int32) <<< (((v4 + x6) - v2) &&& 31))))).bind fun x7 =>
          (some (v4 + (1 : Int32))).bind fun x8 =>
          fX5_stateOf_8 N w o v1 v2 k61 n x7 x8
def fX5_stateOf (N : Nat) (w : Wd) (o : Nat) (v1 : Int32) (v2 : Int32) : Option (Int32) :=
  (some ((v2 - (9 : Int32)))).bind fun x1 =>
  fX5_stateOf_8 N w o v1 v2
    (fun y9 =>
      some y9)
    N (0 : Int32) x1

def fX5_laysChange_2 (N : Nat) (o : Nat) (v1 : Int32) (k32 : Wd → Option (Wd)) : Nat → Int32 → Wd → Option (Wd)
  | 0, _, _ => none
  | n + 1, v2, w =>
    if (512 : Int32) ≤ v2 then
      k32 w
    else
      (gR w [5] o 39).bind fun x1 =>
      if v2 = v1 then
        (sI 0 w x1 v2 (0 : Int32)).bind fun w4 =>
        (some (v2 + (1 : Int32))).bind fun x5 =>
        fX5_laysChange_2 N o v1 k32 n x5 w4
      else
        (sI 0 w x1 v2 (1000000 : Int32)).bind fun w2 =>
        (some (v2 + (1 : Int32))).bind fun x3 =>
        fX5_laysChange_2 N o v1 k32 n x3 w2
def fX5_laysChange_52 (N : Nat) (o : Nat) (v3 : Int32) (k117 : Int32 → Wd → Option (Wd)) : Nat → Int32 → Int32 → Wd → Option (Wd)
  | 0, _, _, _ => none
  | n + 1, v2, v4, w =>
    if (9 : Int32) < v4 then
      k117 v2 w
    else
      (fX5_behind N w v3 v4).bind fun x7 =>
      if x7 = (-1 : Int32) then
        (some (v4 + (1 : Int32))).bind fun x8 =>
        fX5_laysChange_52 N o v3 k117 n v2 x8 w
      else
        (gR w [5] o 39).bind fun x9 =>
        (aI 0 w x9 x7).bind fun x10 =>
        (gR w [5] o 39).bind fun x11 =>
        (aI 0 w x11 v3).bind fun x12 =>
        if (x10 + (1 : Int32)) < x12 then
          (gR w [5] o 39).bind fun x13 =>
          (gR w [5] o 39).bind fun x14 =>
          (aI 0 w x14 x7).bind fun x15 =>
          (sI 0 w x13 v3 (x15 + (1 : Int32))).bind fun w16 =>
          (some (v4 + (1 : Int32))).bind fun x17 =>
          fX5_laysChange_52 N o v3 k117 n (1 : Int32) x17 w16
        else
          (some (v4 + (1 : Int32))).bind fun x18 =>
          fX5_laysChange_52 N o v3 k117 n v2 x18 w
def fX5_laysChange_42 (N : Nat) (o : Nat) (k123 : Int32 → Wd → Option (Wd)) : Nat → Int32 → Int32 → Wd → Option (Wd)
  | 0, _, _, _ => none
  | n + 1, v2, v3, w =>
    if (512 : Int32) ≤ v3 then
      k123 v2 w
    else
      fX5_laysChange_52 N o v3
        (fun y19 w20 =>
          (some (v3 + (1 : Int32))).bind fun x21 =>
          fX5_laysChange_42 N o k123 n y19 x21 w20)
        N v2 (0 : Int32) w
def fX5_laysChange_34 (N : Nat) (o : Nat) (k126 : Wd → Option (Wd)) : Nat → Int32 → Wd → Option (Wd)
  | 0, _, _ => none
  | n + 1, v2, w =>
    if v2 = 0 then
      k126 w
    else
      fX5_laysChange_42 N o
        (fun y22 w23 =>
          fX5_laysChange_34 N o k126 n y22 w23)
        N (0 : Int32) (0 : Int32) w
def fX5_laysChange (N : Nat) (w : Wd) (o : Nat) (v1 : Int32) : Option (Wd) :=
  fX5_laysChange_2 N o v1
    (fun w6 =>
      fX5_laysChange_34 N o
        (fun w24 =>
          some w24)
        N (1 : Int32) w6)
    N (0 : Int32) w

def fX5_canChange (N : Nat) (w : Wd) (o : Nat) (v1 : Int32) (v2 : Int32) (v3 : Int32) (v4 : Int32) : Option (Int32 × Wd) :=
  (fX5_isSolo N w o v1).bind fun x1 =>
  if x1 = 0 then
    some ((0 : Int32), w)
  else
    (fX5_isSolo N w o v3).bind fun x2 =>
    if x2 = 0 then
      some ((0 : Int32), w)
    else
      (fX5_stateOf N w o v3 v4).bind fun x3 =>
      (fX5_laysChange N w o x3).bind fun w4 =>
      (gR w4 [5] o 39).bind fun x5 =>
      (fX5_stateOf N w4 o v1 v2).bind fun x6 =>
      (aI 0 w4 x5 x6).bind fun x7 =>
      if (1000000 : Int32) ≤ x7 then
        some ((0 : Int32), w4)
      else
        some ((1 : Int32), w4)

def fX5_carries_35 (N : Nat) (w : Wd) (o : Nat) (v1 : Int32) (v2 : Int32) (v3 : Int32) (k78 : Int32 → Option (Int32 × Wd)) : Nat → Int32 → Int32 → Option (Int32 × Wd)
  | 0, _, _ => none
  | n + 1, v4, v5 =>
    if v3 ≤ v5 then
      k78 v4
    else
      (fX5_highOf N w o v1 v5).bind fun x5 =>
      if x5 ≤ 0 then
        (some ((v4 + (0 : Int32)))).bind fun x6 =>
        (some (v5 + (1 : Int32))).bind fun x7 =>
        fX5_carries_35 N w o v1 v2 v3 k78 n x6 x7
      else
        (fX5_toOf N w o v1 v5).bind fun x8 =>
        if x8 = v2 then
          (some ((v4 + (1 : Int32)))).bind fun x11 =>
          (some (v5 + (1 : Int32))).bind fun x12 =>
          fX5_carries_35 N w o v1 v2 v3 k78 n x11 x12
        else
          (some ((v4 + (0 : Int32)))).bind fun x9 =>
          (some (v5 + (1 : Int32))).bind fun x10 =>
          fX5_carries_35 N w o v1 v2 v3 k78 n x9 x10
def fX5_carries (N : Nat) (w : Wd) (o : Nat) (v1 : Int32) (v2 : Int32) : Option (Int32 × Wd) :=
  (pF w [5] o 0 (.int (0 : Int32))).bind fun w1 =>
  (fX5_isRoof N w1 o v1).bind fun x2 =>
  if x2 = 0 then
    some ((-2 : Int32), w1)
  else
    (fX5_isRoof N w1 o v2).bind fun x3 =>
    if x3 = 0 then
      some ((-2 : Int32), w1)
    else
      (fX5_round N w1 o).bind fun x4 =>
      fX5_carries_35 N w1 o v1 v2 x4
        (fun y13 =>
          some (y13, w1))
        N (0 : Int32) (0 : Int32)

def fX5_isThrow (N : Nat) (w : Wd) (o : Nat) (v1 : Int32) (v2 : Int32) : Option (Int32) :=
  (fX5_isRoof N w o v1).bind fun x1 =>
  if x1 = 0 then
    some (0 : Int32)
  else
    (gR w [5] o 19).bind fun x2 =>
    (aI 0 w x2 v1).bind fun x3 =>
    (fX5_in N w v2.toInt64 (0 : Int64) ((x3 - (1 : Int32)).toInt64)).bind fun x4 =>
    if x4 = 0 then
      some (0 : Int32)
    else
      some (1 : Int32)

def fX5_isChange (N : Nat) (w : Wd) (o : Nat) (v1 : Int32) (v2 : Int32) (v3 : Int32) (v4 : Int32) : Option (Int32) :=
  (fX5_isThrow N w o v1 v2).bind fun x1 =>
  if x1 = 0 then
    some (0 : Int32)
  else
    (fX5_isThrow N w o v3 v4).bind fun x2 =>
    if x2 = 0 then
      some (0 : Int32)
    else
      some (1 : Int32)

def fX5_change (N : Nat) (w : Wd) (o : Nat) (v1 : Int32) (v2 : Int32) (v3 : Int32) (v4 : Int32) : Option (Int32 × Wd) :=
  (pF w [5] o 0 (.int (0 : Int32))).bind fun w1 =>
  (fX5_isChange N w1 o v1 v2 v3 v4).bind fun x2 =>
  if x2 = 0 then
    some ((-2 : Int32), w1)
  else
    (fX5_canChange N w1 o v1 v2 v3 v4).bind fun x3 =>
    if x3.1 = 0 then
      some ((-1 : Int32), x3.2)
    else
      (gR x3.2 [5] o 39).bind fun x4 =>
      (fX5_stateOf N x3.2 o v1 v2).bind fun x5 =>
      (aI 0 x3.2 x4 x5).bind fun x6 =>
      some (x6, x3.2)

def fX5_changes_80 (N : Nat) (w : Wd) (o : Nat) (v5 : Int32) (v6 : Int32) (v8 : Int32) (k121 : Int32 → Option (Int32 × Wd)) : Nat → Int32 → Option (Int32 × Wd)
  | 0, _ => none
  | n + 1, v7 =>
    (fX5_behind N w v6 v7).bind fun x8 =>
    if x8 = (-1 : Int32) then
      (some (v7 + (1 : Int32))).bind fun x9 =>
      fX5_changes_80 N w o v5 v6 v8 k121 n x9
    else
      (gR w [5] o 39).bind fun x10 =>
      (fX5_behind N w v6 v7).bind fun x11 =>
      (aI 0 w x10 x11).bind fun x12 =>
      (gR w [5] o 39).bind fun x13 =>
      (aI 0 w x13 v6).bind fun x14 =>
      if x12 = (x14 - (1 : Int32)) then
        k121 v7
      else
        (some (v7 + (1 : Int32))).bind fun x15 =>
        fX5_changes_80 N w o v5 v6 v8 k121 n x15
def fX5_changes_70 (N : Nat) (w : Wd) (o : Nat) (v5 : Int32) (k136 : Int32 → Option (Int32 × Wd)) : Nat → Int32 → Int32 → Int32 → Option (Int32 × Wd)
  | 0, _, _, _ => none
  | n + 1, v6, v7, v8 =>
    if v5 < v8 then
      k136 v7
    else
      fX5_changes_80 N w o v5 v6 v8
        (fun y16 =>
          (fX5_behind N w v6 y16).bind fun x17 =>
          (some (v8 + (1 : Int32))).bind fun x18 =>
          fX5_changes_70 N w o v5 k136 n x17 y16 x18)
        N (0 : Int32)
def fX5_changes (N : Nat) (w : Wd) (o : Nat) (v1 : Int32) (v2 : Int32) (v3 : Int32) (v4 : Int32) (v5 : Int32) : Option (Int32 × Wd) :=
  (pF w [5] o 0 (.int (0 : Int32))).bind fun w1 =>
  (fX5_isChange N w1 o v1 v2 v3 v4).bind fun x2 =>
  if x2 = 0 then
    some ((-2 : Int32), w1)
  else
    (fX5_canChange N w1 o v1 v2 v3 v4).bind fun x3 =>
    if x3.1 = 0 then
      some ((-1 : Int32), x3.2)
    else
      (fX5_stateOf N x3.2 o v1 v2).bind fun x4 =>
      (gR x3.2 [5] o 39).bind fun x5 =>
      (aI 0 x3.2 x5 x4).bind fun x6 =>
      (fX5_in N x3.2 v5.toInt64 (0 : Int64) ((x6 - (1 : Int32)).toInt64)).bind fun x7 =>
      if x7 = 0 then
        some ((-1 : Int32), x3.2)
      else
        fX5_changes_70 N x3.2 o v5
          (fun y19 =>
            some (y19, x3.2))
          N x4 (-1 : Int32) (0 : Int32)

def fX5_clears_16 (N : Nat) (o : Nat) (k67 : Wd → Option (Wd)) : Nat → Int32 → Wd → Option (Wd)
  | 0, _, _ => none
  | n + 1, v1, w =>
    if (6 : Int32) ≤ v1 then
      k67 w
    else
      (some (((24 : Int32) + v1))).bind fun x5 =>
      (gR w [5] o 18).bind fun x6 =>
      (sI 0 w x6 x5 (0 : Int32)).bind fun w7 =>
      (gR w7 [5] o 19).bind fun x8 =>
      (sI 0 w7 x8 x5 (1 : Int32)).bind fun w9 =>
      (gR w9 [5] o 20).bind fun x10 =>
      (sI 0 w9 x10 ((8 : Int32) * x5) (0 : Int32)).bind fun w11 =>
      (gR w11 [5] o 21).bind fun x12 =>
      (sI 0 w11 x12 ((8 : Int32) * x5) v1).bind fun w13 =>
      (some (v1 + (1 : Int32))).bind fun x14 =>
      fX5_clears_16 N o k67 n x14 w13
def fX5_clears (N : Nat) (w : Wd) (o : Nat) : Option (Wd) :=
  (gR w [5] o 16).bind fun x1 =>
  (sI 0 w x1 (4 : Int32) (0 : Int32)).bind fun w2 =>
  (gR w2 [5] o 17).bind fun x3 =>
  (sI 0 w2 x3 (4 : Int32) (0 : Int32)).bind fun w4 =>
  fX5_clears_16 N o
    (fun w15 =>
      (gR w15 [5] o 22).bind fun x16 =>
      (sI 0 w15 x16 (8 : Int32) (0 : Int32)).bind fun w17 =>
      (gR w17 [5] o 22).bind fun x18 =>
      (sI 0 w17 x18 (9 : Int32) (0 : Int32)).bind fun w19 =>
      (gR w19 [5] o 25).bind fun x20 =>
      (sI 0 w19 x20 (8 : Int32) (9 : Int32)).bind fun w21 =>
      (gR w21 [5] o 25).bind fun x22 =>
      (sI 0 w21 x22 (9 : Int32) (0 : Int32)).bind fun w23 =>
      (pF w23 [5] o 26 (.int (0 : Int32))).bind fun w24 =>
      some w24)
    N (0 : Int32) w4

def fX5_isGood (N : Nat) (w : Wd) (o : Nat) : Option (Int32) :=
  (gI w [5] o 12).bind fun x1 =>
  if x1 = 0 then
    some (1 : Int32)
  else
    some (0 : Int32)

def fX5_number (N : Nat) (w : Wd) (o : Nat) (v1 : Int32) (v2 : Int32) : Option (Int32 × Wd) :=
  (gI w [5] o 12).bind fun x1 =>
  if x1 = 0 then
    (gI w [5] o 8).bind fun x2 =>
    if x2 = (2 : Int32) then
      (gI w [5] o 10).bind fun x3 =>
      (fX5_in N w x3.toInt64 v1.toInt64 v2.toInt64).bind fun x4 =>
      if x4 = 0 then
        (fX5_fails N w o (2 : Int32)).bind fun w7 =>
        some (v1, w7)
      else
        (gI w [5] o 10).bind fun x5 =>
        (fX5_next N w o).bind fun w6 =>
        some (x5, w6)
    else
      (fX5_fails N w o (1 : Int32)).bind fun w8 =>
      some (v1, w8)
  else
    some (v1, w)

def fX5_number_2 (N : Nat) (w : Wd) (o : Nat) (v1 : Int64) (v3 : Int32) (v4 : Int32) : Option (Int32 × Wd) :=
  (fX5_asks N w o v1).bind fun w1 =>
  (fX5_number N w1 o v3 v4).bind fun x2 =>
  some (x2.1, x2.2)

def fX5_roof (N : Nat) (w : Wd) (o : Nat) : Option (Int32 × Wd) :=
  (gR w [5] o 17).bind fun x1 =>
  (aI 0 w x1 (4 : Int32)).bind fun x2 =>
  (fX5_number N w o (0 : Int32) (x2 - (1 : Int32))).bind fun x3 =>
  some (x3.1, x3.2)

def fX5_other (N : Nat) (w : Wd) (o : Nat) (v1 : Int32) : Option (Int32 × Wd) :=
  (gI w [5] o 12).bind fun x1 =>
  if x1 = 0 then
    (gI w [5] o 8).bind fun x3 =>
    if x3 = (2 : Int32) then
      (gI w [5] o 10).bind fun x5 =>
      if x5 = v1 then
        (fX5_fails N w o (2 : Int32)).bind fun w7 =>
        (fX5_roof N w7 o).bind fun x8 =>
        some (x8.1, x8.2)
      else
        (fX5_roof N w o).bind fun x6 =>
        some (x6.1, x6.2)
    else
      (fX5_roof N w o).bind fun x4 =>
      some (x4.1, x4.2)
  else
    (fX5_roof N w o).bind fun x2 =>
    some (x2.1, x2.2)

def fX5_throwsLine_118 (N : Nat) (w : Wd) (o : Nat) (v1 : Int32) (v2 : Int32) (v3 : Int32) (v4 : Int32) (v5 : Int32) (r7 : Int32 → Wd → Option (Wd)) (k32 : Wd → Option (Wd)) (k150 : Int32 → Wd → Option (Wd)) : Option (Wd) :=
  (gR w [5] o 20).bind fun x5 =>
  (sI 0 w x5 (((8 : Int32) * v2) + v3) v4).bind fun w6 =>
  (gR w6 [5] o 21).bind fun x7 =>
  (sI 0 w6 x7 (((8 : Int32) * v2) + v3) v5).bind fun w8 =>
  (some (v3 + (1 : Int32))).bind fun x9 =>
  r7 x9 w8
def fX5_throwsLine_112 (N : Nat) (w : Wd) (o : Nat) (v1 : Int32) (v2 : Int32) (v3 : Int32) (v4 : Int32) (r7 : Int32 → Wd → Option (Wd)) (k32 : Wd → Option (Wd)) (k150 : Int32 → Wd → Option (Wd)) : Option (Wd) :=
  (fX5_roof N w o).bind fun x11 =>
  fX5_throwsLine_118 N x11.2 o v1 v2 v3 v4 x11.1 r7 k32 k150
def fX5_throwsLine_26 (N : Nat) (w : Wd) (o : Nat) (v1 : Int32) (v2 : Int32) (v3 : Int32) (r7 : Int32 → Wd → Option (Wd)) (k32 : Wd → Option (Wd)) (k150 : Int32 → Wd → Option (Wd)) : Option (Wd) :=
  if v3 = (8 : Int32) then
    k32 w
  else
    (fX5_number N w o (0 : Int32) (9 : Int32)).bind fun x3 =>
    (fX5_takes N x3.2 o (555 : Int64)).bind fun x4 =>
    if x4.1 = 0 then
      fX5_throwsLine_118 N x4.2 o v1 v2 v3 x3.1 v1 r7 k32 k150
    else
      (gI x4.2 [5] o 12).bind fun x10 =>
      if x10 = 0 then
        (gI x4.2 [5] o 8).bind fun x12 =>
        if x12 = (2 : Int32) then
          if x3.1 = 0 then
            (gI x4.2 [5] o 10).bind fun x13 =>
            if x13 = v1 then
              fX5_throwsLine_112 N x4.2 o v1 v2 v3 x3.1 r7 k32 k150
            else
              (fX5_fails N x4.2 o (2 : Int32)).bind fun w14 =>
              fX5_throwsLine_112 N w14 o v1 v2 v3 x3.1 r7 k32 k150
          else
            fX5_throwsLine_112 N x4.2 o v1 v2 v3 x3.1 r7 k32 k150
        else
          fX5_throwsLine_112 N x4.2 o v1 v2 v3 x3.1 r7 k32 k150
      else
        fX5_throwsLine_112 N x4.2 o v1 v2 v3 x3.1 r7 k32 k150
def fX5_throwsLine_7 (N : Nat) (o : Nat) (v1 : Int32) (v2 : Int32) (k32 : Wd → Option (Wd)) (k150 : Int32 → Wd → Option (Wd)) : Nat → Int32 → Wd → Option (Wd)
  | 0, _, _ => none
  | n + 1, v3, w =>
    (fX5_isGood N w o).bind fun x2 =>
    if x2 = 0 then
      k150 v3 w
    else
      if v3 = 0 then
        fX5_throwsLine_26 N w o v1 v2 v3 (fX5_throwsLine_7 N o v1 v2 k32 k150 n) k32 k150
      else
        (gI w [5] o 8).bind fun x15 =>
        if x15 = (2 : Int32) then
          fX5_throwsLine_26 N w o v1 v2 v3 (fX5_throwsLine_7 N o v1 v2 k32 k150 n) k32 k150
        else
          k150 v3 w
def fX5_throwsLine (N : Nat) (w : Wd) (o : Nat) (v1 : Int32) : Option (Wd) :=
  (some (((24 : Int32) + v1))).bind fun x1 =>
  fX5_throwsLine_7 N o v1 x1
    (fun w16 =>
      (gI w16 [5] o 10).bind fun x17 =>
      (fX5_in N w16 x17.toInt64 (0 : Int64) (9 : Int64)).bind fun x18 =>
      if x18 = 0 then
        (fX5_fails N w16 o (2 : Int32)).bind fun w19 =>
        some w19
      else
        (fX5_fails N w16 o (3 : Int32)).bind fun w20 =>
        some w20)
    (fun y21 w22 =>
      (gR w22 [5] o 19).bind fun x23 =>
      (sI 0 w22 x23 x1 y21).bind fun w24 =>
      some w24)
    N (0 : Int32) w

def fX5_line_411 (N : Nat) (w : Wd) (o : Nat) (v3 : Int32) (v4 : Int32) : Option (Wd) :=
  (gI w [5] o 12).bind fun x16 =>
  if x16 = 0 then
    (fX5_next N w o).bind fun w17 =>
    (gR w17 [5] o 18).bind fun x18 =>
    (sI 0 w17 x18 ((24 : Int32) + v3) v4).bind fun w19 =>
    some w19
  else
    some w
def fX5_line_398 (N : Nat) (w : Wd) (o : Nat) (v3 : Int32) (s0 : Int32) : Option (Wd) :=
  if s0 = (-1 : Int32) then
    (fX5_fails N w o (1 : Int32)).bind fun w20 =>
    fX5_line_411 N w20 o v3 s0
  else
    fX5_line_411 N w o v3 s0
def fX5_line_208 (N : Nat) (w : Wd) (o : Nat) (s0 : Nat) (s1 : Int32) (s2 : Int32) : Option (Wd) :=
  (sI 0 w s0 s1 s2).bind fun w49 =>
  (gR w49 [5] o 22).bind fun x50 =>
  (aI 0 w49 x50 (8 : Int32)).bind fun x51 =>
  (sI 0 w49 x50 (8 : Int32) (x51 + (1 : Int32))).bind fun w52 =>
  some w52
def fX5_line_187 (N : Nat) (w : Wd) (o : Nat) (v3 : Int32) (v4 : Int32) (v5 : Int32) (s0 : Nat) (s1 : Int32) (s2 : Int32) : Option (Wd) :=
  (sI 0 w s0 s1 s2).bind fun w47 =>
  (gR w47 [5] o 23).bind fun x48 =>
  if v4 ≤ v3 then
    fX5_line_208 N w47 o x48 (v5 + (1 : Int32)) v3
  else
    fX5_line_208 N w47 o x48 (v5 + (1 : Int32)) v4
def fX5_line_127 (N : Nat) (w : Wd) (o : Nat) (v1 : Int32) (v2 : Int32) : Option (Wd) :=
  (gI w [5] o 12).bind fun x4 =>
  if x4 = 0 then
    if v1 = 0 then
      if v2 = 0 then
        (fX5_takes N w o (7873079139 : Int64)).bind fun x5 =>
        if x5.1 = 0 then
          (fX5_asks N x5.2 o (291595537 : Int64)).bind fun w6 =>
          (fX5_roof N w6 o).bind fun x7 =>
          (fX5_isGood N x7.2 o).bind fun x8 =>
          if x8 = 0 then
            some x7.2
          else
            (fX5_throwsLine N x7.2 o x7.1).bind fun w9 =>
            some w9
        else
          (fX5_roof N x5.2 o).bind fun x10 =>
          (fX5_is N x10.2 o (8740238 : Int64)).bind fun x11 =>
          if x11 = 0 then
            (fX5_is N x10.2 o (240023 : Int64)).bind fun x12 =>
            if x12 = 0 then
              (fX5_is N x10.2 o (383153 : Int64)).bind fun x13 =>
              if x13 = 0 then
                (fX5_is N x10.2 o (1306021 : Int64)).bind fun x14 =>
                if x14 = 0 then
                  (fX5_is N x10.2 o (4721686497 : Int64)).bind fun x15 =>
                  if x15 = 0 then
                    fX5_line_398 N x10.2 o x10.1 (-1 : Int32)
                  else
                    fX5_line_398 N x10.2 o x10.1 (4 : Int32)
                else
                  fX5_line_398 N x10.2 o x10.1 (3 : Int32)
              else
                fX5_line_398 N x10.2 o x10.1 (2 : Int32)
            else
              fX5_line_398 N x10.2 o x10.1 (1 : Int32)
          else
            fX5_line_398 N x10.2 o x10.1 (0 : Int32)
      else
        (fX5_next N w o).bind fun w21 =>
        (gR w21 [5] o 22).bind fun x22 =>
        (aI 0 w21 x22 (9 : Int32)).bind fun x23 =>
        (some (((3 : Int32) * ((32 : Int32) + x23)))).bind fun x24 =>
        (gR w21 [5] o 24).bind fun x25 =>
        (fX5_roof N w21 o).bind fun x26 =>
        (sI 0 x26.2 x25 x24 x26.1).bind fun w27 =>
        (gR w27 [5] o 24).bind fun x28 =>
        (fX5_number_2 N w27 o (47 : Int64) (0 : Int32) (9999 : Int32)).bind fun x29 =>
        (sI 0 x29.2 x28 (x24 + (1 : Int32)) x29.1).bind fun w30 =>
        (fX5_asks N w30 o (555 : Int64)).bind fun w31 =>
        (gR w31 [5] o 24).bind fun x32 =>
        (gR w31 [5] o 24).bind fun x33 =>
        (aI 0 w31 x33 x24).bind fun x34 =>
        (fX5_other N w31 o x34).bind fun x35 =>
        (sI 0 x35.2 x32 (x24 + (2 : Int32)) x35.1).bind fun w36 =>
        (gR w36 [5] o 22).bind fun x37 =>
        (aI 0 w36 x37 (9 : Int32)).bind fun x38 =>
        (sI 0 w36 x37 (9 : Int32) (x38 + (1 : Int32))).bind fun w39 =>
        some w39
    else
      (fX5_next N w o).bind fun w40 =>
      (fX5_roof N w40 o).bind fun x41 =>
      (fX5_other N x41.2 o x41.1).bind fun x42 =>
      (gR x42.2 [5] o 22).bind fun x43 =>
      (aI 0 x42.2 x43 (8 : Int32)).bind fun x44 =>
      (some (((2 : Int32) * ((24 : Int32) + x44)))).bind fun x45 =>
      (gR x42.2 [5] o 23).bind fun x46 =>
      if x42.1 ≤ x41.1 then
        fX5_line_187 N x42.2 o x41.1 x42.1 x45 x46 x45 x42.1
      else
        fX5_line_187 N x42.2 o x41.1 x42.1 x45 x46 x45 x41.1
  else
    some w
def fX5_line_122 (N : Nat) (w : Wd) (o : Nat) (v1 : Int32) (v2 : Int32) : Option (Wd) :=
  (fX5_fails N w o (3 : Int32)).bind fun w55 =>
  fX5_line_127 N w55 o v1 v2
def fX5_line_106 (N : Nat) (w : Wd) (o : Nat) (v1 : Int32) (v2 : Int32) : Option (Wd) :=
  if v2 = 0 then
    fX5_line_127 N w o v1 v2
  else
    (gR w [5] o 22).bind fun x53 =>
    (aI 0 w x53 (9 : Int32)).bind fun x54 =>
    if x54 = (8 : Int32) then
      fX5_line_122 N w o v1 v2
    else
      fX5_line_127 N w o v1 v2
def fX5_line_22 (N : Nat) (w : Wd) (o : Nat) : Option (Wd) :=
  (gI w [5] o 12).bind fun x59 =>
  if x59 = 0 then
    (fX5_next N w o).bind fun w60 =>
    (pF w60 [5] o 26 (.int (1 : Int32))).bind fun w61 =>
    (gR w61 [5] o 25).bind fun x62 =>
    (fX5_number_2 N w61 o (131638 : Int64) (1 : Int32) (9 : Int32)).bind fun x63 =>
    (sI 0 x63.2 x62 (8 : Int32) x63.1).bind fun w64 =>
    (gR w64 [5] o 25).bind fun x65 =>
    (fX5_number_2 N w64 o (298288 : Int64) (0 : Int32) (100 : Int32)).bind fun x66 =>
    (sI 0 x66.2 x65 (9 : Int32) x66.1).bind fun w67 =>
    some w67
  else
    some w
def fX5_line (N : Nat) (w : Wd) (o : Nat) : Option (Wd) :=
  (fX5_is N w o (4147840 : Int64)).bind fun x1 =>
  if x1 = 0 then
    (fX5_is N w o (1960084 : Int64)).bind fun x2 =>
    (fX5_is N w o (175252482 : Int64)).bind fun x3 =>
    if x2 = 0 then
      fX5_line_106 N w o x2 x3
    else
      (gR w [5] o 22).bind fun x56 =>
      (aI 0 w x56 (8 : Int32)).bind fun x57 =>
      if x57 = (6 : Int32) then
        fX5_line_122 N w o x2 x3
      else
        fX5_line_106 N w o x2 x3
  else
    (gI w [5] o 26).bind fun x58 =>
    if x58 = 0 then
      fX5_line_22 N w o
    else
      (fX5_fails N w o (2 : Int32)).bind fun w68 =>
      fX5_line_22 N w68 o

def fX5_ends_13 (N : Nat) (w : Wd) (o : Nat) : Option (Wd) :=
  (gI w [5] o 12).bind fun x2 =>
  if x2 = 0 then
    (fX5_next N w o).bind fun w3 =>
    some w3
  else
    some w
def fX5_ends (N : Nat) (w : Wd) (o : Nat) : Option (Wd) :=
  (gI w [5] o 8).bind fun x1 =>
  if x1 = (3 : Int32) then
    fX5_ends_13 N w o
  else
    (fX5_fails N w o (1 : Int32)).bind fun w4 =>
    fX5_ends_13 N w4 o

def fX5_isOver (N : Nat) (w : Wd) (o : Nat) : Option (Wd) :=
  (pF w [5] o 6 (.int (0 : Int32))).bind fun w1 =>
  (gI w1 [5] o 12).bind fun x2 =>
  (pF w1 [5] o 14 (.int x2)).bind fun w3 =>
  (gI w3 [5] o 12).bind fun x4 =>
  if x4 = 0 then
    (pF w3 [5] o 15 (.int (-1 : Int32))).bind fun w7 =>
    some w7
  else
    (gI w3 [5] o 13).bind fun x5 =>
    (pF w3 [5] o 15 (.int x5)).bind fun w6 =>
    some w6

def fX5_city_74 (N : Nat) (w : Wd) (o : Nat) (r13 : Wd → Option (Int32 × Wd)) (k87 : Wd → Option (Int32 × Wd)) : Option (Int32 × Wd) :=
  (gR w [5] o 16).bind fun x10 =>
  (aI 0 w x10 (4 : Int32)).bind fun x11 =>
  (sI 0 w x10 (4 : Int32) (x11 + (1 : Int32))).bind fun w12 =>
  r13 w12
def fX5_city_63 (N : Nat) (w : Wd) (o : Nat) (r13 : Wd → Option (Int32 × Wd)) (k87 : Wd → Option (Int32 × Wd)) : Option (Int32 × Wd) :=
  (fX5_isGood N w o).bind fun x9 =>
  if x9 = 0 then
    fX5_city_74 N w o r13 k87
  else
    (fX5_ends N w o).bind fun w13 =>
    fX5_city_74 N w13 o r13 k87
def fX5_city_13 (N : Nat) (o : Nat) (k87 : Wd → Option (Int32 × Wd)) : Nat → Wd → Option (Int32 × Wd)
  | 0, _ => none
  | n + 1, w =>
    (fX5_isGood N w o).bind fun x4 =>
    if x4 = 0 then
      k87 w
    else
      (gI w [5] o 8).bind fun x5 =>
      if x5 = 0 then
        k87 w
      else
        (gR w [5] o 16).bind fun x6 =>
        (aI 0 w x6 (4 : Int32)).bind fun x7 =>
        if x7 = 0 then
          (fX5_asks N w o (9872299 : Int64)).bind fun w14 =>
          (gR w14 [5] o 17).bind fun x15 =>
          (fX5_number N w14 o (1 : Int32) (6 : Int32)).bind fun x16 =>
          (sI 0 x16.2 x15 (4 : Int32) x16.1).bind fun w17 =>
          fX5_city_63 N w17 o (fX5_city_13 N o k87 n) k87
        else
          (fX5_line N w o).bind fun w8 =>
          fX5_city_63 N w8 o (fX5_city_13 N o k87 n) k87
def fX5_city_87 (N : Nat) (w : Wd) (o : Nat) : Option (Int32 × Wd) :=
  (fX5_isOver N w o).bind fun w19 =>
  (gI w19 [5] o 12).bind fun x20 =>
  if x20 = 0 then
    (fX5_copyCity N w19 o (4 : Int32) (0 : Int32)).bind fun w21 =>
    (gR w21 [5] o 16).bind fun x22 =>
    (aI 0 w21 x22 (0 : Int32)).bind fun x23 =>
    some (x23, w21)
  else
    some ((-4 : Int32), w19)
def fX5_city (N : Nat) (w : Wd) (o : Nat) : Option (Int32 × Wd) :=
  (pF w [5] o 0 (.int (0 : Int32))).bind fun w1 =>
  (fX5_clears N w1 o).bind fun w2 =>
  (fX5_begins N w2 o).bind fun w3 =>
  fX5_city_13 N o
    (fun w18 =>
      fX5_city_87 N w18 o)
    N w3

def fX5_clash_42 (N : Nat) (w : Wd) (o : Nat) (v1 : Int32) (v2 : Int32) (v3 : Int32) (k63 : Int32 → Option (Int32 × Wd)) (k95 : Option (Int32 × Wd)) : Nat → Int32 → Option (Int32 × Wd)
  | 0, _ => none
  | n + 1, v4 =>
    (gR w [5] o 17).bind fun x5 =>
    (aI 0 w x5 (0 : Int32)).bind fun x6 =>
    if x6 ≤ v4 then
      k95
    else
      (fX5_isClash N w o v4 v3).bind fun x7 =>
      if x7 = 0 then
        (some (v4 + (1 : Int32))).bind fun x8 =>
        fX5_clash_42 N w o v1 v2 v3 k63 k95 n x8
      else
        k63 v4
def fX5_clash_34 (N : Nat) (w : Wd) (o : Nat) (v1 : Int32) (v2 : Int32) (k63 : Int32 → Int32 → Option (Int32 × Wd)) (k101 : Option (Int32 × Wd)) : Nat → Int32 → Option (Int32 × Wd)
  | 0, _ => none
  | n + 1, v3 =>
    if v2 ≤ v3 then
      k101
    else
      fX5_clash_42 N w o v1 v2 v3
        (fun y9 =>
          k63 v3 y9)
        (
          (some (v3 + (1 : Int32))).bind fun x10 =>
          fX5_clash_34 N w o v1 v2 k63 k101 n x10)
        N (0 : Int32)
def fX5_clash (N : Nat) (w : Wd) (o : Nat) (v1 : Int32) : Option (Int32 × Wd) :=
  (pF w [5] o 0 (.int (0 : Int32))).bind fun w1 =>
  (fX5_isCity N w1 o).bind fun x2 =>
  if x2 = 0 then
    some ((-2 : Int32), w1)
  else
    (fX5_in N w1 v1.toInt64 (0 : Int64) (2 : Int64)).bind fun x3 =>
    if x3 = 0 then
      some ((-2 : Int32), w1)
    else
      (fX5_round N w1 o).bind fun x4 =>
      fX5_clash_34 N w1 o v1 x4
        (fun y11 y12 =>
          if v1 = 0 then
            some (y11, w1)
          else
            if v1 = (1 : Int32) then
              some (y12, w1)
            else
              (fX5_comesDown N w1 o y12 y11).bind fun x13 =>
              some (x13, w1))
        (
          some ((-1 : Int32), w1))
        N (0 : Int32)

def fX5_isPair_2 (N : Nat) (w : Wd) (o : Nat) (v1 : Int32) (v2 : Int32) (k38 : Option (Int32)) (k46 : Option (Int32)) : Nat → Int32 → Option (Int32)
  | 0, _ => none
  | n + 1, v3 =>
    (gR w [5] o 22).bind fun x1 =>
    (aI 0 w x1 (0 : Int32)).bind fun x2 =>
    if x2 ≤ v3 then
      k46
    else
      (gR w [5] o 23).bind fun x3 =>
      (aI 0 w x3 ((2 : Int32) * v3)).bind fun x4 =>
      if x4 = v1 then
        (gR w [5] o 23).bind fun x6 =>
        (aI 0 w x6 (((2 : Int32) * v3) + (1 : Int32))).bind fun x7 =>
        if x7 = v2 then
          k38
        else
          (some (v3 + (1 : Int32))).bind fun x8 =>
          fX5_isPair_2 N w o v1 v2 k38 k46 n x8
      else
        (some (v3 + (1 : Int32))).bind fun x5 =>
        fX5_isPair_2 N w o v1 v2 k38 k46 n x5
def fX5_isPair (N : Nat) (w : Wd) (o : Nat) (v1 : Int32) (v2 : Int32) : Option (Int32) :=
  fX5_isPair_2 N w o v1 v2
    (
      some (1 : Int32))
    (
      some (0 : Int32))
    N (0 : Int32)

def fX5_firstHigh_2 (N : Nat) (w : Wd) (o : Nat) (v1 : Int32) (k26 : Int32 → Option (Int32)) (k44 : Option (Int32)) : Nat → Int32 → Option (Int32)
  | 0, _ => none
  | n + 1, v2 =>
    (gR w [5] o 19).bind fun x1 =>
    (aI 0 w x1 v1).bind fun x2 =>
    if x2 ≤ v2 then
      k44
    else
      (gR w [5] o 20).bind fun x3 =>
      (aI 0 w x3 (((8 : Int32) * v1) + v2)).bind fun x4 =>
      if x4 ≤ 0 then
        (some (v2 + (1 : Int32))).bind fun x5 =>
        fX5_firstHigh_2 N w o v1 k26 k44 n x5
      else
        k26 v2
def fX5_firstHigh (N : Nat) (w : Wd) (o : Nat) (v1 : Int32) : Option (Int32) :=
  fX5_firstHigh_2 N w o v1
    (fun y6 =>
      (gR w [5] o 20).bind fun x7 =>
      (aI 0 w x7 (((8 : Int32) * v1) + y6)).bind fun x8 =>
      some x8)
    (
      some (0 : Int32))
    N (0 : Int32)

def fX5_count_91 (N : Nat) (w : Wd) (o : Nat) (v3 : Int32) (k126 : Int32 → Option (Int32 × Wd)) : Nat → Int32 → Int32 → Option (Int32 × Wd)
  | 0, _, _ => none
  | n + 1, v2, v4 =>
    (gR w [5] o 17).bind fun x9 =>
    (aI 0 w x9 (0 : Int32)).bind fun x10 =>
    if x10 ≤ v4 then
      k126 v2
    else
      (fX5_isPair N w o v3 v4).bind fun x11 =>
      if x11 = 0 then
        (some ((v2 + (0 : Int32)))).bind fun x12 =>
        (some (v4 + (1 : Int32))).bind fun x13 =>
        fX5_count_91 N w o v3 k126 n x12 x13
      else
        (some ((v2 + (1 : Int32)))).bind fun x14 =>
        (some (v4 + (1 : Int32))).bind fun x15 =>
        fX5_count_91 N w o v3 k126 n x14 x15
def fX5_count_76 (N : Nat) (w : Wd) (o : Nat) (k132 : Int32 → Option (Int32 × Wd)) : Nat → Int32 → Int32 → Option (Int32 × Wd)
  | 0, _, _ => none
  | n + 1, v2, v3 =>
    (gR w [5] o 17).bind fun x6 =>
    (aI 0 w x6 (0 : Int32)).bind fun x7 =>
    if x7 ≤ v3 then
      k132 v2
    else
      (some ((v3 + (1 : Int32)))).bind fun x8 =>
      fX5_count_91 N w o v3
        (fun y16 =>
          (some (v3 + (1 : Int32))).bind fun x17 =>
          fX5_count_76 N w o k132 n y16 x17)
        N v2 x8
def fX5_count_184 (N : Nat) (w : Wd) (o : Nat) (k218 : Int32 → Option (Int32 × Wd)) : Nat → Int32 → Int32 → Option (Int32 × Wd)
  | 0, _, _ => none
  | n + 1, v2, v3 =>
    (gR w [5] o 17).bind fun x28 =>
    (aI 0 w x28 (0 : Int32)).bind fun x29 =>
    if x29 ≤ v3 then
      k218 v2
    else
      (fX5_firstHigh N w o v3).bind fun x30 =>
      if x30 ≤ 0 then
        (some ((v2 ||| (0 : Int32)))).bind fun x31 =>
        (some (v3 + (1 : Int32))).bind fun x32 =>
        fX5_count_184 N w o k218 n x31 x32
      else
        (some ((v2 ||| ((1 : Int32) <<< (v3 &&& 31))))).bind fun x33 =>
        (some (v3 + (1 : Int32))).bind fun x34 =>
        fX5_count_184 N w o k218 n x33 x34
def fX5_count_222 (N : Nat) (w : Wd) (o : Nat) (k251 : Int32 → Option (Int32 × Wd)) : Nat → Int32 → Int32 → Option (Int32 × Wd)
  | 0, _, _ => none
  | n + 1, v2, v3 =>
    if (4 : Int32) ≤ v3 then
      k251 v2
    else
      (gR w [5] o 1).bind fun x36 =>
      (aI 0 w x36 v3).bind fun x37 =>
      if x37 = (-1 : Int32) then
        (some ((v2 + (0 : Int32)))).bind fun x40 =>
        (some (v3 + (1 : Int32))).bind fun x41 =>
        fX5_count_222 N w o k251 n x40 x41
      else
        (some ((v2 + (1 : Int32)))).bind fun x38 =>
        (some (v3 + (1 : Int32))).bind fun x39 =>
        fX5_count_222 N w o k251 n x38 x39
def fX5_count (N : Nat) (w : Wd) (o : Nat) (v1 : Int32) : Option (Int32 × Wd) :=
  (pF w [5] o 0 (.int (0 : Int32))).bind fun w1 =>
  if v1 = 0 then
    (gR w1 [5] o 17).bind fun x2 =>
    (aI 0 w1 x2 (0 : Int32)).bind fun x3 =>
    some (x3, w1)
  else if v1 = 1 then
    (gR w1 [5] o 22).bind fun x4 =>
    (aI 0 w1 x4 (1 : Int32)).bind fun x5 =>
    some (x5, w1)
  else if v1 = 2 then
    fX5_count_76 N w1 o
      (fun y18 =>
        some (y18, w1))
      N (0 : Int32) (0 : Int32)
  else if v1 = 3 then
    (gR w1 [5] o 16).bind fun x19 =>
    (aI 0 w1 x19 (0 : Int32)).bind fun x20 =>
    some (x20, w1)
  else if v1 = 4 then
    (gI w1 [5] o 6).bind fun x21 =>
    some (x21, w1)
  else if v1 = 5 then
    (fX5_isCity N w1 o).bind fun x22 =>
    if x22 = 0 then
      some ((0 : Int32), w1)
    else
      (gR w1 [5] o 25).bind fun x23 =>
      (aI 0 w1 x23 (0 : Int32)).bind fun x24 =>
      some (x24, w1)
  else if v1 = 6 then
    (fX5_isCity N w1 o).bind fun x25 =>
    if x25 = 0 then
      some ((0 : Int32), w1)
    else
      (gR w1 [5] o 25).bind fun x26 =>
      (aI 0 w1 x26 (1 : Int32)).bind fun x27 =>
      some (x27, w1)
  else if v1 = 7 then
    fX5_count_184 N w1 o
      (fun y35 =>
        some (y35, w1))
      N (0 : Int32) (0 : Int32)
  else if v1 = 8 then
    fX5_count_222 N w1 o
      (fun y42 =>
        some (y42, w1))
      N (0 : Int32) (0 : Int32)
  else
    some ((-1 : Int32), w1)

def fX5_crossings_66 (N : Nat) (w : Wd) (o : Nat) (v1 : Int32) (v2 : Int32) (v5 : Int32) (v6 : Int32) (k153 : Int32 → Int32 → Option (Int32 × Wd)) : Nat → Int32 → Int32 → Int32 → Option (Int32 × Wd)
  | 0, _, _, _ => none
  | n + 1, v3, v4, v7 =>
    (gR w [5] o 17).bind fun x8 =>
    (aI 0 w x8 (0 : Int32)).bind fun x9 =>
    if x9 ≤ v7 then
      k153 v3 v4
    else
      (fX5_isPair N w o v6 v7).bind fun x10 =>
      if x10 = 0 then
        (some (v7 + (1 : Int32))).bind fun x11 =>
        fX5_crossings_66 N w o v1 v2 v5 v6 k153 n v3 v4 x11
      else
        (fX5_toOf N w o v6 v5).bind fun x12 =>
        if x12 = v7 then
          (fX5_toOf N w o v7 v5).bind fun x14 =>
          if x14 = v6 then
            (some (v3 + (1 : Int32))).bind fun x15 =>
            if v4 = (-1 : Int32) then
              (some (((((100 : Int32) * v5) + ((10 : Int32) * v6)) + v7))).bind fun x17 =>
              (some (v7 + (1 : Int32))).bind fun x18 =>
              fX5_crossings_66 N w o v1 v2 v5 v6 k153 n x15 x17 x18
            else
              (some (v7 + (1 : Int32))).bind fun x16 =>
              fX5_crossings_66 N w o v1 v2 v5 v6 k153 n x15 v4 x16
          else
            (some (v7 + (1 : Int32))).bind fun x19 =>
            fX5_crossings_66 N w o v1 v2 v5 v6 k153 n v3 v4 x19
        else
          (some (v7 + (1 : Int32))).bind fun x13 =>
          fX5_crossings_66 N w o v1 v2 v5 v6 k153 n v3 v4 x13
def fX5_crossings_49 (N : Nat) (w : Wd) (o : Nat) (v1 : Int32) (v2 : Int32) (v5 : Int32) (k159 : Int32 → Int32 → Option (Int32 × Wd)) : Nat → Int32 → Int32 → Int32 → Option (Int32 × Wd)
  | 0, _, _, _ => none
  | n + 1, v3, v4, v6 =>
    (gR w [5] o 17).bind fun x5 =>
    (aI 0 w x5 (0 : Int32)).bind fun x6 =>
    if x6 ≤ v6 then
      k159 v3 v4
    else
      (some ((v6 + (1 : Int32)))).bind fun x7 =>
      fX5_crossings_66 N w o v1 v2 v5 v6
        (fun y20 y21 =>
          (some (v6 + (1 : Int32))).bind fun x22 =>
          fX5_crossings_49 N w o v1 v2 v5 k159 n y20 y21 x22)
        N v3 v4 x7
def fX5_crossings_40 (N : Nat) (w : Wd) (o : Nat) (v1 : Int32) (v2 : Int32) (k165 : Int32 → Int32 → Option (Int32 × Wd)) : Nat → Int32 → Int32 → Int32 → Option (Int32 × Wd)
  | 0, _, _, _ => none
  | n + 1, v3, v4, v5 =>
    if v2 ≤ v5 then
      k165 v3 v4
    else
      fX5_crossings_49 N w o v1 v2 v5
        (fun y23 y24 =>
          (some (v5 + (1 : Int32))).bind fun x25 =>
          fX5_crossings_40 N w o v1 v2 k165 n y23 y24 x25)
        N v3 v4 (0 : Int32)
def fX5_crossings (N : Nat) (w : Wd) (o : Nat) (v1 : Int32) : Option (Int32 × Wd) :=
  (pF w [5] o 0 (.int (0 : Int32))).bind fun w1 =>
  (fX5_isCity N w1 o).bind fun x2 =>
  if x2 = 0 then
    some ((-2 : Int32), w1)
  else
    (fX5_in N w1 v1.toInt64 (0 : Int64) (3 : Int64)).bind fun x3 =>
    if x3 = 0 then
      some ((-2 : Int32), w1)
    else
      (fX5_round N w1 o).bind fun x4 =>
      fX5_crossings_40 N w1 o v1 x4
        (fun y26 y27 =>
          if v1 = 0 then
            some (y26, w1)
          else
            if y27 = (-1 : Int32) then
              some ((-1 : Int32), w1)
            else
              if v1 = (1 : Int32) then
                some ((y27 / (100 : Int32)), w1)
              else
                if v1 = (2 : Int32) then
                  some (((y27 / (10 : Int32)) - (y27 / (10 : Int32)) / (10 : Int32) * (10 : Int32)), w1)
                else
                  some ((y27 - y27 / (10 : Int32) * (10 : Int32)), w1))
        N (0 : Int32) (-1 : Int32) (0 : Int32)

def fX5_cut (N : Nat) (w : Wd) (v0 : Int64) (v2 : Int32) : Option (Int64) :=
  if v2 = 0 then
    some v0.toInt32.toInt8.toInt32.toInt64
  else
    if v2 = (1 : Int32) then
      some v0.toInt32.toInt16.toInt32.toInt64
    else
      if v2 = (2 : Int32) then
        some v0.toInt32.toInt64
      else
        some v0

def fX5_end (N : Nat) (w : Wd) (o : Nat) (v1 : Int32) : Option (Int32 × Wd) :=
  (pF w [5] o 0 (.int (0 : Int32))).bind fun w1 =>
  (gI w1 [5] o 6).bind fun x2 =>
  (fX5_in N w1 v1.toInt64 (0 : Int64) x2.toInt64).bind fun x3 =>
  if x3 = 0 then
    some ((-1 : Int32), w1)
  else
    (pF w1 [5] o 6 (.int v1)).bind fun w4 =>
    some (v1, w4)

def fX5_exchange (N : Nat) (w : Wd) (o : Nat) (v1 : Int32) (v2 : Int32) (v3 : Int32) (v4 : Int32) : Option (Int32 × Wd) :=
  (pF w [5] o 0 (.int (0 : Int32))).bind fun w1 =>
  (fX5_isThrow N w1 o v1 v2).bind fun x2 =>
  if x2 = 0 then
    some ((-2 : Int32), w1)
  else
    (fX5_isThrow N w1 o v3 v4).bind fun x3 =>
    if x3 = 0 then
      some ((-2 : Int32), w1)
    else
      if v1 = v3 then
        some ((-2 : Int32), w1)
      else
        (some ((((8 : Int32) * v1) + v2))).bind fun x4 =>
        (some ((((8 : Int32) * v3) + v4))).bind fun x5 =>
        (gR w1 [5] o 20).bind fun x6 =>
        (aI 0 w1 x6 x5).bind fun x7 =>
        (some (((x7 + v4) - v2))).bind fun x8 =>
        (gR w1 [5] o 20).bind fun x9 =>
        (aI 0 w1 x9 x4).bind fun x10 =>
        (some (((x10 + v2) - v4))).bind fun x11 =>
        (gR w1 [5] o 19).bind fun x12 =>
        (aI 0 w1 x12 v1).bind fun x13 =>
        (gR w1 [5] o 19).bind fun x14 =>
        (aI 0 w1 x14 v3).bind fun x15 =>
        if x13 = x15 then
          (gR w1 [5] o 20).bind fun x16 =>
          (aI 0 w1 x16 x4).bind fun x17 =>
          if x17 = 0 then
            some ((-5 : Int32), w1)
          else
            (gR w1 [5] o 20).bind fun x18 =>
            (aI 0 w1 x18 x5).bind fun x19 =>
            if x19 = 0 then
              some ((-5 : Int32), w1)
            else
              (fX5_in N w1 x8.toInt64 (1 : Int64) (9 : Int64)).bind fun x20 =>
              if x20 = 0 then
                some ((-5 : Int32), w1)
              else
                (fX5_in N w1 x11.toInt64 (1 : Int64) (9 : Int64)).bind fun x21 =>
                if x21 = 0 then
                  some ((-5 : Int32), w1)
                else
                  (gR w1 [5] o 20).bind fun x22 =>
                  (sI 0 w1 x22 x4 x8).bind fun w23 =>
                  (gR w23 [5] o 20).bind fun x24 =>
                  (sI 0 w23 x24 x5 x11).bind fun w25 =>
                  (gR w25 [5] o 21).bind fun x26 =>
                  (aI 0 w25 x26 x4).bind fun x27 =>
                  (gR w25 [5] o 21).bind fun x28 =>
                  (gR w25 [5] o 21).bind fun x29 =>
                  (aI 0 w25 x29 x5).bind fun x30 =>
                  (sI 0 w25 x28 x4 x30).bind fun w31 =>
                  (gR w31 [5] o 21).bind fun x32 =>
                  (sI 0 w31 x32 x5 x27).bind fun w33 =>
                  some ((0 : Int32), w33)
        else
          some ((-5 : Int32), w1)

def fX5_fault (N : Nat) (w : Wd) (o : Nat) (v1 : Int32) : Option (Int32 × Wd) :=
  (pF w [5] o 0 (.int (0 : Int32))).bind fun w1 =>
  if v1 = 0 then
    (gI w1 [5] o 14).bind fun x3 =>
    some (x3, w1)
  else
    if v1 = (1 : Int32) then
      (gI w1 [5] o 15).bind fun x2 =>
      some (x2, w1)
    else
      some ((-1 : Int32), w1)

def fX5_four_3 (N : Nat) (o : Nat) (v1 : Int32) (k36 : Wd → Option (Wd)) : Nat → Int32 → Wd → Option (Wd)
  | 0, _, _ => none
  | n + 1, v2, w =>
    if v2 < 0 then
      k36 w
    else
      (gR w [5] o 5).bind fun x1 =>
      (gI w [5] o 6).bind fun x2 =>
      (sI 2 w x1 x2 ((v1 >>> (v2 &&& 31)).toInt8.toInt32)).bind fun w3 =>
      (gI w3 [5] o 6).bind fun x4 =>
      (pF w3 [5] o 6 (.int (x4 + (1 : Int32)))).bind fun w5 =>
      (some (v2 + (-8 : Int32))).bind fun x6 =>
      fX5_four_3 N o v1 k36 n x6 w5
def fX5_four (N : Nat) (w : Wd) (o : Nat) (v1 : Int32) : Option (Wd) :=
  fX5_four_3 N o v1
    (fun w7 =>
      some w7)
    N (24 : Int32) w

def fX5_feed (N : Nat) (w : Wd) (o : Nat) (v1 : Int32) (v2 : Int32) (v3 : Int32) (v4 : Int32) (v5 : Int32) : Option (Int32 × Wd) :=
  (pF w [5] o 0 (.int (0 : Int32))).bind fun w1 =>
  (gI w1 [5] o 6).bind fun x2 =>
  if (x2 + (20 : Int32)) ≤ (1600 : Int32) then
    (fX5_four N w1 o v1).bind fun w3 =>
    (fX5_four N w3 o v2).bind fun w4 =>
    (fX5_four N w4 o v3).bind fun w5 =>
    (fX5_four N w5 o v4).bind fun w6 =>
    (fX5_four N w6 o v5).bind fun w7 =>
    (gI w7 [5] o 6).bind fun x8 =>
    some (x8, w7)
  else
    some ((-1 : Int32), w1)

def fX5_soonestOf_13 (N : Nat) (o : Nat) (v1 : Int32) (v2 : Int32) (k33 : Wd → Option (Int32 × Wd)) : Nat → Int32 → Wd → Option (Int32 × Wd)
  | 0, _, _ => none
  | n + 1, v3, w =>
    if (32400 : Int32) ≤ v3 then
      k33 w
    else
      (gR w [5] o 33).bind fun x3 =>
      (sI 3 w x3 v3 (0 : Int32)).bind fun w4 =>
      (some (v3 + (1 : Int32))).bind fun x5 =>
      fX5_soonestOf_13 N o v1 v2 k33 n x5 w4
def fX5_soonestOf_84 (N : Nat) (o : Nat) (v1 : Int32) (v2 : Int32) (v3 : Int32) (k164 : Wd → Option (Int32 × Wd)) : Nat → Int32 → Wd → Option (Int32 × Wd)
  | 0, _, _ => none
  | n + 1, v4, w =>
    (gR w [5] o 17).bind fun x15 =>
    (aI 0 w x15 (0 : Int32)).bind fun x16 =>
    if x16 ≤ v4 then
      k164 w
    else
      (gR w [5] o 33).bind fun x17 =>
      (aI 3 w x17 (((6 : Int32) * v3) + v4)).bind fun x18 =>
      if x18 = 0 then
        (some (v4 + (1 : Int32))).bind fun x26 =>
        fX5_soonestOf_84 N o v1 v2 v3 k164 n x26 w
      else
        (gR w [5] o 33).bind fun x19 =>
        (sI 3 w x19 (((6 : Int32) * (v3 + (1 : Int32))) + v4) (1 : Int32)).bind fun w20 =>
        (gR w20 [5] o 33).bind fun x21 =>
        (fX5_highOf N w20 o v4 (v2 + v3)).bind fun x22 =>
        (fX5_toOf N w20 o v4 (v2 + v3)).bind fun x23 =>
        (sI 3 w20 x21 (((6 : Int32) * (v3 + x22)) + x23) (1 : Int32)).bind fun w24 =>
        (some (v4 + (1 : Int32))).bind fun x25 =>
        fX5_soonestOf_84 N o v1 v2 v3 k164 n x25 w24
def fX5_soonestOf_49 (N : Nat) (o : Nat) (v1 : Int32) (v2 : Int32) (k79 : Int32 → Wd → Option (Int32 × Wd)) (k170 : Wd → Option (Int32 × Wd)) : Nat → Int32 → Wd → Option (Int32 × Wd)
  | 0, _, _ => none
  | n + 1, v3, w =>
    if (5390 : Int32) ≤ v3 then
      k170 w
    else
      (gR w [5] o 33).bind fun x11 =>
      (gR w [5] o 24).bind fun x12 =>
      (aI 0 w x12 (((3 : Int32) * v1) + (2 : Int32))).bind fun x13 =>
      (aI 3 w x11 (((6 : Int32) * v3) + x13)).bind fun x14 =>
      if x14 = 0 then
        fX5_soonestOf_84 N o v1 v2 v3
          (fun w27 =>
            (some (v3 + (1 : Int32))).bind fun x28 =>
            fX5_soonestOf_49 N o v1 v2 k79 k170 n x28 w27)
          N (0 : Int32) w
      else
        k79 v3 w
def fX5_soonestOf (N : Nat) (w : Wd) (o : Nat) (v1 : Int32) : Option (Int32 × Wd) :=
  (gR w [5] o 24).bind fun x1 =>
  (aI 0 w x1 (((3 : Int32) * v1) + (1 : Int32))).bind fun x2 =>
  fX5_soonestOf_13 N o v1 x2
    (fun w6 =>
      (gR w6 [5] o 33).bind fun x7 =>
      (gR w6 [5] o 24).bind fun x8 =>
      (aI 0 w6 x8 ((3 : Int32) * v1)).bind fun x9 =>
      (sI 3 w6 x7 x9 (1 : Int32)).bind fun w10 =>
      fX5_soonestOf_49 N o v1 x2
        (fun y29 w30 =>
          some (y29, w30))
        (fun w31 =>
          some ((-1 : Int32), w31))
        N (0 : Int32) w10)
    N (0 : Int32) w

def fX5_goesSoonest_180 (N : Nat) (w : Wd) (o : Nat) (v1 : Int32) (v2 : Int32) (v3 : Int32) (v4 : Int32) (v5 : Int32) (v6 : Int32) (r55 : Int32 → Wd → Option (Int32 × Wd)) (k201 : Wd → Option (Int32 × Wd)) : Option (Int32 × Wd) :=
  (gR w [5] o 34).bind fun x15 =>
  (sI 0 w x15 (((6 : Int32) * v4) + v5) v6).bind fun w16 =>
  (some (v5 + (1 : Int32))).bind fun x17 =>
  r55 x17 w16
def fX5_goesSoonest_178 (N : Nat) (w : Wd) (o : Nat) (v1 : Int32) (v2 : Int32) (v3 : Int32) (v4 : Int32) (v5 : Int32) (s0 : Int32) (r55 : Int32 → Wd → Option (Int32 × Wd)) (k201 : Wd → Option (Int32 × Wd)) : Option (Int32 × Wd) :=
  fX5_goesSoonest_180 N w o v1 v2 v3 v4 v5 s0 r55 k201
def fX5_goesSoonest_105 (N : Nat) (w : Wd) (o : Nat) (v1 : Int32) (v2 : Int32) (v3 : Int32) (v4 : Int32) (v5 : Int32) (s0 : Int32) (r55 : Int32 → Wd → Option (Int32 × Wd)) (k201 : Wd → Option (Int32 × Wd)) : Option (Int32 × Wd) :=
  (fX5_highOf N w o v5 (v2 + v4)).bind fun x14 =>
  if x14 ≤ 0 then
    fX5_goesSoonest_180 N w o v1 v2 v3 v4 v5 s0 r55 k201
  else
    (gI w [5] o 35).bind fun x18 =>
    if x18 < (v4 + x14) then
      fX5_goesSoonest_180 N w o v1 v2 v3 v4 v5 s0 r55 k201
    else
      (gR w [5] o 34).bind fun x19 =>
      (fX5_toOf N w o v5 (v2 + v4)).bind fun x20 =>
      (aI 0 w x19 (((6 : Int32) * (v4 + x14)) + x20)).bind fun x21 =>
      (some (((1 : Int32) + x21))).bind fun x22 =>
      if s0 ≤ x22 then
        fX5_goesSoonest_178 N w o v1 v2 v3 v4 v5 s0 r55 k201
      else
        fX5_goesSoonest_178 N w o v1 v2 v3 v4 v5 x22 r55 k201
def fX5_goesSoonest_55 (N : Nat) (o : Nat) (v1 : Int32) (v2 : Int32) (v3 : Int32) (v4 : Int32) (k201 : Wd → Option (Int32 × Wd)) : Nat → Int32 → Wd → Option (Int32 × Wd)
  | 0, _, _ => none
  | n + 1, v5, w =>
    (gR w [5] o 17).bind fun x9 =>
    (aI 0 w x9 (0 : Int32)).bind fun x10 =>
    if x10 ≤ v5 then
      k201 w
    else
      (gI w [5] o 35).bind fun x11 =>
      if v4 = x11 then
        if v5 = v3 then
          fX5_goesSoonest_105 N w o v1 v2 v3 v4 v5 (0 : Int32) (fX5_goesSoonest_55 N o v1 v2 v3 v4 k201 n) k201
        else
          fX5_goesSoonest_105 N w o v1 v2 v3 v4 v5 (1000000 : Int32) (fX5_goesSoonest_55 N o v1 v2 v3 v4 k201 n) k201
      else
        (gR w [5] o 34).bind fun x12 =>
        (aI 0 w x12 (((6 : Int32) * (v4 + (1 : Int32))) + v5)).bind fun x13 =>
        fX5_goesSoonest_105 N w o v1 v2 v3 v4 v5 x13 (fX5_goesSoonest_55 N o v1 v2 v3 v4 k201 n) k201
def fX5_goesSoonest_47 (N : Nat) (o : Nat) (v1 : Int32) (v2 : Int32) (v3 : Int32) (k207 : Wd → Option (Int32 × Wd)) : Nat → Int32 → Wd → Option (Int32 × Wd)
  | 0, _, _ => none
  | n + 1, v4, w =>
    if v4 < 0 then
      k207 w
    else
      fX5_goesSoonest_55 N o v1 v2 v3 v4
        (fun w23 =>
          (some (v4 + (-1 : Int32))).bind fun x24 =>
          fX5_goesSoonest_47 N o v1 v2 v3 k207 n x24 w23)
        N (0 : Int32) w
def fX5_goesSoonest_366 (N : Nat) (w : Wd) (o : Nat) (v2 : Int32) (v4 : Int32) (v5 : Int32) (v6 : Int32) (r230 : Int32 → Int32 → Wd → Option (Int32 × Wd)) (k398 : Wd → Option (Int32 × Wd)) : Option (Int32 × Wd) :=
  (gI w [5] o 37).bind fun x33 =>
  (pF w [5] o 37 (.int (x33 + (1 : Int32)))).bind fun w34 =>
  (fX5_toOf N w34 o v4 (v2 + v5)).bind fun x35 =>
  (some ((v5 + v6))).bind fun x36 =>
  r230 x35 x36 w34
def fX5_goesSoonest_315 (N : Nat) (w : Wd) (o : Nat) (v2 : Int32) (v4 : Int32) (v5 : Int32) (v6 : Int32) (s0 : Int32) (r230 : Int32 → Int32 → Wd → Option (Int32 × Wd)) (k398 : Wd → Option (Int32 × Wd)) : Option (Int32 × Wd) :=
  if s0 = 0 then
    (gI w [5] o 36).bind fun x40 =>
    (pF w [5] o 36 (.int (x40 + (1 : Int32)))).bind fun w41 =>
    (some (v5 + (1 : Int32))).bind fun x42 =>
    r230 v4 x42 w41
  else
    (gI w [5] o 37).bind fun x32 =>
    if (100 : Int32) ≤ x32 then
      fX5_goesSoonest_366 N w o v2 v4 v5 v6 r230 k398
    else
      (gR w [5] o 38).bind fun x37 =>
      (gI w [5] o 37).bind fun x38 =>
      (sI 0 w x37 x38 (((10 : Int32) * (v2 + v5)) + v4)).bind fun w39 =>
      fX5_goesSoonest_366 N w39 o v2 v4 v5 v6 r230 k398
def fX5_goesSoonest_314 (N : Nat) (w : Wd) (o : Nat) (v2 : Int32) (v4 : Int32) (v5 : Int32) (v6 : Int32) (r230 : Int32 → Int32 → Wd → Option (Int32 × Wd)) (k398 : Wd → Option (Int32 × Wd)) : Option (Int32 × Wd) :=
  fX5_goesSoonest_315 N w o v2 v4 v5 v6 (0 : Int32) r230 k398
def fX5_goesSoonest_230 (N : Nat) (o : Nat) (v2 : Int32) (k398 : Wd → Option (Int32 × Wd)) : Nat → Int32 → Int32 → Wd → Option (Int32 × Wd)
  | 0, _, _, _ => none
  | n + 1, v4, v5, w =>
    (gI w [5] o 35).bind fun x30 =>
    if x30 ≤ v5 then
      k398 w
    else
      (fX5_highOf N w o v4 (v2 + v5)).bind fun x31 =>
      if x31 ≤ 0 then
        fX5_goesSoonest_314 N w o v2 v4 v5 x31 (fX5_goesSoonest_230 N o v2 k398 n) k398
      else
        (gI w [5] o 35).bind fun x43 =>
        if x43 < (v5 + x31) then
          fX5_goesSoonest_314 N w o v2 v4 v5 x31 (fX5_goesSoonest_230 N o v2 k398 n) k398
        else
          (gR w [5] o 34).bind fun x44 =>
          (fX5_toOf N w o v4 (v2 + v5)).bind fun x45 =>
          (aI 0 w x44 (((6 : Int32) * (v5 + x31)) + x45)).bind fun x46 =>
          (gR w [5] o 34).bind fun x47 =>
          (aI 0 w x47 (((6 : Int32) * v5) + v4)).bind fun x48 =>
          if ((1 : Int32) + x46) = x48 then
            fX5_goesSoonest_315 N w o v2 v4 v5 x31 (1 : Int32) (fX5_goesSoonest_230 N o v2 k398 n) k398
          else
            fX5_goesSoonest_314 N w o v2 v4 v5 x31 (fX5_goesSoonest_230 N o v2 k398 n) k398
def fX5_goesSoonest (N : Nat) (w : Wd) (o : Nat) (v1 : Int32) : Option (Int32 × Wd) :=
  (gR w [5] o 24).bind fun x1 =>
  (aI 0 w x1 (((3 : Int32) * v1) + (1 : Int32))).bind fun x2 =>
  (gR w [5] o 24).bind fun x3 =>
  (aI 0 w x3 (((3 : Int32) * v1) + (2 : Int32))).bind fun x4 =>
  (fX5_soonestOf N w o v1).bind fun x5 =>
  (pF x5.2 [5] o 35 (.int x5.1)).bind fun w6 =>
  (gI w6 [5] o 35).bind fun x7 =>
  if x7 = (-1 : Int32) then
    some ((0 : Int32), w6)
  else
    (gI w6 [5] o 35).bind fun x8 =>
    fX5_goesSoonest_47 N o v1 x2 x4
      (fun w25 =>
        (pF w25 [5] o 37 (.int (0 : Int32))).bind fun w26 =>
        (pF w26 [5] o 36 (.int (0 : Int32))).bind fun w27 =>
        (gR w27 [5] o 24).bind fun x28 =>
        (aI 0 w27 x28 ((3 : Int32) * v1)).bind fun x29 =>
        fX5_goesSoonest_230 N o x2
          (fun w49 =>
            some ((1 : Int32), w49))
          N x29 (0 : Int32) w27)
      N x8 w6

def fX5_ground (N : Nat) (w : Wd) (o : Nat) (v1 : Int32) (v2 : Int32) : Option (Int32 × Wd) :=
  (pF w [5] o 0 (.int (0 : Int32))).bind fun w1 =>
  (fX5_isThrow N w1 o v1 v2).bind fun x2 =>
  if x2 = 0 then
    some ((-2 : Int32), w1)
  else
    (fX5_isSolo N w1 o v1).bind fun x3 =>
    if x3 = 0 then
      some ((-1 : Int32), w1)
    else
      (fX5_stateOf N w1 o v1 v2).bind fun x4 =>
      (fX5_bitsOf N w1 x4).bind fun x5 =>
      (fX5_laysChange N w1 o (((1 : Int32) <<< (x5 &&& 31)) - (1 : Int32))).bind fun w6 =>
      (gR w6 [5] o 39).bind fun x7 =>
      (aI 0 w6 x7 x4).bind fun x8 =>
      some (x8, w6)

def fX5_isGust (N : Nat) (w : Wd) (o : Nat) (v1 : Int32) (v2 : Int32) : Option (Int32) :=
  (fX5_isCity N w o).bind fun x1 =>
  if x1 = 0 then
    some (0 : Int32)
  else
    (fX5_in N w v1.toInt64 (0 : Int64) (2000000000 : Int64)).bind fun x2 =>
    if x2 = 0 then
      some (0 : Int32)
    else
      (fX5_in N w v2.toInt64 (0 : Int64) (2000 : Int64)).bind fun x3 =>
      if x3 = 0 then
        some (0 : Int32)
      else
        some (1 : Int32)

def fX5_gusts (N : Nat) (w : Wd) (o : Nat) (v1 : Int32) (v2 : Int32) (v3 : Int32) : Option (Int32 × Wd) :=
  (pF w [5] o 0 (.int (0 : Int32))).bind fun w1 =>
  (fX5_isGust N w1 o v1 v2).bind fun x2 =>
  if x2 = 0 then
    some ((-2 : Int32), w1)
  else
    (fX5_in N w1 v3.toInt64 (0 : Int64) (2 : Int64)).bind fun x3 =>
    if x3 = 0 then
      some ((-2 : Int32), w1)
    else
      (fX5_isUp N w1 o).bind fun x4 =>
      if x4 = 0 then
        some ((-1 : Int32), w1)
      else
        (fX5_blows N w1 o v1.toInt64 v2).bind fun w5 =>
        if v3 = 0 then
          (fX5_ballsOf N w5 o).bind fun x8 =>
          (gI w5 [5] o 43).bind fun x9 =>
          some ((x8 - x9), w5)
        else
          if v3 = (1 : Int32) then
            (gI w5 [5] o 44).bind fun x7 =>
            some (x7, w5)
          else
            (gI w5 [5] o 45).bind fun x6 =>
            some (x6, w5)

def fX5_init_218 (N : Nat) (o : Nat) (k236 : Wd → Nat → Option (Wd × Nat)) : Nat → Int32 → Wd → Nat → Option (Wd × Nat)
  | 0, _, _, _ => none
  | n + 1, v1, w, nx =>
    if (4 : Int32) ≤ v1 then
      k236 w nx
    else
      (gR w [5] o 1).bind fun x53 =>
      (sI 0 w x53 v1 (-1 : Int32)).bind fun w54 =>
      (some (v1 + (1 : Int32))).bind fun x55 =>
      fX5_init_218 N o k236 n x55 w54 nx
def fX5_init (N : Nat) (w : Wd) (nx : Nat) (o : Nat) : Option (Wd × Nat) :=
  (nwA 0 4 w nx (4 : Int32)).bind fun w2 =>
  (pF w2 [5] o 1 (.ref nx)).bind fun w3 =>
  (nwA 0 4 w3 (nx + 1) (4 : Int32)).bind fun w4 =>
  (pF w4 [5] o 2 (.ref (nx + 1))).bind fun w5 =>
  (nwA 1 240 w5 (nx + 2) (240 : Int32)).bind fun w6 =>
  (pF w6 [5] o 3 (.ref (nx + 2))).bind fun w7 =>
  (nwA 1 60 w7 (nx + 3) (60 : Int32)).bind fun w8 =>
  (pF w8 [5] o 4 (.ref (nx + 3))).bind fun w9 =>
  (nwA 2 1600 w9 (nx + 4) (1600 : Int32)).bind fun w10 =>
  (pF w10 [5] o 5 (.ref (nx + 4))).bind fun w11 =>
  (pF w11 [5] o 15 (.int (-1 : Int32))).bind fun w12 =>
  (nwA 0 6 w12 (nx + 5) (6 : Int32)).bind fun w13 =>
  (pF w13 [5] o 16 (.ref (nx + 5))).bind fun w14 =>
  (nwA 0 6 w14 (nx + 6) (6 : Int32)).bind fun w15 =>
  (pF w15 [5] o 17 (.ref (nx + 6))).bind fun w16 =>
  (nwA 0 36 w16 (nx + 7) (36 : Int32)).bind fun w17 =>
  (pF w17 [5] o 18 (.ref (nx + 7))).bind fun w18 =>
  (nwA 0 36 w18 (nx + 8) (36 : Int32)).bind fun w19 =>
  (pF w19 [5] o 19 (.ref (nx + 8))).bind fun w20 =>
  (nwA 0 288 w20 (nx + 9) (288 : Int32)).bind fun w21 =>
  (pF w21 [5] o 20 (.ref (nx + 9))).bind fun w22 =>
  (nwA 0 288 w22 (nx + 10) (288 : Int32)).bind fun w23 =>
  (pF w23 [5] o 21 (.ref (nx + 10))).bind fun w24 =>
  (nwA 0 12 w24 (nx + 11) (12 : Int32)).bind fun w25 =>
  (pF w25 [5] o 22 (.ref (nx + 11))).bind fun w26 =>
  (nwA 0 72 w26 (nx + 12) (72 : Int32)).bind fun w27 =>
  (pF w27 [5] o 23 (.ref (nx + 12))).bind fun w28 =>
  (nwA 0 144 w28 (nx + 13) (144 : Int32)).bind fun w29 =>
  (pF w29 [5] o 24 (.ref (nx + 13))).bind fun w30 =>
  (nwA 0 12 w30 (nx + 14) (12 : Int32)).bind fun w31 =>
  (pF w31 [5] o 25 (.ref (nx + 14))).bind fun w32 =>
  (nwA 3 3 w32 (nx + 15) (3 : Int32)).bind fun w33 =>
  (pF w33 [5] o 27 (.ref (nx + 15))).bind fun w34 =>
  (nwA 0 8 w34 (nx + 16) (8 : Int32)).bind fun w35 =>
  (pF w35 [5] o 28 (.ref (nx + 16))).bind fun w36 =>
  (nwA 0 8 w36 (nx + 17) (8 : Int32)).bind fun w37 =>
  (pF w37 [5] o 29 (.ref (nx + 17))).bind fun w38 =>
  (nwA 3 5040 w38 (nx + 18) (5040 : Int32)).bind fun w39 =>
  (pF w39 [5] o 32 (.ref (nx + 18))).bind fun w40 =>
  (nwA 3 32400 w40 (nx + 19) (32400 : Int32)).bind fun w41 =>
  (pF w41 [5] o 33 (.ref (nx + 19))).bind fun w42 =>
  (nwA 0 32400 w42 (nx + 20) (32400 : Int32)).bind fun w43 =>
  (pF w43 [5] o 34 (.ref (nx + 20))).bind fun w44 =>
  (nwA 0 100 w44 (nx + 21) (100 : Int32)).bind fun w45 =>
  (pF w45 [5] o 38 (.ref (nx + 21))).bind fun w46 =>
  (nwA 0 512 w46 (nx + 22) (512 : Int32)).bind fun w47 =>
  (pF w47 [5] o 39 (.ref (nx + 22))).bind fun w48 =>
  (nwA 1 18688 w48 (nx + 23) (18688 : Int32)).bind fun w49 =>
  (pF w49 [5] o 40 (.ref (nx + 23))).bind fun w50 =>
  (nwA 3 96 w50 (nx + 24) (96 : Int32)).bind fun w51 =>
  (pF w51 [5] o 42 (.ref (nx + 24))).bind fun w52 =>
  fX5_init_218 N o
    (fun w56 y57 =>
      some (w56, y57))
    N (0 : Int32) w52 (nx + 25)

def fX5_isSlot (N : Nat) (w : Wd) (v0 : Int32) : Option (Int32) :=
  (fX5_in N w v0.toInt64 (0 : Int64) (3 : Int64)).bind fun x1 =>
  if x1 = 0 ∨ x1 = 1 then some x1 else none

def fX5_isUnsuited_98 (N : Nat) (w : Wd) (o : Nat) (v1 : Int32) (v3 : Int32) : Option (Int32) :=
  (gR w [5] o 18).bind fun x7 =>
  (aI 0 w x7 v1).bind fun x8 =>
  if x8 = (4 : Int32) then
    if v3 ≤ 0 then
      some (0 : Int32)
    else
      (fX5_firstHigh N w o v1).bind fun x9 =>
      if v3 = x9 then
        some (0 : Int32)
      else
        some (1 : Int32)
  else
    some (0 : Int32)
def fX5_isUnsuited_83 (N : Nat) (w : Wd) (o : Nat) (v1 : Int32) (v3 : Int32) : Option (Int32) :=
  (gR w [5] o 18).bind fun x5 =>
  (aI 0 w x5 v1).bind fun x6 =>
  if x6 = (2 : Int32) then
    if (5 : Int32) < v3 then
      some (1 : Int32)
    else
      fX5_isUnsuited_98 N w o v1 v3
  else
    fX5_isUnsuited_98 N w o v1 v3
def fX5_isUnsuited_12 (N : Nat) (w : Wd) (o : Nat) (v1 : Int32) (v2 : Int32) (k49 : Option (Int32)) (k57 : Option (Int32)) : Nat → Int32 → Option (Int32)
  | 0, _ => none
  | n + 1, v3 =>
    (gR w [5] o 17).bind fun x10 =>
    (aI 0 w x10 (0 : Int32)).bind fun x11 =>
    if x11 ≤ v3 then
      k57
    else
      (fX5_highOf N w o v3 v2).bind fun x12 =>
      (fX5_in N w x12.toInt64 (1 : Int64) (2 : Int64)).bind fun x13 =>
      if x13 = 0 then
        (some (v3 + (1 : Int32))).bind fun x14 =>
        fX5_isUnsuited_12 N w o v1 v2 k49 k57 n x14
      else
        (fX5_toOf N w o v3 v2).bind fun x15 =>
        if x15 = v1 then
          k49
        else
          (some (v3 + (1 : Int32))).bind fun x16 =>
          fX5_isUnsuited_12 N w o v1 v2 k49 k57 n x16
def fX5_isUnsuited (N : Nat) (w : Wd) (o : Nat) (v1 : Int32) (v2 : Int32) : Option (Int32) :=
  (gR w [5] o 18).bind fun x1 =>
  (aI 0 w x1 v1).bind fun x2 =>
  if x2 = (3 : Int32) then
    fX5_isUnsuited_12 N w o v1 v2
      (
        some (1 : Int32))
      (
        some (0 : Int32))
      N (0 : Int32)
  else
    (fX5_highOf N w o v1 v2).bind fun x3 =>
    (fX5_toOf N w o v1 v2).bind fun x4 =>
    if x4 = v1 then
      fX5_isUnsuited_83 N w o v1 x3
    else
      if (v2 - v2 / (2 : Int32) * (2 : Int32)) = (1 : Int32) then
        some (1 : Int32)
      else
        fX5_isUnsuited_83 N w o v1 x3

def fX5_whyNot_53 (N : Nat) (w : Wd) (o : Nat) (v1 : Int32) (v2 : Int32) (k128 : Option (Int32)) (k137 : Option (Int32)) : Nat → Int32 → Option (Int32)
  | 0, _ => none
  | n + 1, v3 =>
    (gR w [5] o 2).bind fun x8 =>
    (aI 0 w x8 v1).bind fun x9 =>
    if x9 ≤ v3 then
      k137
    else
      (gR w [5] o 3).bind fun x10 =>
      (aL w x10 (((60 : Int32) * v1) + v3)).bind fun x11 =>
      (fX5_in N w x11 (0 : Int64) (99 : Int64)).bind fun x12 =>
      if x12 = 0 then
        k128
      else
        (gR w [5] o 17).bind fun x13 =>
        (aI 0 w x13 (0 : Int32)).bind fun x14 =>
        if 0 ≤ (lg_cmp (x11 - x11 / (10 : Int64) * (10 : Int64)) x14.toInt64) then
          k128
        else
          if (lg_cmp (x11 / (10 : Int64)) (0 : Int64)) = 0 then
            if (lg_cmp (x11 - x11 / (10 : Int64) * (10 : Int64)) v2.toInt64) = 0 then
              (some (v3 + (1 : Int32))).bind fun x16 =>
              fX5_whyNot_53 N w o v1 v2 k128 k137 n x16
            else
              k128
          else
            (some (v3 + (1 : Int32))).bind fun x15 =>
            fX5_whyNot_53 N w o v1 v2 k128 k137 n x15
def fX5_whyNot (N : Nat) (w : Wd) (o : Nat) (v1 : Int32) (v2 : Int32) : Option (Int32) :=
  (fX5_isSlot N w v1).bind fun x1 =>
  if x1 = 0 then
    some (-2 : Int32)
  else
    (fX5_isRoof N w o v2).bind fun x2 =>
    if x2 = 0 then
      some (-2 : Int32)
    else
      (gR w [5] o 1).bind fun x3 =>
      (aI 0 w x3 v1).bind fun x4 =>
      if x4 = (-1 : Int32) then
        some (-6 : Int32)
      else
        (gR w [5] o 2).bind fun x5 =>
        (aI 0 w x5 v1).bind fun x6 =>
        (fX5_in N w x6.toInt64 (1 : Int64) (8 : Int64)).bind fun x7 =>
        if x7 = 0 then
          some (-2 : Int32)
        else
          fX5_whyNot_53 N w o v1 v2
            (
              some (-2 : Int32))
            (
              some (0 : Int32))
            N (0 : Int32)

def fX5_takesRow_14 (N : Nat) (o : Nat) (v1 : Int32) (v2 : Int32) (k82 : Wd → Option (Wd)) : Nat → Int32 → Wd → Option (Wd)
  | 0, _, _ => none
  | n + 1, v3, w =>
    (gR w [5] o 2).bind fun x5 =>
    (aI 0 w x5 v1).bind fun x6 =>
    if x6 ≤ v3 then
      k82 w
    else
      (gR w [5] o 20).bind fun x7 =>
      (gR w [5] o 3).bind fun x8 =>
      (aL w x8 (((60 : Int32) * v1) + v3)).bind fun x9 =>
      (sI 0 w x7 (((8 : Int32) * v2) + v3) (x9.toInt32 / (10 : Int32))).bind fun w10 =>
      (gR w10 [5] o 21).bind fun x11 =>
      (gR w10 [5] o 3).bind fun x12 =>
      (aL w10 x12 (((60 : Int32) * v1) + v3)).bind fun x13 =>
      (sI 0 w10 x11 (((8 : Int32) * v2) + v3) (x13.toInt32 - x13.toInt32 / (10 : Int32) * (10 : Int32))).bind fun w14 =>
      (some (v3 + (1 : Int32))).bind fun x15 =>
      fX5_takesRow_14 N o v1 v2 k82 n x15 w14
def fX5_takesRow (N : Nat) (w : Wd) (o : Nat) (v1 : Int32) (v2 : Int32) : Option (Wd) :=
  (gR w [5] o 19).bind fun x1 =>
  (gR w [5] o 2).bind fun x2 =>
  (aI 0 w x2 v1).bind fun x3 =>
  (sI 0 w x1 v2 x3).bind fun w4 =>
  fX5_takesRow_14 N o v1 v2
    (fun w16 =>
      some w16)
    N (0 : Int32) w4

def fX5_judge (N : Nat) (w : Wd) (o : Nat) (v1 : Int32) (v2 : Int32) : Option (Int32 × Wd) :=
  (pF w [5] o 0 (.int (0 : Int32))).bind fun w1 =>
  (fX5_whyNot N w1 o v1 v2).bind fun x2 =>
  if x2 = 0 then
    (fX5_copyCity N w1 o (0 : Int32) (5 : Int32)).bind fun w3 =>
    (fX5_takesRow N w3 o v1 v2).bind fun w4 =>
    (fX5_isUp N w4 o).bind fun x5 =>
    if x5 = 0 then
      (fX5_copyCity N w4 o (5 : Int32) (0 : Int32)).bind fun w6 =>
      some ((0 : Int32), w6)
    else
      (fX5_copyCity N w4 o (5 : Int32) (0 : Int32)).bind fun w7 =>
      some ((1 : Int32), w7)
  else
    some (x2, w1)

def fX5_keep (N : Nat) (w : Wd) (o : Nat) (v1 : Int32) : Option (Int32 × Wd) :=
  (pF w [5] o 0 (.int (0 : Int32))).bind fun w1 =>
  (fX5_in N w1 v1.toInt64 (0 : Int64) (2 : Int64)).bind fun x2 =>
  if x2 = 0 then
    some ((-2 : Int32), w1)
  else
    (fX5_copyCity N w1 o (0 : Int32) ((1 : Int32) + v1)).bind fun w3 =>
    (gR w3 [5] o 27).bind fun x4 =>
    (sI 3 w3 x4 v1 (1 : Int32)).bind fun w5 =>
    some ((0 : Int32), w5)

def fX5_keeps (N : Nat) (w : Wd) (o : Nat) : Option (Int32 × Wd) :=
  (pF w [5] o 0 (.int (0 : Int32))).bind fun w1 =>
  (fX5_isCity N w1 o).bind fun x2 =>
  if x2 = 0 then
    some ((-2 : Int32), w1)
  else
    (fX5_isUp N w1 o).bind fun x3 =>
    if x3 = 0 then
      some ((0 : Int32), w1)
    else
      some ((1 : Int32), w1)

def fX5_lands_47 (N : Nat) (w : Wd) (o : Nat) (v1 : Int32) (v2 : Int32) (v3 : Int32) (k81 : Int32 → Option (Int32 × Wd)) (k95 : Option (Int32 × Wd)) : Nat → Int32 → Option (Int32 × Wd)
  | 0, _ => none
  | n + 1, v4 =>
    if (9 : Int32) < v4 then
      k95
    else
      (fX5_highOf N w o v3 (v2 - v4)).bind fun x7 =>
      if x7 = v4 then
        (fX5_toOf N w o v3 (v2 - v4)).bind fun x9 =>
        if x9 = v1 then
          k81 v4
        else
          (some (v4 + (1 : Int32))).bind fun x10 =>
          fX5_lands_47 N w o v1 v2 v3 k81 k95 n x10
      else
        (some (v4 + (1 : Int32))).bind fun x8 =>
        fX5_lands_47 N w o v1 v2 v3 k81 k95 n x8
def fX5_lands_34 (N : Nat) (w : Wd) (o : Nat) (v1 : Int32) (v2 : Int32) (k81 : Int32 → Int32 → Option (Int32 × Wd)) (k101 : Option (Int32 × Wd)) : Nat → Int32 → Option (Int32 × Wd)
  | 0, _ => none
  | n + 1, v3 =>
    (gR w [5] o 17).bind fun x5 =>
    (aI 0 w x5 (0 : Int32)).bind fun x6 =>
    if x6 ≤ v3 then
      k101
    else
      fX5_lands_47 N w o v1 v2 v3
        (fun y11 =>
          k81 v3 y11)
        (
          (some (v3 + (1 : Int32))).bind fun x12 =>
          fX5_lands_34 N w o v1 v2 k81 k101 n x12)
        N (1 : Int32)
def fX5_lands (N : Nat) (w : Wd) (o : Nat) (v1 : Int32) (v2 : Int32) : Option (Int32 × Wd) :=
  (pF w [5] o 0 (.int (0 : Int32))).bind fun w1 =>
  (fX5_isRoof N w1 o v1).bind fun x2 =>
  if x2 = 0 then
    some ((-2 : Int32), w1)
  else
    (fX5_isBeat N w1 v2).bind fun x3 =>
    if x3 = 0 then
      some ((-2 : Int32), w1)
    else
      (fX5_isUp N w1 o).bind fun x4 =>
      if x4 = 0 then
        some ((-1 : Int32), w1)
      else
        fX5_lands_34 N w1 o v1 v2
          (fun y13 y14 =>
            some ((((10 : Int32) * y14) + y13), w1))
          (
            some ((-1 : Int32), w1))
          N (0 : Int32)

def fX5_latest_129 (N : Nat) (w : Wd) (o : Nat) (v1 : Int32) (v2 : Int32) (v3 : Int32) (v4 : Int32) (v5 : Int32) (v6 : Int32) (s0 : Nat) (s1 : Int32) (r65 : Int32 → Wd → Option (Int32 × Wd)) (k180 : Wd → Option (Int32 × Wd)) : Option (Int32 × Wd) :=
  if v6 ≤ 0 then
    (sI 3 w s0 s1 (0 : Int32)).bind fun w14 =>
    (some (v5 + (1 : Int32))).bind fun x15 =>
    r65 x15 w14
  else
    if v4 < v6 then
      (sI 3 w s0 s1 (0 : Int32)).bind fun w16 =>
      (some (v5 + (1 : Int32))).bind fun x17 =>
      r65 x17 w16
    else
      (gR w [5] o 33).bind fun x18 =>
      (fX5_toOf N w o v5 (v2 - v4)).bind fun x19 =>
      (aI 3 w x18 (((6 : Int32) * (v4 - v6)) + x19)).bind fun x20 =>
      if x20 = 0 then
        (sI 3 w s0 s1 (0 : Int32)).bind fun w21 =>
        (some (v5 + (1 : Int32))).bind fun x22 =>
        r65 x22 w21
      else
        (sI 3 w s0 s1 (1 : Int32)).bind fun w23 =>
        (some (v5 + (1 : Int32))).bind fun x24 =>
        r65 x24 w23
def fX5_latest_65 (N : Nat) (o : Nat) (v1 : Int32) (v2 : Int32) (v3 : Int32) (v4 : Int32) (k180 : Wd → Option (Int32 × Wd)) : Nat → Int32 → Wd → Option (Int32 × Wd)
  | 0, _, _ => none
  | n + 1, v5, w =>
    (gR w [5] o 17).bind fun x8 =>
    (aI 0 w x8 (0 : Int32)).bind fun x9 =>
    if x9 ≤ v5 then
      k180 w
    else
      (fX5_highOf N w o v5 (v2 - v4)).bind fun x10 =>
      (gR w [5] o 33).bind fun x11 =>
      if v5 = v3 then
        (sI 3 w x11 (((6 : Int32) * v4) + v5) (1 : Int32)).bind fun w12 =>
        (some (v5 + (1 : Int32))).bind fun x13 =>
        fX5_latest_65 N o v1 v2 v3 v4 k180 n x13 w12
      else
        if v4 ≤ 0 then
          fX5_latest_129 N w o v1 v2 v3 v4 v5 x10 x11 (((6 : Int32) * v4) + v5) (fX5_latest_65 N o v1 v2 v3 v4 k180 n) k180
        else
          (gR w [5] o 33).bind fun x25 =>
          (aI 3 w x25 (((6 : Int32) * (v4 - (1 : Int32))) + v5)).bind fun x26 =>
          if x26 = 0 then
            fX5_latest_129 N w o v1 v2 v3 v4 v5 x10 x11 (((6 : Int32) * v4) + v5) (fX5_latest_65 N o v1 v2 v3 v4 k180 n) k180
          else
            (sI 3 w x11 (((6 : Int32) * v4) + v5) (1 : Int32)).bind fun w27 =>
            (some (v5 + (1 : Int32))).bind fun x28 =>
            fX5_latest_65 N o v1 v2 v3 v4 k180 n x28 w27
def fX5_latest_37 (N : Nat) (o : Nat) (v1 : Int32) (v2 : Int32) (v3 : Int32) (k202 : Int32 → Wd → Option (Int32 × Wd)) (k213 : Wd → Option (Int32 × Wd)) : Nat → Int32 → Wd → Option (Int32 × Wd)
  | 0, _, _ => none
  | n + 1, v4, w =>
    if (5400 : Int32) ≤ v4 then
      k213 w
    else
      (gR w [5] o 24).bind fun x6 =>
      (aI 0 w x6 (((3 : Int32) * v1) + (1 : Int32))).bind fun x7 =>
      if (v2 - v4) < x7 then
        k213 w
      else
        fX5_latest_65 N o v1 v2 v3 v4
          (fun w29 =>
            (gR w29 [5] o 33).bind fun x30 =>
            (gR w29 [5] o 24).bind fun x31 =>
            (aI 0 w29 x31 ((3 : Int32) * v1)).bind fun x32 =>
            (aI 3 w29 x30 (((6 : Int32) * v4) + x32)).bind fun x33 =>
            if x33 = 0 then
              (some (v4 + (1 : Int32))).bind fun x34 =>
              fX5_latest_37 N o v1 v2 v3 k202 k213 n x34 w29
            else
              k202 v4 w29)
          N (0 : Int32) w
def fX5_latest (N : Nat) (w : Wd) (o : Nat) (v1 : Int32) (v2 : Int32) : Option (Int32 × Wd) :=
  (pF w [5] o 0 (.int (0 : Int32))).bind fun w1 =>
  (fX5_isLetter N w1 o v1).bind fun x2 =>
  if x2 = 0 then
    some ((-2 : Int32), w1)
  else
    (fX5_isBeat N w1 v2).bind fun x3 =>
    if x3 = 0 then
      some ((-2 : Int32), w1)
    else
      (gR w1 [5] o 24).bind fun x4 =>
      (aI 0 w1 x4 (((3 : Int32) * v1) + (2 : Int32))).bind fun x5 =>
      fX5_latest_37 N o v1 v2 x5
        (fun y35 w36 =>
          some ((v2 - y35), w36))
        (fun w37 =>
          some ((-1 : Int32), w37))
        N (0 : Int32) w1

def fX5_laysRows_56 (N : Nat) (w : Wd) (o : Nat) (v1 : Int32) (v2 : Int32) (v3 : Int32) (v4 : Int32) (v5 : Int32) (v6 : Int32) (v7 : Int32) (k124 : Int64 → Option (Wd)) : Nat → Int64 → Int32 → Option (Wd)
  | 0, _, _ => none
  | n + 1, v8, v10 =>
    if v3 < v10 then
      k124 v8
    else
      if v7 < v10 then
        k124 v8
      else
        if v5 = v4 then
          k124 v8
        else
          if v1 = 0 then none else
          (some (((1 : Int32) <<< (((v6 + v10) - (v6 + v10) / v1 * v1) &&& 31)))).bind fun x3 =>
          if (v5 &&& x3) = 0 then
            (gR w [5] o 40).bind fun x5 =>
            (fX5_at N w (v5 ||| x3) (v7 - v10)).bind fun x6 =>
            (aL w x5 x6).bind fun x7 =>
            (some ((v8 + x7))).bind fun x8 =>
            (some (v10 + (1 : Int32))).bind fun x9 =>
            fX5_laysRows_56 N w o v1 v2 v3 v4 v5 v6 v7 k124 n x8 x9
          else
            (some (v10 + (1 : Int32))).bind fun x4 =>
            fX5_laysRows_56 N w o v1 v2 v3 v4 v5 v6 v7 k124 n v8 x4
def fX5_laysRows_124 (N : Nat) (w : Wd) (o : Nat) (v1 : Int32) (v2 : Int32) (v3 : Int32) (v4 : Int32) (v5 : Int32) (v6 : Int32) (v7 : Int32) (v8 : Int64) (r26 : Int32 → Wd → Option (Wd)) (k144 : Wd → Option (Wd)) : Option (Wd) :=
  (gR w [5] o 40).bind fun x11 =>
  (fX5_at N w v5 v7).bind fun x12 =>
  (sL w x11 x12 v8).bind fun w13 =>
  (some (v7 + (1 : Int32))).bind fun x14 =>
  r26 x14 w13
def fX5_laysRows_26 (N : Nat) (o : Nat) (v1 : Int32) (v2 : Int32) (v3 : Int32) (v4 : Int32) (v5 : Int32) (v6 : Int32) (k144 : Wd → Option (Wd)) : Nat → Int32 → Wd → Option (Wd)
  | 0, _, _ => none
  | n + 1, v7, w =>
    if (v1 * v2) < v7 then
      k144 w
    else
      if v5 = v4 then
        if v7 = 0 then
          fX5_laysRows_56 N w o v1 v2 v3 v4 v5 v6 v7
            (fun y16 =>
              fX5_laysRows_124 N w o v1 v2 v3 v4 v5 v6 v7 y16 (fX5_laysRows_26 N o v1 v2 v3 v4 v5 v6 k144 n) k144)
            N (1 : Int64) (0 : Int32)
        else
          fX5_laysRows_56 N w o v1 v2 v3 v4 v5 v6 v7
            (fun y15 =>
              fX5_laysRows_124 N w o v1 v2 v3 v4 v5 v6 v7 y15 (fX5_laysRows_26 N o v1 v2 v3 v4 v5 v6 k144 n) k144)
            N (0 : Int64) (0 : Int32)
      else
        fX5_laysRows_56 N w o v1 v2 v3 v4 v5 v6 v7
          (fun y10 =>
            fX5_laysRows_124 N w o v1 v2 v3 v4 v5 v6 v7 y10 (fX5_laysRows_26 N o v1 v2 v3 v4 v5 v6 k144 n) k144)
          N (0 : Int64) (0 : Int32)
def fX5_laysRows_11 (N : Nat) (o : Nat) (v1 : Int32) (v2 : Int32) (v3 : Int32) (v4 : Int32) (k150 : Wd → Option (Wd)) : Nat → Int32 → Wd → Option (Wd)
  | 0, _, _ => none
  | n + 1, v5, w =>
    if v5 < 0 then
      k150 w
    else
      (fX5_bitsOf N w v5).bind fun x2 =>
      fX5_laysRows_26 N o v1 v2 v3 v4 v5 x2
        (fun w17 =>
          (some (v5 + (-1 : Int32))).bind fun x18 =>
          fX5_laysRows_11 N o v1 v2 v3 v4 k150 n x18 w17)
        N (0 : Int32) w
def fX5_laysRows (N : Nat) (w : Wd) (o : Nat) (v1 : Int32) (v2 : Int32) (v3 : Int32) : Option (Wd) :=
  (some ((((1 : Int32) <<< (v1 &&& 31)) - (1 : Int32)))).bind fun x1 =>
  fX5_laysRows_11 N o v1 v2 v3 x1
    (fun w19 =>
      some w19)
    N x1 w

def fX5_least_81 (N : Nat) (w : Wd) (o : Nat) (v1 : Int32) (v4 : Int32) (v5 : Int32) (v6 : Int32) (v8 : Int32) (k133 : Int32 → Option (Int32 × Wd)) : Nat → Int32 → Option (Int32 × Wd)
  | 0, _ => none
  | n + 1, v7 =>
    if v1 = 0 then none else
    if ((v5 >>> (((v8 + v7) - (v8 + v7) / v1 * v1) &&& 31)) &&& (1 : Int32)) = (1 : Int32) then
      (some (v7 + (1 : Int32))).bind fun x9 =>
      fX5_least_81 N w o v1 v4 v5 v6 v8 k133 n x9
    else
      (gR w [5] o 40).bind fun x10 =>
      if v1 = 0 then none else
      (fX5_at N w (v5 ||| ((1 : Int32) <<< (((v8 + v7) - (v8 + v7) / v1 * v1) &&& 31))) (v6 - v7)).bind fun x11 =>
      (aL w x10 x11).bind fun x12 =>
      if (lg_cmp x12 (0 : Int64)) = 0 then
        (some (v7 + (1 : Int32))).bind fun x13 =>
        fX5_least_81 N w o v1 v4 v5 v6 v8 k133 n x13
      else
        k133 v7
def fX5_least_71 (N : Nat) (w : Wd) (o : Nat) (v1 : Int32) (v4 : Int32) (k160 : Int32 → Option (Int32 × Wd)) : Nat → Int32 → Int32 → Int32 → Int32 → Option (Int32 × Wd)
  | 0, _, _, _, _ => none
  | n + 1, v5, v6, v7, v8 =>
    if v4 < v8 then
      k160 v7
    else
      fX5_least_81 N w o v1 v4 v5 v6 v8
        (fun y14 =>
          if v1 = 0 then none else
          (some ((v5 ||| ((1 : Int32) <<< (((v8 + y14) - (v8 + y14) / v1 * v1) &&& 31))))).bind fun x15 =>
          (some ((v6 - y14))).bind fun x16 =>
          (some (v8 + (1 : Int32))).bind fun x17 =>
          fX5_least_71 N w o v1 v4 k160 n x15 x16 y14 x17)
        N (0 : Int32)
def fX5_least (N : Nat) (w : Wd) (o : Nat) (v1 : Int32) (v2 : Int32) (v3 : Int32) (v4 : Int32) : Option (Int32 × Wd) :=
  (pF w [5] o 0 (.int (0 : Int32))).bind fun w1 =>
  (fX5_areRows N w1 v1 v2 v3).bind fun x2 =>
  if x2 = 0 then
    some ((-2 : Int32), w1)
  else
    (fX5_in N w1 v4.toInt64 (0 : Int64) ((v1 - (1 : Int32)).toInt64)).bind fun x3 =>
    if x3 = 0 then
      some ((-2 : Int32), w1)
    else
      (fX5_laysRows N w1 o v1 v2 v3).bind fun w4 =>
      (gR w4 [5] o 40).bind fun x5 =>
      (fX5_at N w4 (0 : Int32) (v1 * v2)).bind fun x6 =>
      (aL w4 x5 x6).bind fun x7 =>
      if (lg_cmp x7 (0 : Int64)) = 0 then
        some ((-1 : Int32), w4)
      else
        (some ((v1 * v2))).bind fun x8 =>
        fX5_least_71 N w4 o v1 v4
          (fun y18 =>
            some (y18, w4))
          N (0 : Int32) x8 (0 : Int32) (0 : Int32)

def fX5_letter (N : Nat) (w : Wd) (o : Nat) (v1 : Int32) (v2 : Int32) : Option (Int32 × Wd) :=
  (pF w [5] o 0 (.int (0 : Int32))).bind fun w1 =>
  (fX5_isLetter N w1 o v1).bind fun x2 =>
  if x2 = 0 then
    some ((-2 : Int32), w1)
  else
    (fX5_in N w1 v2.toInt64 (0 : Int64) (2 : Int64)).bind fun x3 =>
    if x3 = 0 then
      some ((-2 : Int32), w1)
    else
      (gR w1 [5] o 24).bind fun x4 =>
      (aI 0 w1 x4 (((3 : Int32) * v1) + v2)).bind fun x5 =>
      some (x5, w1)

def fX5_missed_56 (N : Nat) (o : Nat) (v2 : Int32) (v3 : Int32) (v4 : Int32) (k92 : Int32 → Wd → Option (Int32 × Wd)) : Nat → Int32 → Wd → Option (Int32 × Wd)
  | 0, _, _ => none
  | n + 1, v5, w =>
    (gI w [5] o 31).bind fun x7 =>
    if (v2 + v4) < x7 then
      k92 v5 w
    else
      (gI w [5] o 30).bind fun x8 =>
      if x8 = v3 then
        (some ((v5 + (1 : Int32)))).bind fun x11 =>
        (fX5_follows N w o).bind fun w12 =>
        fX5_missed_56 N o v2 v3 v4 k92 n x11 w12
      else
        (some ((v5 + (0 : Int32)))).bind fun x9 =>
        (fX5_follows N w o).bind fun w10 =>
        fX5_missed_56 N o v2 v3 v4 k92 n x9 w10
def fX5_missed (N : Nat) (w : Wd) (o : Nat) (v1 : Int32) (v2 : Int32) (v3 : Int32) (v4 : Int32) : Option (Int32 × Wd) :=
  (pF w [5] o 0 (.int (0 : Int32))).bind fun w1 =>
  (fX5_isToss N w1 o v1 v2).bind fun x2 =>
  if x2 = 0 then
    some ((-2 : Int32), w1)
  else
    (fX5_isRoof N w1 o v3).bind fun x3 =>
    if x3 = 0 then
      some ((-2 : Int32), w1)
    else
      (fX5_in N w1 v4.toInt64 (0 : Int64) (10000 : Int64)).bind fun x4 =>
      if x4 = 0 then
        some ((-2 : Int32), w1)
      else
        (fX5_starts N w1 o v1 v2).bind fun x5 =>
        if x5.1 = 0 then
          some ((-1 : Int32), x5.2)
        else
          (fX5_follows N x5.2 o).bind fun w6 =>
          fX5_missed_56 N o v2 v3 v4
            (fun y13 w14 =>
              some (y13, w14))
            N (0 : Int32) w6

def fX5_misses_42 (N : Nat) (o : Nat) (v1 : Int32) (v2 : Int32) (v3 : Int32) (v4 : Int32) (k54 : Wd → Option (Int32 × Wd)) (k79 : Wd → Option (Int32 × Wd)) : Nat → Wd → Option (Int32 × Wd)
  | 0, _ => none
  | n + 1, w =>
    (fX5_follows N w o).bind fun w6 =>
    (gI w6 [5] o 30).bind fun x7 =>
    if x7 = v3 then
      k54 w6
    else
      (gI w6 [5] o 30).bind fun x8 =>
      if x8 = v1 then
        (gI w6 [5] o 31).bind fun x9 =>
        if v4 = 0 then none else
        if ((x9 - v2) - (x9 - v2) / v4 * v4) = 0 then
          k79 w6
        else
          fX5_misses_42 N o v1 v2 v3 v4 k54 k79 n w6
      else
        fX5_misses_42 N o v1 v2 v3 v4 k54 k79 n w6
def fX5_misses (N : Nat) (w : Wd) (o : Nat) (v1 : Int32) (v2 : Int32) (v3 : Int32) : Option (Int32 × Wd) :=
  (pF w [5] o 0 (.int (0 : Int32))).bind fun w1 =>
  (fX5_isToss N w1 o v1 v2).bind fun x2 =>
  if x2 = 0 then
    some ((-2 : Int32), w1)
  else
    (fX5_isRoof N w1 o v3).bind fun x3 =>
    if x3 = 0 then
      some ((-2 : Int32), w1)
    else
      (fX5_starts N w1 o v1 v2).bind fun x4 =>
      if x4.1 = 0 then
        some ((-1 : Int32), x4.2)
      else
        (fX5_round N x4.2 o).bind fun x5 =>
        fX5_misses_42 N o v1 v2 v3 x5
          (fun w10 =>
            (gI w10 [5] o 31).bind fun x11 =>
            some (x11, w10))
          (fun w12 =>
            some ((-1 : Int32), w12))
          N x4.2

def fX5_orbit_52 (N : Nat) (o : Nat) (v1 : Int32) (v2 : Int32) (v3 : Int32) (v4 : Int32) (k90 : Int32 → Int32 → Wd → Option (Int32 × Wd)) : Nat → Int32 → Int32 → Wd → Option (Int32 × Wd)
  | 0, _, _, _ => none
  | n + 1, v5, v6, w =>
    (gI w [5] o 30).bind fun x6 =>
    (some ((v6 ||| ((1 : Int32) <<< (x6 &&& 31))))).bind fun x7 =>
    (fX5_follows N w o).bind fun w8 =>
    (some (v5 + (1 : Int32))).bind fun x9 =>
    (gI w8 [5] o 30).bind fun x10 =>
    if x10 = v1 then
      (gI w8 [5] o 31).bind fun x11 =>
      if v4 = 0 then none else
      if ((x11 - v2) - (x11 - v2) / v4 * v4) = 0 then
        k90 x9 x7 w8
      else
        fX5_orbit_52 N o v1 v2 v3 v4 k90 n x9 x7 w8
    else
      fX5_orbit_52 N o v1 v2 v3 v4 k90 n x9 x7 w8
def fX5_orbit (N : Nat) (w : Wd) (o : Nat) (v1 : Int32) (v2 : Int32) (v3 : Int32) : Option (Int32 × Wd) :=
  (pF w [5] o 0 (.int (0 : Int32))).bind fun w1 =>
  (fX5_isToss N w1 o v1 v2).bind fun x2 =>
  if x2 = 0 then
    some ((-2 : Int32), w1)
  else
    (fX5_in N w1 v3.toInt64 (0 : Int64) (3 : Int64)).bind fun x3 =>
    if x3 = 0 then
      some ((-2 : Int32), w1)
    else
      (fX5_starts N w1 o v1 v2).bind fun x4 =>
      if x4.1 = 0 then
        some ((-1 : Int32), x4.2)
      else
        (fX5_round N x4.2 o).bind fun x5 =>
        fX5_orbit_52 N o v1 v2 v3 x5
          (fun y12 y13 w14 =>
            (gI w14 [5] o 31).bind fun x15 =>
            (some ((x15 - v2))).bind fun x16 =>
            if v3 = 0 then
              some (y12, w14)
            else
              if v3 = (1 : Int32) then
                some (x16, w14)
              else
                if v3 = (2 : Int32) then
                  if x5 = 0 then none else
                  some ((x16 / x5), w14)
                else
                  some (y13, w14))
          N (0 : Int32) (0 : Int32) x4.2

def fX5_orbits_31 (N : Nat) (o : Nat) (v1 : Int32) (k52 : Wd → Option (Int32 × Wd)) : Nat → Int32 → Wd → Option (Int32 × Wd)
  | 0, _, _ => none
  | n + 1, v2, w =>
    if (v1 * (6 : Int32)) ≤ v2 then
      k52 w
    else
      (gR w [5] o 32).bind fun x5 =>
      (sI 3 w x5 v2 (0 : Int32)).bind fun w6 =>
      (some (v2 + (1 : Int32))).bind fun x7 =>
      fX5_orbits_31 N o v1 k52 n x7 w6
def fX5_orbits_117 (N : Nat) (o : Nat) (v1 : Int32) (v2 : Int32) (v3 : Int32) (v4 : Int32) (k166 : Wd → Option (Int32 × Wd)) : Nat → Wd → Option (Int32 × Wd)
  | 0, _ => none
  | n + 1, w =>
    (gR w [5] o 32).bind fun x18 =>
    (gI w [5] o 31).bind fun x19 =>
    if v1 = 0 then none else
    (gI w [5] o 30).bind fun x20 =>
    (aI 3 w x18 (((6 : Int32) * (x19 - x19 / v1 * v1)) + x20)).bind fun x21 =>
    if x21 = 0 then
      (gR w [5] o 32).bind fun x22 =>
      (gI w [5] o 31).bind fun x23 =>
      if v1 = 0 then none else
      (gI w [5] o 30).bind fun x24 =>
      (sI 3 w x22 (((6 : Int32) * (x23 - x23 / v1 * v1)) + x24) (1 : Int32)).bind fun w25 =>
      (fX5_follows N w25 o).bind fun w26 =>
      fX5_orbits_117 N o v1 v2 v3 v4 k166 n w26
    else
      k166 w
def fX5_orbits_64 (N : Nat) (o : Nat) (v1 : Int32) (v3 : Int32) (k172 : Int32 → Wd → Option (Int32 × Wd)) : Nat → Int32 → Int32 → Wd → Option (Int32 × Wd)
  | 0, _, _, _ => none
  | n + 1, v2, v4, w =>
    (gR w [5] o 17).bind fun x9 =>
    (aI 0 w x9 (0 : Int32)).bind fun x10 =>
    if x10 ≤ v4 then
      k172 v2 w
    else
      (gR w [5] o 32).bind fun x11 =>
      (aI 3 w x11 (((6 : Int32) * v3) + v4)).bind fun x12 =>
      if x12 = 0 then
        (fX5_highOf N w o v4 v3).bind fun x14 =>
        if x14 = 0 then
          (some (v4 + (1 : Int32))).bind fun x29 =>
          fX5_orbits_64 N o v1 v3 k172 n v2 x29 w
        else
          (some (v2 + (1 : Int32))).bind fun x15 =>
          (pF w [5] o 30 (.int v4)).bind fun w16 =>
          (pF w16 [5] o 31 (.int v3)).bind fun w17 =>
          fX5_orbits_117 N o v1 x15 v3 v4
            (fun w27 =>
              (some (v4 + (1 : Int32))).bind fun x28 =>
              fX5_orbits_64 N o v1 v3 k172 n x15 x28 w27)
            N w17
      else
        (some (v4 + (1 : Int32))).bind fun x13 =>
        fX5_orbits_64 N o v1 v3 k172 n v2 x13 w
def fX5_orbits_56 (N : Nat) (o : Nat) (v1 : Int32) (k178 : Int32 → Wd → Option (Int32 × Wd)) : Nat → Int32 → Int32 → Wd → Option (Int32 × Wd)
  | 0, _, _, _ => none
  | n + 1, v2, v3, w =>
    if v1 ≤ v3 then
      k178 v2 w
    else
      fX5_orbits_64 N o v1 v3
        (fun y30 w31 =>
          (some (v3 + (1 : Int32))).bind fun x32 =>
          fX5_orbits_56 N o v1 k178 n y30 x32 w31)
        N v2 (0 : Int32) w
def fX5_orbits (N : Nat) (w : Wd) (o : Nat) : Option (Int32 × Wd) :=
  (pF w [5] o 0 (.int (0 : Int32))).bind fun w1 =>
  (fX5_isCity N w1 o).bind fun x2 =>
  if x2 = 0 then
    some ((-2 : Int32), w1)
  else
    (fX5_isUp N w1 o).bind fun x3 =>
    if x3 = 0 then
      some ((-1 : Int32), w1)
    else
      (fX5_round N w1 o).bind fun x4 =>
      fX5_orbits_31 N o x4
        (fun w8 =>
          fX5_orbits_56 N o x4
            (fun y33 w34 =>
              some (y33, w34))
            N (0 : Int32) (0 : Int32) w8)
        N (0 : Int32) w1

def fX5_paste_118 (N : Nat) (o : Nat) (v1 : Int32) (v2 : Int32) (v3 : Int32) (v4 : Int32) (v5 : Int32) (k152 : Wd → Option (Int32 × Wd)) : Nat → Int32 → Wd → Option (Int32 × Wd)
  | 0, _, _ => none
  | n + 1, v6, w =>
    if v5 ≤ v6 then
      k152 w
    else
      (gR w [5] o 4).bind fun x16 =>
      (gR w [5] o 3).bind fun x17 =>
      (aL w x17 ((((60 : Int32) * v1) + v2) + v6)).bind fun x18 =>
      (sL w x16 v6 x18).bind fun w19 =>
      (some (v6 + (1 : Int32))).bind fun x20 =>
      fX5_paste_118 N o v1 v2 v3 v4 v5 k152 n x20 w19
def fX5_paste_155 (N : Nat) (o : Nat) (v3 : Int32) (v4 : Int32) (v5 : Int32) (k190 : Wd → Option (Int32 × Wd)) : Nat → Int32 → Wd → Option (Int32 × Wd)
  | 0, _, _ => none
  | n + 1, v6, w =>
    if v5 ≤ v6 then
      k190 w
    else
      (gR w [5] o 3).bind fun x22 =>
      (gR w [5] o 4).bind fun x23 =>
      (aL w x23 v6).bind fun x24 =>
      (sL w x22 ((((60 : Int32) * v3) + v4) + v6) x24).bind fun w25 =>
      (some (v6 + (1 : Int32))).bind fun x26 =>
      fX5_paste_155 N o v3 v4 v5 k190 n x26 w25
def fX5_paste (N : Nat) (w : Wd) (o : Nat) (v1 : Int32) (v2 : Int32) (v3 : Int32) (v4 : Int32) (v5 : Int32) : Option (Int32 × Wd) :=
  (pF w [5] o 0 (.int (0 : Int32))).bind fun w1 =>
  (fX5_isSlot N w1 v1).bind fun x2 =>
  if x2 = 0 then
    some ((-2 : Int32), w1)
  else
    (fX5_isSlot N w1 v3).bind fun x3 =>
    if x3 = 0 then
      some ((-2 : Int32), w1)
    else
      (gR w1 [5] o 1).bind fun x4 =>
      (aI 0 w1 x4 v1).bind fun x5 =>
      if x5 = (-1 : Int32) then
        some ((-6 : Int32), w1)
      else
        (gR w1 [5] o 1).bind fun x6 =>
        (aI 0 w1 x6 v3).bind fun x7 =>
        if x7 = (-1 : Int32) then
          some ((-6 : Int32), w1)
        else
          (gR w1 [5] o 1).bind fun x8 =>
          (aI 0 w1 x8 v1).bind fun x9 =>
          (gR w1 [5] o 1).bind fun x10 =>
          (aI 0 w1 x10 v3).bind fun x11 =>
          if x9 = x11 then
            if v2 < 0 then
              some ((-7 : Int32), w1)
            else
              if v4 < 0 then
                some ((-7 : Int32), w1)
              else
                if v5 < 0 then
                  some ((-7 : Int32), w1)
                else
                  (gR w1 [5] o 2).bind fun x12 =>
                  (aI 0 w1 x12 v1).bind fun x13 =>
                  if 0 < (lg_cmp (v2.toInt64 + v5.toInt64) x13.toInt64) then
                    some ((-7 : Int32), w1)
                  else
                    (gR w1 [5] o 2).bind fun x14 =>
                    (aI 0 w1 x14 v3).bind fun x15 =>
                    if (lg_cmp (v4.toInt64 + v5.toInt64) x15.toInt64) ≤ 0 then
                      fX5_paste_118 N o v1 v2 v3 v4 v5
                        (fun w21 =>
                          fX5_paste_155 N o v3 v4 v5
                            (fun w27 =>
                              some ((0 : Int32), w27))
                            N (0 : Int32) w21)
                        N (0 : Int32) w1
                    else
                      some ((-7 : Int32), w1)
          else
            some ((-8 : Int32), w1)

def fX5_period (N : Nat) (w : Wd) (o : Nat) (v1 : Int32) : Option (Int32 × Wd) :=
  (pF w [5] o 0 (.int (0 : Int32))).bind fun w1 =>
  (fX5_isRoof N w1 o v1).bind fun x2 =>
  if x2 = 0 then
    some ((-2 : Int32), w1)
  else
    (gR w1 [5] o 19).bind fun x3 =>
    (aI 0 w1 x3 v1).bind fun x4 =>
    some (x4, w1)

def fX5_readers_52 (N : Nat) (o : Nat) (v2 : Int32) (k76 : Int32 → Wd → Option (Int32 × Wd)) : Nat → Int32 → Wd → Option (Int32 × Wd)
  | 0, _, _ => none
  | n + 1, v3, w =>
    (gI w [5] o 31).bind fun x9 =>
    if v2 < x9 then
      k76 v3 w
    else
      (gI w [5] o 30).bind fun x10 =>
      (some ((v3 ||| ((1 : Int32) <<< (x10 &&& 31))))).bind fun x11 =>
      (fX5_follows N w o).bind fun w12 =>
      fX5_readers_52 N o v2 k76 n x11 w12
def fX5_readers (N : Nat) (w : Wd) (o : Nat) (v1 : Int32) (v2 : Int32) : Option (Int32 × Wd) :=
  (pF w [5] o 0 (.int (0 : Int32))).bind fun w1 =>
  (fX5_isLetter N w1 o v1).bind fun x2 =>
  if x2 = 0 then
    some ((-2 : Int32), w1)
  else
    (fX5_isBeat N w1 v2).bind fun x3 =>
    if x3 = 0 then
      some ((-2 : Int32), w1)
    else
      (gR w1 [5] o 24).bind fun x4 =>
      (aI 0 w1 x4 ((3 : Int32) * v1)).bind fun x5 =>
      (gR w1 [5] o 24).bind fun x6 =>
      (aI 0 w1 x6 (((3 : Int32) * v1) + (1 : Int32))).bind fun x7 =>
      (fX5_starts N w1 o x5 x7).bind fun x8 =>
      if x8.1 = 0 then
        some ((-1 : Int32), x8.2)
      else
        fX5_readers_52 N o v2
          (fun y13 w14 =>
            some (y13, w14))
          N (0 : Int32) x8.2

def fX5_row_57 (N : Nat) (o : Nat) (v1 : Int32) (v3 : Int32) (k82 : Wd → Option (Int32 × Wd)) : Nat → Int32 → Wd → Option (Int32 × Wd)
  | 0, _, _ => none
  | n + 1, v4, w =>
    if v3 ≤ v4 then
      k82 w
    else
      (gR w [5] o 3).bind fun x8 =>
      (sL w x8 (((60 : Int32) * v1) + v4) (0 : Int64)).bind fun w9 =>
      (some (v4 + (1 : Int32))).bind fun x10 =>
      fX5_row_57 N o v1 v3 k82 n x10 w9
def fX5_row (N : Nat) (w : Wd) (o : Nat) (v1 : Int32) (v2 : Int32) (v3 : Int32) : Option (Int32 × Wd) :=
  (pF w [5] o 0 (.int (0 : Int32))).bind fun w1 =>
  (fX5_isSlot N w1 v1).bind fun x2 =>
  if x2 = 0 then
    some ((-2 : Int32), w1)
  else
    (fX5_in N w1 v2.toInt64 (0 : Int64) (3 : Int64)).bind fun x3 =>
    if x3 = 0 then
      some ((-2 : Int32), w1)
    else
      if v3 ≤ (60 : Int32) then
        if 0 ≤ v3 then
          (gR w1 [5] o 1).bind fun x4 =>
          (sI 0 w1 x4 v1 v2).bind fun w5 =>
          (gR w5 [5] o 2).bind fun x6 =>
          (sI 0 w5 x6 v1 v3).bind fun w7 =>
          fX5_row_57 N o v1 v3
            (fun w11 =>
              some ((0 : Int32), w11))
            N (0 : Int32) w7
        else
          some ((-3 : Int32), w1)
      else
        some ((-2 : Int32), w1)

def fX5_rows (N : Nat) (w : Wd) (o : Nat) (v1 : Int32) (v2 : Int32) (v3 : Int32) : Option (Int64 × Wd) :=
  (pF w [5] o 0 (.int (0 : Int32))).bind fun w1 =>
  (fX5_areRows N w1 v1 v2 v3).bind fun x2 =>
  if x2 = 0 then
    some ((-2 : Int64), w1)
  else
    (fX5_laysRows N w1 o v1 v2 v3).bind fun w3 =>
    (gR w3 [5] o 40).bind fun x4 =>
    (fX5_at N w3 (0 : Int32) (v1 * v2)).bind fun x5 =>
    (aL w3 x4 x5).bind fun x6 =>
    some (x6, w3)

def fX5_same_38 (N : Nat) (o : Nat) (v3 : Int32) (v4 : Int32) (k54 : Wd → Option (Int32 × Wd)) : Nat → Wd → Option (Int32 × Wd)
  | 0, _ => none
  | n + 1, w =>
    (gI w [5] o 31).bind fun x5 =>
    if v4 ≤ x5 then
      k54 w
    else
      (fX5_follows N w o).bind fun w6 =>
      fX5_same_38 N o v3 v4 k54 n w6
def fX5_same (N : Nat) (w : Wd) (o : Nat) (v1 : Int32) (v2 : Int32) (v3 : Int32) (v4 : Int32) : Option (Int32 × Wd) :=
  (pF w [5] o 0 (.int (0 : Int32))).bind fun w1 =>
  (fX5_isToss N w1 o v1 v2).bind fun x2 =>
  if x2 = 0 then
    some ((-2 : Int32), w1)
  else
    (fX5_isToss N w1 o v3 v4).bind fun x3 =>
    if x3 = 0 then
      some ((-2 : Int32), w1)
    else
      (fX5_starts N w1 o v1 v2).bind fun x4 =>
      if x4.1 = 0 then
        some ((-1 : Int32), x4.2)
      else
        fX5_same_38 N o v3 v4
          (fun w7 =>
            (gI w7 [5] o 31).bind fun x8 =>
            if x8 = v4 then
              (gI w7 [5] o 30).bind fun x9 =>
              if x9 = v3 then
                some ((1 : Int32), w7)
              else
                some ((0 : Int32), w7)
            else
              some ((0 : Int32), w7))
          N x4.2

def fX5_set_48 (N : Nat) (w : Wd) (o : Nat) (v1 : Int32) (v2 : Int32) (v3 : Int32) (v4 : Int32) : Option (Int32 × Wd) :=
  (some ((((8 : Int32) * v1) + v2))).bind fun x5 =>
  (gR w [5] o 20).bind fun x6 =>
  (aI 0 w x6 x5).bind fun x7 =>
  (gR w [5] o 21).bind fun x8 =>
  (aI 0 w x8 x5).bind fun x9 =>
  (some ((((10 : Int32) * x7) + x9))).bind fun x10 =>
  (gR w [5] o 20).bind fun x11 =>
  (sI 0 w x11 x5 v3).bind fun w12 =>
  (gR w12 [5] o 21).bind fun x13 =>
  (sI 0 w12 x13 x5 v4).bind fun w14 =>
  some (x10, w14)
def fX5_set (N : Nat) (w : Wd) (o : Nat) (v1 : Int32) (v2 : Int32) (v3 : Int32) (v4 : Int32) : Option (Int32 × Wd) :=
  (pF w [5] o 0 (.int (0 : Int32))).bind fun w1 =>
  (fX5_isThrow N w1 o v1 v2).bind fun x2 =>
  if x2 = 0 then
    some ((-2 : Int32), w1)
  else
    (fX5_in N w1 v3.toInt64 (0 : Int64) (9 : Int64)).bind fun x3 =>
    if x3 = 0 then
      some ((-2 : Int32), w1)
    else
      (fX5_isRoof N w1 o v4).bind fun x4 =>
      if x4 = 0 then
        some ((-2 : Int32), w1)
      else
        if v3 = 0 then
          if v4 = v1 then
            fX5_set_48 N w1 o v1 v2 v3 v4
          else
            some ((-2 : Int32), w1)
        else
          fX5_set_48 N w1 o v1 v2 v3 v4

def fX5_shift_19 (N : Nat) (o : Nat) (v1 : Int32) (v2 : Int32) (k69 : Wd → Option (Int32 × Wd)) : Nat → Int32 → Wd → Option (Int32 × Wd)
  | 0, _, _ => none
  | n + 1, v3, w =>
    (gR w [5] o 19).bind fun x3 =>
    (aI 0 w x3 v1).bind fun x4 =>
    if x4 ≤ v3 then
      k69 w
    else
      (gR w [5] o 28).bind fun x5 =>
      (gR w [5] o 20).bind fun x6 =>
      (aI 0 w x6 (((8 : Int32) * v1) + v3)).bind fun x7 =>
      (sI 0 w x5 v3 x7).bind fun w8 =>
      (gR w8 [5] o 29).bind fun x9 =>
      (gR w8 [5] o 21).bind fun x10 =>
      (aI 0 w8 x10 (((8 : Int32) * v1) + v3)).bind fun x11 =>
      (sI 0 w8 x9 v3 x11).bind fun w12 =>
      (some (v3 + (1 : Int32))).bind fun x13 =>
      fX5_shift_19 N o v1 v2 k69 n x13 w12
def fX5_shift_71 (N : Nat) (o : Nat) (v1 : Int32) (v2 : Int32) (k139 : Wd → Option (Int32 × Wd)) : Nat → Int32 → Wd → Option (Int32 × Wd)
  | 0, _, _ => none
  | n + 1, v3, w =>
    (gR w [5] o 19).bind fun x15 =>
    (aI 0 w x15 v1).bind fun x16 =>
    if x16 ≤ v3 then
      k139 w
    else
      (gR w [5] o 20).bind fun x17 =>
      (gR w [5] o 28).bind fun x18 =>
      (gR w [5] o 19).bind fun x19 =>
      (aI 0 w x19 v1).bind fun x20 =>
      if x20 = 0 then none else
      (aI 0 w x18 ((v3 + v2) - (v3 + v2) / x20 * x20)).bind fun x21 =>
      (sI 0 w x17 (((8 : Int32) * v1) + v3) x21).bind fun w22 =>
      (gR w22 [5] o 21).bind fun x23 =>
      (gR w22 [5] o 29).bind fun x24 =>
      (gR w22 [5] o 19).bind fun x25 =>
      (aI 0 w22 x25 v1).bind fun x26 =>
      if x26 = 0 then none else
      (aI 0 w22 x24 ((v3 + v2) - (v3 + v2) / x26 * x26)).bind fun x27 =>
      (sI 0 w22 x23 (((8 : Int32) * v1) + v3) x27).bind fun w28 =>
      (some (v3 + (1 : Int32))).bind fun x29 =>
      fX5_shift_71 N o v1 v2 k139 n x29 w28
def fX5_shift (N : Nat) (w : Wd) (o : Nat) (v1 : Int32) (v2 : Int32) : Option (Int32 × Wd) :=
  (pF w [5] o 0 (.int (0 : Int32))).bind fun w1 =>
  (fX5_isThrow N w1 o v1 v2).bind fun x2 =>
  if x2 = 0 then
    some ((-2 : Int32), w1)
  else
    fX5_shift_19 N o v1 v2
      (fun w14 =>
        fX5_shift_71 N o v1 v2
          (fun w30 =>
            (gR w30 [5] o 19).bind fun x31 =>
            (aI 0 w30 x31 v1).bind fun x32 =>
            some (x32, w30))
          N (0 : Int32) w14)
      N (0 : Int32) w1

def fX5_silent_26 (N : Nat) (w : Wd) (o : Nat) (v1 : Int32) (v2 : Int32) (k56 : Int32 → Option (Int32 × Wd)) : Nat → Int32 → Int32 → Option (Int32 × Wd)
  | 0, _, _ => none
  | n + 1, v3, v4 =>
    if v2 ≤ v4 then
      k56 v3
    else
      (fX5_highOf N w o v1 v4).bind fun x4 =>
      if x4 = 0 then
        (some ((v3 + (1 : Int32)))).bind fun x7 =>
        (some (v4 + (1 : Int32))).bind fun x8 =>
        fX5_silent_26 N w o v1 v2 k56 n x7 x8
      else
        (some ((v3 + (0 : Int32)))).bind fun x5 =>
        (some (v4 + (1 : Int32))).bind fun x6 =>
        fX5_silent_26 N w o v1 v2 k56 n x5 x6
def fX5_silent (N : Nat) (w : Wd) (o : Nat) (v1 : Int32) : Option (Int32 × Wd) :=
  (pF w [5] o 0 (.int (0 : Int32))).bind fun w1 =>
  (fX5_isRoof N w1 o v1).bind fun x2 =>
  if x2 = 0 then
    some ((-2 : Int32), w1)
  else
    (fX5_round N w1 o).bind fun x3 =>
    fX5_silent_26 N w1 o v1 x3
      (fun y9 =>
        some (y9, w1))
      N (0 : Int32) (0 : Int32)

def fX5_soonest (N : Nat) (w : Wd) (o : Nat) (v1 : Int32) (v2 : Int32) : Option (Int32 × Wd) :=
  (pF w [5] o 0 (.int (0 : Int32))).bind fun w1 =>
  (fX5_isLetter N w1 o v1).bind fun x2 =>
  if x2 = 0 then
    some ((-2 : Int32), w1)
  else
    (fX5_in N w1 v2.toInt64 (0 : Int64) (2 : Int64)).bind fun x3 =>
    if x3 = 0 then
      some ((-2 : Int32), w1)
    else
      (fX5_goesSoonest N w1 o v1).bind fun x4 =>
      if x4.1 = 0 then
        some ((-1 : Int32), x4.2)
      else
        if v2 = 0 then
          (gR x4.2 [5] o 24).bind fun x7 =>
          (aI 0 x4.2 x7 (((3 : Int32) * v1) + (1 : Int32))).bind fun x8 =>
          (gI x4.2 [5] o 35).bind fun x9 =>
          some ((x8 + x9), x4.2)
        else
          if v2 = (1 : Int32) then
            (gI x4.2 [5] o 37).bind fun x6 =>
            some (x6, x4.2)
          else
            (gI x4.2 [5] o 36).bind fun x5 =>
            some (x5, x4.2)

def fX5_state (N : Nat) (w : Wd) (o : Nat) (v1 : Int32) (v2 : Int32) : Option (Int32 × Wd) :=
  (pF w [5] o 0 (.int (0 : Int32))).bind fun w1 =>
  (fX5_isThrow N w1 o v1 v2).bind fun x2 =>
  if x2 = 0 then
    some ((-2 : Int32), w1)
  else
    (fX5_isSolo N w1 o v1).bind fun x3 =>
    if x3 = 0 then
      some ((-1 : Int32), w1)
    else
      (fX5_stateOf N w1 o v1 v2).bind fun x4 =>
      some (x4, w1)

def fX5_unsuitedOf_9 (N : Nat) (w : Wd) (o : Nat) (v1 : Int32) (v2 : Int32) (k23 : Int32 → Option (Int32)) (k31 : Option (Int32)) : Nat → Int32 → Option (Int32)
  | 0, _ => none
  | n + 1, v3 =>
    if v2 ≤ v3 then
      k31
    else
      (fX5_isUnsuited N w o v1 v3).bind fun x3 =>
      if x3 = 0 then
        (some (v3 + (1 : Int32))).bind fun x4 =>
        fX5_unsuitedOf_9 N w o v1 v2 k23 k31 n x4
      else
        k23 v3
def fX5_unsuitedOf (N : Nat) (w : Wd) (o : Nat) (v1 : Int32) : Option (Int32) :=
  (fX5_round N w o).bind fun x1 =>
  (some (((2 : Int32) * x1))).bind fun x2 =>
  fX5_unsuitedOf_9 N w o v1 x2
    (fun y5 =>
      some y5)
    (
      some (-1 : Int32))
    N (0 : Int32)

def fX5_suits (N : Nat) (w : Wd) (o : Nat) (v1 : Int32) : Option (Int32 × Wd) :=
  (pF w [5] o 0 (.int (0 : Int32))).bind fun w1 =>
  (fX5_isRoof N w1 o v1).bind fun x2 =>
  if x2 = 0 then
    some ((-2 : Int32), w1)
  else
    (fX5_unsuitedOf N w1 o v1).bind fun x3 =>
    if x3 = (-1 : Int32) then
      some ((1 : Int32), w1)
    else
      some ((0 : Int32), w1)

def fX5_swap (N : Nat) (w : Wd) (o : Nat) (v1 : Int32) (v2 : Int32) (v3 : Int32) : Option (Int32 × Wd) :=
  (pF w [5] o 0 (.int (0 : Int32))).bind fun w1 =>
  (fX5_isThrow N w1 o v1 v2).bind fun x2 =>
  if x2 = 0 then
    some ((-2 : Int32), w1)
  else
    (fX5_isThrow N w1 o v1 v3).bind fun x3 =>
    if x3 = 0 then
      some ((-2 : Int32), w1)
    else
      if v2 = v3 then
        some ((-2 : Int32), w1)
      else
        (some ((((8 : Int32) * v1) + v2))).bind fun x4 =>
        (some ((((8 : Int32) * v1) + v3))).bind fun x5 =>
        (gR w1 [5] o 20).bind fun x6 =>
        (aI 0 w1 x6 x5).bind fun x7 =>
        (some (((x7 + v3) - v2))).bind fun x8 =>
        (gR w1 [5] o 20).bind fun x9 =>
        (aI 0 w1 x9 x4).bind fun x10 =>
        (some (((x10 + v2) - v3))).bind fun x11 =>
        (gR w1 [5] o 20).bind fun x12 =>
        (aI 0 w1 x12 x4).bind fun x13 =>
        if x13 = 0 then
          some ((-5 : Int32), w1)
        else
          (gR w1 [5] o 20).bind fun x14 =>
          (aI 0 w1 x14 x5).bind fun x15 =>
          if x15 = 0 then
            some ((-5 : Int32), w1)
          else
            (fX5_in N w1 x8.toInt64 (1 : Int64) (9 : Int64)).bind fun x16 =>
            if x16 = 0 then
              some ((-5 : Int32), w1)
            else
              (fX5_in N w1 x11.toInt64 (1 : Int64) (9 : Int64)).bind fun x17 =>
              if x17 = 0 then
                some ((-5 : Int32), w1)
              else
                (gR w1 [5] o 20).bind fun x18 =>
                (sI 0 w1 x18 x4 x8).bind fun w19 =>
                (gR w19 [5] o 20).bind fun x20 =>
                (sI 0 w19 x20 x5 x11).bind fun w21 =>
                (gR w21 [5] o 21).bind fun x22 =>
                (aI 0 w21 x22 x4).bind fun x23 =>
                (gR w21 [5] o 21).bind fun x24 =>
                (gR w21 [5] o 21).bind fun x25 =>
                (aI 0 w21 x25 x5).bind fun x26 =>
                (sI 0 w21 x24 x4 x26).bind fun w27 =>
                (gR w27 [5] o 21).bind fun x28 =>
                (sI 0 w27 x28 x5 x23).bind fun w29 =>
                some ((0 : Int32), w29)

def fX5_takes_2 (N : Nat) (w : Wd) (o : Nat) (v1 : Int32) (v2 : Int32) : Option (Int32 × Wd) :=
  (pF w [5] o 0 (.int (0 : Int32))).bind fun w1 =>
  (fX5_whyNot N w1 o v1 v2).bind fun x2 =>
  if x2 = 0 then
    (fX5_takesRow N w1 o v1 v2).bind fun w3 =>
    (gR w3 [5] o 2).bind fun x4 =>
    (aI 0 w3 x4 v1).bind fun x5 =>
    some (x5, w3)
  else
    some (x2, w1)

def fX5_tosses (N : Nat) (w : Wd) (o : Nat) (v1 : Int32) (v2 : Int32) (v3 : Int32) : Option (Int32 × Wd) :=
  (pF w [5] o 0 (.int (0 : Int32))).bind fun w1 =>
  (fX5_isRoof N w1 o v1).bind fun x2 =>
  if x2 = 0 then
    some ((-2 : Int32), w1)
  else
    (fX5_isBeat N w1 v2).bind fun x3 =>
    if x3 = 0 then
      some ((-2 : Int32), w1)
    else
      (fX5_in N w1 v3.toInt64 (0 : Int64) (2 : Int64)).bind fun x4 =>
      if x4 = 0 then
        some ((-2 : Int32), w1)
      else
        if v3 = 0 then
          (fX5_highOf N w1 o v1 v2).bind fun x8 =>
          some (x8, w1)
        else
          if v3 = (1 : Int32) then
            (fX5_toOf N w1 o v1 v2).bind fun x7 =>
            some (x7, w1)
          else
            (gR w1 [5] o 18).bind fun x5 =>
            (aI 0 w1 x5 v1).bind fun x6 =>
            if x6 = (1 : Int32) then
              some (((1 : Int32) - (v2 - v2 / (2 : Int32) * (2 : Int32))), w1)
            else
              some ((v2 - v2 / (2 : Int32) * (2 : Int32)), w1)

def fX5_turn (N : Nat) (w : Wd) (o : Nat) : Option (Int32 × Wd) :=
  (pF w [5] o 0 (.int (0 : Int32))).bind fun w1 =>
  (fX5_isCity N w1 o).bind fun x2 =>
  if x2 = 0 then
    some ((-2 : Int32), w1)
  else
    (fX5_round N w1 o).bind fun x3 =>
    some (x3, w1)

def fX5_unsuited (N : Nat) (w : Wd) (o : Nat) (v1 : Int32) : Option (Int32 × Wd) :=
  (pF w [5] o 0 (.int (0 : Int32))).bind fun w1 =>
  (fX5_isRoof N w1 o v1).bind fun x2 =>
  if x2 = 0 then
    some ((-2 : Int32), w1)
  else
    (fX5_unsuitedOf N w1 o v1).bind fun x3 =>
    some (x3, w1)

def fX5_wages_34 (N : Nat) (w : Wd) (o : Nat) (v1 : Int32) (v2 : Int32) (k85 : Int64 → Option (Int64 × Wd)) : Nat → Int64 → Int32 → Option (Int64 × Wd)
  | 0, _, _ => none
  | n + 1, v3, v5 =>
    if v2 ≤ v5 then
      k85 v3
    else
      (fX5_highOf N w o v1 v5).bind fun x4 =>
      (fX5_highOf N w o v1 v5).bind fun x5 =>
      (fX5_toOf N w o v1 v5).bind fun x6 =>
      if x6 = v1 then
        (some ((v3 + ((x4.toInt64 * x5.toInt64) * (1 : Int64))))).bind fun x9 =>
        (some (v5 + (1 : Int32))).bind fun x10 =>
        fX5_wages_34 N w o v1 v2 k85 n x9 x10
      else
        (some ((v3 + ((x4.toInt64 * x5.toInt64) * (2 : Int64))))).bind fun x7 =>
        (some (v5 + (1 : Int32))).bind fun x8 =>
        fX5_wages_34 N w o v1 v2 k85 n x7 x8
def fX5_wages (N : Nat) (w : Wd) (o : Nat) (v1 : Int32) (v2 : Int32) : Option (Int64 × Wd) :=
  (pF w [5] o 0 (.int (0 : Int32))).bind fun w1 =>
  (fX5_isRoof N w1 o v1).bind fun x2 =>
  if x2 = 0 then
    some ((-2 : Int64), w1)
  else
    (fX5_in N w1 v2.toInt64 (0 : Int64) (10000 : Int64)).bind fun x3 =>
    if x3 = 0 then
      some ((-2 : Int64), w1)
    else
      fX5_wages_34 N w1 o v1 v2
        (fun y11 =>
          some (y11, w1))
        N (0 : Int64) (0 : Int32)

def fX5_way (N : Nat) (w : Wd) (o : Nat) (v1 : Int32) (v2 : Int32) : Option (Int32 × Wd) :=
  (pF w [5] o 0 (.int (0 : Int32))).bind fun w1 =>
  (fX5_isLetter N w1 o v1).bind fun x2 =>
  if x2 = 0 then
    some ((-2 : Int32), w1)
  else
    (fX5_goesSoonest N w1 o v1).bind fun x3 =>
    if x3.1 = 0 then
      some ((-1 : Int32), x3.2)
    else
      (gI x3.2 [5] o 37).bind fun x4 =>
      (fX5_in N x3.2 v2.toInt64 (0 : Int64) ((x4 - (1 : Int32)).toInt64)).bind fun x5 =>
      if x5 = 0 then
        some ((-1 : Int32), x3.2)
      else
        (gR x3.2 [5] o 38).bind fun x6 =>
        (aI 0 x3.2 x6 v2).bind fun x7 =>
        some (x7, x3.2)

def fX5_write (N : Nat) (w : Wd) (o : Nat) (v1 : Int32) (v2 : Int32) (v3 : Int64) : Option (Int32 × Wd) :=
  (pF w [5] o 0 (.int (0 : Int32))).bind fun w1 =>
  (fX5_isSlot N w1 v1).bind fun x2 =>
  if x2 = 0 then
    some ((-2 : Int32), w1)
  else
    (gR w1 [5] o 1).bind fun x3 =>
    (aI 0 w1 x3 v1).bind fun x4 =>
    if x4 = (-1 : Int32) then
      some ((-6 : Int32), w1)
    else
      (gR w1 [5] o 2).bind fun x5 =>
      (aI 0 w1 x5 v1).bind fun x6 =>
      (fX5_in N w1 v2.toInt64 (0 : Int64) ((x6 - (1 : Int32)).toInt64)).bind fun x7 =>
      if x7 = 0 then
        some ((-7 : Int32), w1)
      else
        (gR w1 [5] o 3).bind fun x8 =>
        (gR w1 [5] o 1).bind fun x9 =>
        (aI 0 w1 x9 v1).bind fun x10 =>
        (fX5_cut N w1 v3 x10).bind fun x11 =>
        (sL w1 x8 (((60 : Int32) * v1) + v2) x11).bind fun w12 =>
        some ((0 : Int32), w12)

def fX5_years_44 (N : Nat) (o : Nat) (v1 : Int32) (v2 : Int32) (v3 : Int32) (k84 : Int32 → Wd → Option (Int32 × Wd)) : Nat → Int32 → Int32 → Wd → Option (Int32 × Wd)
  | 0, _, _, _ => none
  | n + 1, v4, v5, w =>
    if v2 ≤ v5 then
      k84 v4 w
    else
      (fX5_blows N w o (v1.toInt64 + v5.toInt64) v3).bind fun w5 =>
      (gI w5 [5] o 43).bind fun x6 =>
      if x6 ≤ 0 then
        (some ((v4 + (0 : Int32)))).bind fun x7 =>
        (some (v5 + (1 : Int32))).bind fun x8 =>
        fX5_years_44 N o v1 v2 v3 k84 n x7 x8 w5
      else
        (some ((v4 + (1 : Int32)))).bind fun x9 =>
        (some (v5 + (1 : Int32))).bind fun x10 =>
        fX5_years_44 N o v1 v2 v3 k84 n x9 x10 w5
def fX5_years (N : Nat) (w : Wd) (o : Nat) (v1 : Int32) (v2 : Int32) (v3 : Int32) : Option (Int32 × Wd) :=
  (pF w [5] o 0 (.int (0 : Int32))).bind fun w1 =>
  (fX5_isGust N w1 o v1 v3).bind fun x2 =>
  if x2 = 0 then
    some ((-2 : Int32), w1)
  else
    (fX5_in N w1 v2.toInt64 (1 : Int64) (20 : Int64)).bind fun x3 =>
    if x3 = 0 then
      some ((-2 : Int32), w1)
    else
      (fX5_isUp N w1 o).bind fun x4 =>
      if x4 = 0 then
        some ((-1 : Int32), w1)
      else
        fX5_years_44 N o v1 v2 v3
          (fun y11 w12 =>
            some (y11, w12))
          N (0 : Int32) (0 : Int32) w1

