/-! functions of the methods that catch -/
def fX0_cityK (w : Wd) (nx o : Nat) (c : Nat) : Option (Int32 × Wd × Nat) :=
  (pF w [0] o 0 (.ref c)).bind fun w1 =>
  (pF w1 [0] o 3 (.int (0 : Int32))).bind fun w2 =>
  (pF w2 [0] o 4 (.int (-1 : Int32))).bind fun w3 =>
  (gR w3 [0] o 0).bind fun x4 =>
  (gI w3 [1] x4 3).bind fun x5 =>
  (pF w3 [0] o 2 (.int (0 : Int32))).bind fun w6 =>
  some (x5, w6, nx)
def fX0_cityX (w : Wd) (nx o : Nat) (q : Nat) : Option (Int32 × Wd × Nat) :=
  (gI w [7] q 6).bind fun x1 =>
  (pF w [0] o 3 (.int x1)).bind fun w2 =>
  (gI w2 [7] q 7).bind fun x3 =>
  (pF w2 [0] o 4 (.int x3)).bind fun w4 =>
  (pF w4 [0] o 2 (.int (0 : Int32))).bind fun w5 =>
  some ((-4 : Int32), w5, nx)
def fX0_city (ad : Nat → Nat) (N : Nat) (w : Wd) (nx : Nat) (o : Nat) : Option (Int32 × Wd × Nat) :=
  (some (wup w nx (.inr (6, newX6)))).bind fun w1 =>
  (fX6_init ad N w1 (nx + 1) nx o).bind fun x2 =>
  (ckC x2.1 [6] nx).bind fun _ =>
  (fX6_read ad N x2.1 x2.2 nx).bind fun y =>
  match y with
  | .inl z => fX0_cityK z.2.1 z.2.2 o z.1
  | .inr t => fX0_cityX t.2.1 t.2.2 o t.1
def fX4_putX (w : Wd) (o : Nat) (i : Int32) : Option Int32 := (gN w [4] o 0).bind fun x => match x with
  | none => some (-6 : Int32)
  | some a => match w a with
    | some (.inl (t, m, .inl _)) => if (t = 0 ∨ t = 2 ∨ t = 4) ∧ (i < 0 ∨ m ≤ i.toNatClampNeg) ∧ m < 2 ^ 31 then some (-7 : Int32) else none
    | some (.inl (t, m, .inr (.inl _))) => if t = 1 ∧ (i < 0 ∨ m ≤ i.toNatClampNeg) ∧ m < 2 ^ 31 then some (-7 : Int32) else none
    | _ => none
def fX0_write (N : Nat) (w : Wd) (o : Nat) (v1 v2 : Int32) (v3 : Int64) : Option (Int32 × Wd) :=
  (fX0_isSlot N w v1).bind fun x1 =>
  if x1 = 0 then some ((-2 : Int32), w) else
  (gR w [0] o 22).bind fun x2 =>
  (aR 6 w x2 v1).bind fun x3 =>
  (ckC w [4] x3).bind fun _ =>
  match fX4_put N w x3 v2 v3 with
  | some w4 => some ((0 : Int32), w4)
  | none => (fX4_putX w x3 v2).bind fun e => some (e, w)
def fX0_row (N : Nat) (w : Wd) (nx : Nat) (o : Nat) (v1 v2 v3 : Int32) : Option (Int32 × Wd × Nat) :=
  (fX0_isSlot N w v1).bind fun x1 =>
  if x1 = 0 then some ((-2 : Int32), w, nx) else
  (fX0_isIn N w v2.toInt64 (0 : Int64) (3 : Int64)).bind fun x2 =>
  if x2 = 0 then some ((-2 : Int32), w, nx) else
  if v3 ≤ (60 : Int32) then
    (gR w [0] o 22).bind fun x3 =>
    (aR 6 w x3 v1).bind fun x4 =>
    (ckC w [4] x4).bind fun _ =>
    if v3 < 0 then some ((-3 : Int32), w, nx) else
    (fX4_make N w nx x4 v2 v3).bind fun x5 =>
    some ((0 : Int32), x5.1, x5.2)
  else some ((-2 : Int32), w, nx)
/-- an array's type and length, if it is a row of numbers -/
def shp (e : Option En) : Option (Nat × Nat) := match e with
  | some (.inl (t, n, .inl _)) => if t = 0 ∨ t = 2 ∨ t = 4 then some (t, n) else none
  | some (.inl (t, n, .inr (.inl _))) => if t = 1 then some (t, n) else none
  | _ => none
def fcp (w : Wd) (s d : Option Nat) (sp dp z : Int32) : Option (Int32 × Wd) := match s, d with
  | none, _ => some ((-6 : Int32), w)
  | some _, none => some ((-6 : Int32), w)
  | some a, some b => (shp (w a)).bind fun x => (shp (w b)).bind fun y =>
    if x.1 = y.1 then
      if sp < 0 ∨ dp < 0 ∨ z < 0 ∨ x.2 < sp.toNatClampNeg + z.toNatClampNeg ∨ y.2 < dp.toNatClampNeg + z.toNatClampNeg then
        if x.2 < 2 ^ 31 ∧ y.2 < 2 ^ 31 then some ((-7 : Int32), w) else none
      else if x.1 = 0 then (cpI 0 w a sp b dp z).bind fun w' => some ((0 : Int32), w')
      else if x.1 = 2 then (cpI 2 w a sp b dp z).bind fun w' => some ((0 : Int32), w')
      else if x.1 = 4 then (cpI 4 w a sp b dp z).bind fun w' => some ((0 : Int32), w')
      else (cpL w a sp b dp z).bind fun w' => some ((0 : Int32), w')
    else some ((-8 : Int32), w)
def fX0_paste (N : Nat) (w : Wd) (o : Nat) (v1 v2 v3 v4 v5 : Int32) : Option (Int32 × Wd) :=
  (fX0_isSlot N w v1).bind fun x1 =>
  if x1 = 0 then some ((-2 : Int32), w) else
  (fX0_isSlot N w v3).bind fun x2 =>
  if x2 = 0 then some ((-2 : Int32), w) else
  (gR w [0] o 22).bind fun x3 =>
  (aR 6 w x3 v1).bind fun x4 =>
  (gN w [4] x4 0).bind fun x5 =>
  (gR w [0] o 22).bind fun x6 =>
  (aR 6 w x6 v3).bind fun x7 =>
  (gN w [4] x7 0).bind fun x8 =>
  fcp w x5 x8 v2 v4 v5
def fX0_asksRow_106 (N : Nat) (w : Wd) (o : Nat) (v1 : Int32) (v2 : Int32) (v3 : Int32) (v4 : Int32) (v7 : Int32) (r46 : Int32 → Option (Int32)) (k118 : Option (Int32)) (k127 : Option (Int32)) : Option (Int32) :=
  (fX0_isRoof N w o (v7 - v7 / (10 : Int32) * (10 : Int32))).bind fun x14 =>
  if x14 = 0 then
    k118
  else
    (some (v4 + (1 : Int32))).bind fun x15 =>
    r46 x15
def fX0_asksRow_84 (N : Nat) (w : Wd) (o : Nat) (v1 : Int32) (v2 : Int32) (v3 : Int32) (v4 : Int32) (s0 : Int32) (r46 : Int32 → Option (Int32)) (k118 : Option (Int32)) (k127 : Option (Int32)) : Option (Int32) :=
  if s0 = (-1 : Int32) then
    k118
  else
    if (s0 / (10 : Int32)) = 0 then
      if s0 = v2 then
        fX0_asksRow_106 N w o v1 v2 v3 v4 s0 r46 k118 k127
      else
        k118
    else
      fX0_asksRow_106 N w o v1 v2 v3 v4 s0 r46 k118 k127
def fX0_asksRow_46 (N : Nat) (w : Wd) (o : Nat) (v1 : Int32) (v2 : Int32) (v3 : Int32) (k118 : Option (Int32)) (k127 : Option (Int32)) : Nat → Int32 → Option (Int32)
  | 0, _ => none
  | n + 1, v4 =>
    if v3 ≤ v4 then
      k127
    else
      (gR w [0] o 22).bind fun x9 =>
      (aR 6 w x9 v1).bind fun x10 =>
      (ckC w [4] x10).bind fun c12 =>
      (fX4_at N w x10 v4).bind fun x11 =>
      (fX0_isIn N w x11 (0 : Int64) (99 : Int64)).bind fun x13 =>
      if x13 = 0 then
        fX0_asksRow_84 N w o v1 v2 v3 v4 (-1 : Int32) (fX0_asksRow_46 N w o v1 v2 v3 k118 k127 n) k118 k127
      else
        fX0_asksRow_84 N w o v1 v2 v3 v4 x11.toInt32 (fX0_asksRow_46 N w o v1 v2 v3 k118 k127 n) k118 k127
def fX0_asksRow (N : Nat) (w : Wd) (o : Nat) (v1 : Int32) (v2 : Int32) : Option (Int32) :=
  (fX0_isSlot N w v1).bind fun x1 =>
  if x1 = 0 then
    some (-2 : Int32)
  else
    (fX0_isRoof N w o v2).bind fun x2 =>
    if x2 = 0 then
      some (-2 : Int32)
    else
      (gR w [0] o 22).bind fun x3 =>
      (aR 6 w x3 v1).bind fun x4 =>
      (ckC w [4] x4).bind fun c6 =>
      (gN w [4] x4 0).bind fun z7 =>
      if z7 = none then some (-6 : Int32) else
      (fX4_size N w x4).bind fun x5 =>
      (fX0_isIn N w x5.toInt64 (1 : Int64) (8 : Int64)).bind fun x8 =>
      if x8 = 0 then
        some (-2 : Int32)
      else
        fX0_asksRow_46 N w o v1 v2 x5
          (
            some (-2 : Int32))
          (
            some x5)
          N (0 : Int32)

def fX0_judge (N : Nat) (w : Wd) (o : Nat) (v1 : Int32) (v2 : Int32) : Option (Int32 × Wd) :=
  (fX0_asksRow N w o v1 v2).bind fun x1 =>
  if 0 ≤ x1 then
    (gR w [0] o 0).bind fun x3 =>
    (gR w [1] x3 7).bind fun x4 =>
    (aR 5 w x4 v2).bind fun x5 =>
    (gR w [0] o 5).bind fun x6 =>
    (ckC w famT x6).bind fun c8 =>
    (fX2_be N w x6 x5).bind fun w7 =>
    (fX0_takesRow N w7 o v1 x5 x1).bind fun w9 =>
    (gR w9 [0] o 0).bind fun x10 =>
    (ckC w9 [1] x10).bind fun c12 =>
    (fX1_keeps N w9 x10).bind fun x11 =>
    (gR w9 [0] o 5).bind fun x13 =>
    (ckC w9 famT x5).bind fun c15 =>
    (fX2_be N w9 x5 x13).bind fun w14 =>
    if x11 = 0 then
      some ((0 : Int32), w14)
    else
      some ((1 : Int32), w14)
  else
    some (x1, w)

def fX0_takes (N : Nat) (w : Wd) (o : Nat) (v1 : Int32) (v2 : Int32) : Option (Int32 × Wd) :=
  (fX0_asksRow N w o v1 v2).bind fun x1 =>
  if x1 ≤ 0 then
    some (x1, w)
  else
    (gR w [0] o 0).bind fun x3 =>
    (gR w [1] x3 7).bind fun x4 =>
    (aR 5 w x4 v2).bind fun x5 =>
    (fX0_takesRow N w o v1 x5 x1).bind fun w6 =>
    some (x1, w6)

