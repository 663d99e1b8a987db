/-! reading a city -/
set_option maxRecDepth 100000
def D0 : Cy := fun j i => if j = 4 then i / 8 else if j = 13 then 8 else 0
def cRf (D : Cy) (R : Nat) : Cy := fun j i => if j = 0 ∧ i = 0 then R else D j i
def cCr (D : Cy) (lo hi : Nat) : Cy := fun j i => if j = 5 ∧ i = 0 then cX D + 1 else if j = 6 ∧ i = cX D then lo else if j = 7 ∧ i = cX D then hi else D j i
def cLe (D : Cy) (f a t : Nat) : Cy := fun j i => if j = 8 ∧ i = 0 then cN D + 1 else if j = 9 ∧ i = cN D then f else if j = 10 ∧ i = cN D then a else if j = 11 ∧ i = cN D then t else D j i
def cGu (D : Cy) (g od : Nat) : Cy := fun j i => if j = 13 ∧ i = 0 then g - 1 else if j = 14 ∧ i = 0 then od else D j i
def cKd (D : Cy) (r k : Nat) : Cy := fun j i => if j = 2 ∧ i = r then k else D j i
def cLn (D : Cy) : Cy := fun j i => if j = 12 ∧ i = 0 then cL D + 1 else D j i
section
variable {D : Cy}
theorem cRf_R {R : Nat} (h : R ≤ 6) : cR (cRf D R) = R := by unfold cR cRf; rw [if_pos ⟨rfl, rfl⟩]; omega
theorem cCr_X {lo hi : Nat} (h : cX D < 6) : cX (cCr D lo hi) = cX D + 1 := by
  show (cX D + 1) % 7 = _
  omega
theorem cCr_Lo {lo hi : Nat} (h : lo ≤ 5) (k : Nat) : cLo (cCr D lo hi) k = if k = cX D then lo else cLo D k := by
  unfold cLo cCr
  by_cases hk : k = cX D
  · rw [if_neg (fun e => absurd e.1 (by decide)), if_pos ⟨rfl, hk⟩, if_pos hk]; omega
  · rw [if_neg (fun e => absurd e.1 (by decide)), if_neg (fun e => hk e.2), if_neg (fun e => absurd e.1 (by decide)), if_neg hk]
theorem cCr_Hi {lo hi : Nat} (h : hi ≤ 5) (k : Nat) : cHi (cCr D lo hi) k = if k = cX D then hi else cHi D k := by
  unfold cHi cCr
  by_cases hk : k = cX D
  · rw [if_neg (fun e => absurd e.1 (by decide)), if_neg (fun e => absurd e.1 (by decide)), if_pos ⟨rfl, hk⟩, if_pos hk]; omega
  · rw [if_neg (fun e => absurd e.1 (by decide)), if_neg (fun e => absurd e.1 (by decide)), if_neg (fun e => hk e.2), if_neg hk]
theorem cLe_N {f a t : Nat} (h : cN D < 8) : cN (cLe D f a t) = cN D + 1 := by
  show (cN D + 1) % 9 = _
  omega
theorem cLe_F {f a t : Nat} (h : f ≤ 5) (k : Nat) : cF (cLe D f a t) k = if k = cN D then f else cF D k := by
  unfold cF cLe
  by_cases hk : k = cN D
  · rw [if_neg (fun e => absurd e.1 (by decide)), if_pos ⟨rfl, hk⟩, if_pos hk]; omega
  · rw [if_neg (fun e => absurd e.1 (by decide)), if_neg (fun e => hk e.2), if_neg (fun e => absurd e.1 (by decide)), if_neg (fun e => absurd e.1 (by decide)), if_neg hk]
theorem cLe_A {f a t : Nat} (h : a ≤ 99999) (k : Nat) : cA (cLe D f a t) k = if k = cN D then a else cA D k := by
  unfold cA cLe
  by_cases hk : k = cN D
  · rw [if_neg (fun e => absurd e.1 (by decide)), if_neg (fun e => absurd e.1 (by decide)), if_pos ⟨rfl, hk⟩, if_pos hk]; omega
  · rw [if_neg (fun e => absurd e.1 (by decide)), if_neg (fun e => absurd e.1 (by decide)), if_neg (fun e => hk e.2), if_neg (fun e => absurd e.1 (by decide)), if_neg hk]
theorem cLe_D {f a t : Nat} (h : t ≤ 5) (k : Nat) : cD (cLe D f a t) k = if k = cN D then t else cD D k := by
  unfold cD cLe
  by_cases hk : k = cN D
  · rw [if_neg (fun e => absurd e.1 (by decide)), if_neg (fun e => absurd e.1 (by decide)), if_neg (fun e => absurd e.1 (by decide)), if_pos ⟨rfl, hk⟩, if_pos hk]; omega
  · rw [if_neg (fun e => absurd e.1 (by decide)), if_neg (fun e => absurd e.1 (by decide)), if_neg (fun e => absurd e.1 (by decide)), if_neg (fun e => hk e.2), if_neg hk]
theorem cGu_G {g od : Nat} (h : 1 ≤ g ∧ g ≤ 9) : cG (cGu D g od) = g := by
  show (g - 1) % 9 + 1 = g
  omega
theorem cGu_O {g od : Nat} (h : od ≤ 100) : cO (cGu D g od) = od := by
  show od % 101 = od
  omega
theorem cKd_K {r k : Nat} (h : k ≤ 4) (q : Nat) : cK (cKd D r k) q = if q = r then k else cK D q := by
  unfold cK cKd
  by_cases hq : q = r
  · rw [if_pos ⟨rfl, hq⟩, if_pos hq]; omega
  · rw [if_neg (fun e => hq e.2), if_neg hq]
theorem cLn_L (h : cL D < 1999) : cL (cLn D) = cL D + 1 := by
  show (cL D + 1) % 2000 = _
  omega
end
def aKind (T : Tx) (q : Nat) : Pr Nat := if isW T 1 q = true then .inl (0, nx T q) else if isW T 2 q = true then .inl (1, nx T q) else if isW T 3 q = true then .inl (2, nx T q) else if isW T 4 q = true then .inl (3, nx T q) else if isW T 5 q = true then .inl (4, nx T q) else .inr (1, q)
def aThr (T : Tx) (D : Cy) (q : Nat) : Pr Cy := bnd (aNum T 0 ((cR D : Int) - 1) q) fun r q => bnd (aKind T q) fun k q => .inl (cKd D r.toNat k, q)
/-- a row of throws: how many, heights, to whom -/
abbrev Rw : Type := Nat × (Nat → Nat) × (Nat → Nat)
def rwS (s : Rw) (h t : Nat) : Rw := (s.1 + 1, set1 s.2.1 s.1 h, set1 s.2.2 s.1 t)
def aRw (T : Tx) (R : Nat) (r : Nat) : Nat → Rw → Nat → Pr Rw
  | 0, _, q => .inr (1, q)
  | m + 1, s, q => if s.1 = 8 then .inr (if 0 ≤ vl T q ∧ vl T q ≤ 9 then 3 else 2, q) else
      bnd (aNum T 0 9 q) fun h q => bnd (if isW T 6 q = true then (if h = 0 ∧ kd T (nx T q) = 2 ∧ vl T (nx T q) ≠ r then .inr (2, nx T q) else aNum T 0 ((R : Int) - 1) (nx T q)) else .inl ((r : Int), q)) fun t q =>
        if kd T q = 2 then aRw T R r m (rwS s h.toNat t.toNat) q else .inl (rwS s h.toNat t.toNat, q)
def aRow (T : Tx) (D : Cy) (q : Nat) : Pr Cy := bnd (aNum T 0 ((cR D : Int) - 1) q) fun r q => bnd (aRw T (cR D) r.toNat 9 (0, fun _ => 0, fun _ => 0) q) fun s q => .inl (cRow D r.toNat s.1 s.2.1 s.2.2, q)
def aCross (T : Tx) (D : Cy) (q : Nat) : Pr Cy := bnd (aNum T 0 ((cR D : Int) - 1) q) fun x q => bnd (aOther T (cR D) x q) fun y q => .inl (cCr D (min x.toNat y.toNat) (max x.toNat y.toNat), q)
def aLetter (T : Tx) (D : Cy) (q : Nat) : Pr Cy := bnd (aNum T 0 ((cR D : Int) - 1) q) fun f q => bnd (aTold T 7 0 9999 q) fun b q => bnd (aNeeds T 6 q) fun _ q => bnd (aOther T (cR D) f q) fun t q => .inl (cLe D f.toNat b.toNat t.toNat, q)
def aGusts (T : Tx) (D : Cy) (q : Nat) : Pr Cy := bnd (aTold T 8 1 9 q) fun g q => bnd (aTold T 9 0 100 q) fun od q => .inl (cGu D g.toNat od.toNat, q)
def wiG {α β : Type} (x : Pr α) (b : β) : Pr (α × β) := bnd x fun a q => .inl ((a, b), q)
def aLine (T : Tx) (D : Cy) (g : Bool) (q : Nat) : Pr (Cy × Bool) := if isW T 10 q = true then wiG (aThr T D (nx T q)) g else if isW T 11 q = true then wiG (aRow T D (nx T q)) g
  else if isW T 12 q = true then (if cX D = 6 then .inr (3, q) else wiG (aCross T D (nx T q)) g) else if isW T 13 q = true then (if cN D = 8 then .inr (3, q) else wiG (aLetter T D (nx T q)) g)
  else if isW T 14 q = true then (if g = true then .inr (2, q) else wiG (aGusts T D (nx T q)) true) else .inr (1, q)
def aFirst (T : Tx) (D : Cy) (q : Nat) : Pr Cy := bnd (aTold T 0 1 6 q) fun R q => .inl (cRf D R.toNat, q)
def aStep (T : Tx) (D : Cy) (g : Bool) (q : Nat) : Pr (Cy × Bool) := bnd (if cL D = 0 then wiG (aFirst T D q) g else aLine T D g q) fun s q => if kd T q = 3 then .inl ((cLn s.1, s.2), nx T q) else .inr (1, q)
def aRead (T : Tx) : Nat → Cy → Bool → Nat → Pr (Cy × Bool)
  | 0, _, _, q => .inr (1, q)
  | m + 1, D, g, q => if kd T q = 0 then .inl ((D, g), q) else bnd (aStep T D g q) fun s q => aRead T m s.1 s.2 q
