/-! WORLD: abstract heaps as functions from addresses to cells, and what the printed functions do on them -/
set_option maxRecDepth 100000
abbrev En : Type := (Nat × vp_A) ⊕ (Nat × List Value)
abbrev Wd : Type := Nat → Option En
def wup (w : Wd) (a : Nat) (e : En) : Wd := fun q => if q = a then some e else w q
def isC (w : Wd) (c a : Nat) : Prop := ∃ fs, w a = some (.inr (c, fs))
def Kp (w w' : Wd) : Prop := ∀ c a, isC w c a → isC w' c a
def fld (w : Wd) (cs : List Nat) (a k : Nat) : Option Value := match w a with
  | some (.inr (c, fs)) => if c ∈ cs then fs[k]? else none
  | _ => none
def gI (w : Wd) (cs : List Nat) (a k : Nat) : Option Int32 := match fld w cs a k with
  | some (.int x) => some x
  | _ => none
def gL (w : Wd) (cs : List Nat) (a k : Nat) : Option Int64 := match fld w cs a k with
  | some (.long x) => some x
  | _ => none
def gR (w : Wd) (cs : List Nat) (a k : Nat) : Option Nat := match fld w cs a k with
  | some (.ref x) => some x
  | _ => none
def gN (w : Wd) (cs : List Nat) (a k : Nat) : Option (Option Nat) := match fld w cs a k with
  | some (.ref x) => some (some x)
  | some .null => some none
  | _ => none
def pF (w : Wd) (cs : List Nat) (a k : Nat) (v : Value) : Option Wd := match w a with
  | some (.inr (c, fs)) => if c ∈ cs ∧ k < fs.length then some (wup w a (.inr (c, fs.set k v))) else none
  | _ => none
def nar (t : Nat) (x : Int32) : Int32 := match t with
  | 2 => vp_nar .byte x
  | 3 => vp_nar .boolean x
  | 4 => vp_nar .short x
  | _ => x
def aI (t : Nat) (w : Wd) (a : Nat) (i : Int32) : Option Int32 := match w a with
  | some (.inl (t', m, .inl f)) => if t' = t ∧ ¬ (i < 0 ∨ m ≤ i.toNatClampNeg) then some (f i.toNatClampNeg) else none
  | _ => none
def aL (w : Wd) (a : Nat) (i : Int32) : Option Int64 := match w a with
  | some (.inl (t', m, .inr (.inl f))) => if t' = 1 ∧ ¬ (i < 0 ∨ m ≤ i.toNatClampNeg) then some (f i.toNatClampNeg) else none
  | _ => none
def aN (t : Nat) (w : Wd) (a : Nat) (i : Int32) : Option (Option Nat) := match w a with
  | some (.inl (t', m, .inr (.inr (.inr (.inr f))))) => if t' = t ∧ ¬ (i < 0 ∨ m ≤ i.toNatClampNeg) then some (f i.toNatClampNeg) else none
  | _ => none
def aR (t : Nat) (w : Wd) (a : Nat) (i : Int32) : Option Nat := match aN t w a i with
  | some (some x) => some x
  | _ => none
def aLen (w : Wd) (a : Nat) : Option Int32 := match w a with
  | some (.inl (t', m, _)) => if t' < 8 then some (Int32.ofNat m) else none
  | _ => none
def sI (t : Nat) (w : Wd) (a : Nat) (i x : Int32) : Option Wd := match w a with
  | some (.inl (t', m, .inl f)) => if t' = t ∧ ¬ (i < 0 ∨ m ≤ i.toNatClampNeg) then some (wup w a (.inl (t, m, .inl (upd f i.toNatClampNeg (nar t x))))) else none
  | _ => none
def sL (w : Wd) (a : Nat) (i : Int32) (x : Int64) : Option Wd := match w a with
  | some (.inl (t', m, .inr (.inl f))) => if t' = 1 ∧ ¬ (i < 0 ∨ m ≤ i.toNatClampNeg) then some (wup w a (.inl (1, m, .inr (.inl (vp_updL f i.toNatClampNeg x))))) else none
  | _ => none
def ckC (w : Wd) (cs : List Nat) (a : Nat) : Option Nat := match w a with
  | some (.inr (c, _)) => if c ∈ cs then some c else none
  | _ => none
def fty (t : Nat) : FieldType := match t with
  | 2 => .byte
  | 3 => .boolean
  | 4 => .short
  | 1 => .long
  | _ => .int
def cpI (t : Nat) (w : Wd) (a0 : Nat) (sp : Int32) (a : Nat) (dp z : Int32) : Option Wd := match w a0, w a with
  | some (.inl (t0, n0, .inl f)), some (.inl (t1, n1, .inl g)) => if (t0 = t ∧ t1 = t ∧ ¬ sp < 0 ∧ ¬ dp < 0 ∧ ¬ z < 0 ∧ sp.toNatClampNeg + z.toNatClampNeg ≤ n0 ∧ dp.toNatClampNeg + z.toNatClampNeg ≤ n1) ∧ (t = 0 ∨ ∀ i, i < z.toNatClampNeg → fits (fty t) (.int (f (sp.toNatClampNeg + i))) = true) then some (wup w a (.inl (t, n1, .inl (va_cpy f g sp.toNatClampNeg dp.toNatClampNeg z.toNatClampNeg)))) else none
  | _, _ => none
def cpL (w : Wd) (a0 : Nat) (sp : Int32) (a : Nat) (dp z : Int32) : Option Wd := match w a0, w a with
  | some (.inl (t0, n0, .inr (.inl f))), some (.inl (t1, n1, .inr (.inl g))) => if t0 = 1 ∧ t1 = 1 ∧ ¬ sp < 0 ∧ ¬ dp < 0 ∧ ¬ z < 0 ∧ sp.toNatClampNeg + z.toNatClampNeg ≤ n0 ∧ dp.toNatClampNeg + z.toNatClampNeg ≤ n1 then some (wup w a (.inl (1, n1, .inr (.inl (va_cpy f g sp.toNatClampNeg dp.toNatClampNeg z.toNatClampNeg))))) else none
  | _, _ => none
abbrev famT : List Nat := [2, 8, 9, 10, 11]
def zA (t m : Nat) : En := match t with
  | 1 => .inl (1, m, .inr (.inl fun _ => 0))
  | t => .inl (t, m, .inl fun _ => 0)
def nwA (t lim : Nat) (w : Wd) (nx : Nat) (z : Int32) : Option Wd := if z < 0 ∨ lim < z.toNatClampNeg then none else some (wup w nx (zA t z.toNatClampNeg))
def nwQ (t lim : Nat) (w : Wd) (nx : Nat) (z : Int32) : Option Wd := if z < 0 ∨ lim < z.toNatClampNeg then none else some (wup w nx (.inl (t, z.toNatClampNeg, .inr (.inr (.inr (.inr fun _ => none))))))
def sR (t : Nat) (cs : List Nat) (w : Wd) (a : Nat) (i : Int32) (v : Nat) : Option Wd := match w a with
  | some (.inl (t', m, .inr (.inr (.inr (.inr f))))) => if t' = t ∧ ¬ (i < 0 ∨ m ≤ i.toNatClampNeg) then (ckC w cs v).bind fun _ => some (wup w a (.inl (t, m, .inr (.inr (.inr (.inr (va_up f i.toNatClampNeg (some v)))))))) else none
  | _ => none
/-- instanceof an array type, of a row that may not be there -/
def isA (t : Nat) (w : Wd) (x : Option Nat) : Option Int32 := match x with
  | none => some 0
  | some a => match w a with
    | some (.inl (t', _)) => if t' = 0 ∨ t' = 1 ∨ t' = 2 ∨ t' = 4 then some (if t' = t then 1 else 0) else none
    | _ => none
/-- checkcast to an array type of a row that is there -/
def asA (t : Nat) (w : Wd) (x : Option Nat) : Option Nat := match x with
  | none => none
  | some a => match w a with
    | some (.inl (t', _)) => if t' = t then some a else none
    | _ => none
def newX0 : List Value := [.null, .null, .int 0, .int 0, .int 0, .null, .null, .null, .null, .null, .int 0, .int 0, .null, .int 0, .null, .null, .null, .null, .null, .int 0, .int 0, .int 0, .null, .null]
def newX1 : List Value := [.int 0, .int 0, .int 0, .int 0, .int 0, .int 0, .int 0, .null, .null, .null, .null, .null, .null]
def newX2 : List Value := [.int 0, .null, .null, .int 0]
def newX3 : List Value := [.int 0, .int 0, .null]
def newX4 : List Value := [.null]
def newX5 : List Value := [.int 0, .null, .null, .null, .null, .null, .int 0, .int 0, .int 0, .int 0, .int 0, .long 0, .int 0, .int 0, .int 0, .int 0, .null, .null, .null, .null, .null, .null, .null, .null, .null, .null, .int 0, .null, .null, .null, .int 0, .int 0, .null, .null, .null, .int 0, .int 0, .int 0, .null, .null, .null, .long 0, .null, .int 0, .int 0, .int 0]
def newX6 : List Value := [.int 0, .null, .int 0, .int 0, .int 0, .null, .null]
def newX7 : List Value := [.null, .null, .null, .null, .null, .int 0, .int 0, .int 0]
def newX8 : List Value := [.int 0, .null, .null, .int 0]
def newX9 : List Value := [.int 0, .null, .null, .int 0]
def newX10 : List Value := [.int 0, .null, .null, .int 0]
def newX11 : List Value := [.int 0, .null, .null, .int 0]
def newX12 : List Value := [.long 0]
def txLen : List Nat := [5, 5, 4, 4, 5, 7, 2, 2, 4, 4, 7, 6, 5, 6, 5]
def txByt : List (List Int32) := [[114, 111, 111, 102, 115], [112, 108, 97, 105, 110], [108, 101, 102, 116], [115, 108, 111, 119], [98, 108, 105, 110, 100], [108, 101, 97, 114, 110, 101, 114], [116, 111], [97, 116], [102, 114, 111, 109], [111, 100, 100, 115], [116, 104, 114, 111, 119, 101, 114], [116, 104, 114, 111, 119, 115], [99, 114, 111, 115, 115], [108, 101, 116, 116, 101, 114], [103, 117, 115, 116, 115]]
/-- a Fault on its way: its address, the world, the next cell -/
abbrev Tw : Type := Nat × Wd × Nat
def thr {α β : Type} (x : α ⊕ Tw) (f : α → Option (β ⊕ Tw)) : Option (β ⊕ Tw) := match x with
  | .inl a => f a
  | .inr t => some (.inr t)
def rI (x : (Int32 × Wd × Nat) ⊕ Tw) : (Option Value × Wd × Nat) ⊕ Tw := match x with
  | .inl z => .inl (some (.int z.1), z.2.1, z.2.2)
  | .inr t => .inr t
def rA (x : (Nat × Wd × Nat) ⊕ Tw) : (Option Value × Wd × Nat) ⊕ Tw := match x with
  | .inl z => .inl (some (.ref z.1), z.2.1, z.2.2)
  | .inr t => .inr t
def rV (x : (Wd × Nat) ⊕ Tw) : (Option Value × Wd × Nat) ⊕ Tw := match x with
  | .inl z => .inl (none, z.1, z.2)
  | .inr t => .inr t
/-- a text constant's length, and its letters -/
def txL (i : Nat) : Int32 := Int32.ofNat (txLen.getD i 0)
def txAt (i : Nat) (z : Int32) : Option Int32 := if z < 0 ∨ txLen.getD i 0 ≤ z.toNatClampNeg then none else some ((((txByt.getD i []).getD z.toNatClampNeg 0) &&& 255).toUInt32 % 65536).toInt32
/-- the Fault's constructor: what the library lays there is nothing, kind and place are set -/
def fX7_init (_N : Nat) (w : Wd) (o : Nat) (v1 v2 : Int32) : Option Wd := match w o with
  | some (.inr (7, [_, _, _, _, e, f, _, _])) => some (wup w o (.inr (7, [.null, .null, .null, .null, e, f, .int v1, .int v2])))
  | _ => none
