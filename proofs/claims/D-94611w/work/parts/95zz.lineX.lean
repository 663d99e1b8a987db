/-! the component: a line -/
set_option maxRecDepth 100000
def cdG (ad : Nat → Nat) (N : Nat) (w : Wd) (nx : Nat) (o : Nat) : Option ((Wd × Nat) ⊕ Tw) :=
  (gR w [6] o 1).bind fun x53 =>
  (gI w [1] x53 6).bind fun x54 =>
  (fX6_takes_2 ad N w nx o (14) x54 (2 : Int32)).bind fun x55 =>
  thr x55 fun y56 =>
  if y56.1 = 0 then
    (fX6_wrong ad N y56.2.1 y56.2.2 o (1 : Int32)).bind fun x57 =>
    (ckC x57.2.1 [7] x57.1).bind fun c58 =>
    some (.inr (x57.1, x57.2.1, x57.2.2))
  else
    (fX6_gusts ad N y56.2.1 y56.2.2 o).bind fun w59 =>
    thr w59 fun y60 =>
    some (.inl (y60.1, y60.2))
def cdL (ad : Nat → Nat) (N : Nat) (w : Wd) (nx : Nat) (o : Nat) : Option ((Wd × Nat) ⊕ Tw) :=
  (gR w [6] o 1).bind fun x7 =>
  (gI w [1] x7 2).bind fun x8 =>
  if x8 = (8 : Int32) then
    (fX6_takes_2 ad N w nx o (13) (1 : Int32) (3 : Int32)).bind fun x21 =>
    thr x21 fun y22 =>
    if y22.1 = 0 then
      cdG ad N y22.2.1 y22.2.2 o
    else
      (fX6_letter ad N y22.2.1 y22.2.2 o).bind fun w31 =>
      thr w31 fun y32 =>
      some (.inl (y32.1, y32.2))
  else
    (fX6_takes_2 ad N w nx o (13) (0 : Int32) (3 : Int32)).bind fun x21 =>
    thr x21 fun y22 =>
    if y22.1 = 0 then
      cdG ad N y22.2.1 y22.2.2 o
    else
      (fX6_letter ad N y22.2.1 y22.2.2 o).bind fun w31 =>
      thr w31 fun y32 =>
      some (.inl (y32.1, y32.2))
def cdC (ad : Nat → Nat) (N : Nat) (w : Wd) (nx : Nat) (o : Nat) : Option ((Wd × Nat) ⊕ Tw) :=
  (gR w [6] o 1).bind fun x3 =>
  (gI w [1] x3 1).bind fun x4 =>
  if x4 = (6 : Int32) then
    (fX6_takes_2 ad N w nx o (12) (1 : Int32) (3 : Int32)).bind fun x35 =>
    thr x35 fun y36 =>
    if y36.1 = 0 then
      cdL ad N y36.2.1 y36.2.2 o
    else
      (fX6_cross ad N y36.2.1 y36.2.2 o).bind fun w63 =>
      thr w63 fun y64 =>
      some (.inl (y64.1, y64.2))
  else
    (fX6_takes_2 ad N w nx o (12) (0 : Int32) (3 : Int32)).bind fun x35 =>
    thr x35 fun y36 =>
    if y36.1 = 0 then
      cdL ad N y36.2.1 y36.2.2 o
    else
      (fX6_cross ad N y36.2.1 y36.2.2 o).bind fun w63 =>
      thr w63 fun y64 =>
      some (.inl (y64.1, y64.2))
theorem line_eq (ad : Nat → Nat) (N : Nat) (w : Wd) (nx : Nat) (o : Nat) : fX6_line ad N w nx o = (fX6_takes ad N w o (10)).bind fun x1 =>
  if x1.1 = 0 then
    (fX6_takes ad N x1.2 o (11)).bind fun x2 =>
    if x2.1 = 0 then
      cdC ad N x2.2 nx o
    else
      (fX6_row ad N x2.2 nx o).bind fun w65 =>
      thr w65 fun y66 =>
      some (.inl (y66.1, y66.2))
  else
    (fX6_thrower ad N x1.2 nx o).bind fun w67 =>
    thr w67 fun y68 =>
    some (.inl (y68.1, y68.2)) := rfl
/-- a line read: the city, whether gusts were told -/
def LnP (ad : Nat → Nat) (T : Tx) (o a : Nat) (V : Wd) (n : Nat) (s : Cy × Bool) (q : Nat) (W : Wd) (n' : Nat) : Prop := (∃ th, PcX ad T o a V s.1 s.2 th q W n') ∧ n ≤ n'
section
variable {N o a n q : Nat} {V W : Wd} {T : Tx} {ad : Nat → Nat} {D : Cy} {g : Bool} {th : Nat → Nat}
theorem CxG_wi {P : Cy → Nat → Wd → Nat → Prop} {r : Pr Cy} {x : Option ((Wd × Nat) ⊕ Tw)} (b : Bool) (h : CxG P V a r x) (hP : ∀ D q W n', P D q W n' → LnP ad T o a V n (D, b) q W n') : CxG (LnP ad T o a V n) V a (wiG r b) (x.bind fun w => thr w fun y => some (.inl (y.1, y.2))) := by
  unfold CxG at h
  cases r with
  | inr e =>
    obtain ⟨k, p⟩ := e
    obtain ⟨W', b', n', e1, h1, h2, h3⟩ := h
    exact ⟨W', b', n', by rw [e1]; rfl, h1, h2, h3⟩
  | inl y =>
    obtain ⟨y, q'⟩ := y
    obtain ⟨W', n', e1, h1⟩ := h
    exact ⟨W', n', by rw [e1]; rfl, hP _ _ _ _ h1⟩
theorem CxG_f (h : PcX ad T o a V D g th q W n) (k : Nat) : CxG (LnP ad T o a V n) V a (.inr (k, q)) ((fX6_wrong ad N W n a (J (k : Int))).bind fun x => (ckC x.2.1 [7] x.1).bind fun _ => (some (.inr (x.1, x.2.1, x.2.2)) : Option ((Wd × Nat) ⊕ Tw))) := by
  have h8 := h.2.2.2.2.2.1
  obtain ⟨W', e, h1, h2⟩ := X6_thr (N := N) (β := Wd × Nat) h.1 (show a < n by omega) k
  exact ⟨W', n, n + 1, e, h1, fun z hz => (h2 z (by omega) (by omega)).trans (h.2.2.2.2.2.2 z hz), by omega⟩
/-- a word that may be full: what comes behind it -/
theorem CxG_t2 (had : ∀ i j, i < 5 → j < 5 → ad i = ad j → i = j) (hT : TpX V o T) (ho : o + 8 < a) (hN : 1000000 ≤ N) (h : PcX ad T o a V D g th q W n) {i k : Nat} (hi : i < 15) (P : Prop) [Decidable P] {rt rf : Pr (Cy × Bool)} {F : Int32 × Wd × Nat → Option ((Wd × Nat) ⊕ Tw)}
    (ht : isW T i q = true → ¬ P → ∀ W', PcX ad T o a V D g th (nx T q) W' n → CxG (LnP ad T o a V n) V a rt (F (J 1, W', n)))
    (hf : ∀ W', PcX ad T o a V D g th q W' n → CxG (LnP ad T o a V n) V a rf (F (J 0, W', n))) :
    CxG (LnP ad T o a V n) V a (if isW T i q = true then (if P then .inr (k, q) else rt) else rf) ((fX6_takes_2 ad N W n a i (Bp P) (J (k : Int))).bind fun x => thr x F) := by
  have h8 := h.2.2.2.2.2.1
  have han : a < n := by omega
  have ha : a ≠ o ∧ a ≠ o + 8 := by omega
  have t1 : ¬ J 1 = (0 : Int32) := by decide
  have t0 : J 0 = (0 : Int32) := rfl
  have hT' := PcX_T h hT ho
  obtain ⟨W', e1, h1, o1⟩ := X6_takes (N := N) had hT' ha hN h.1 hi n
  unfold fX6_takes_2
  rw [X6_is had hT' ha hN h.1 hi, Option.bind_some]
  by_cases hw : isW T i q = true
  · rw [if_pos hw] at h1 ⊢
    rw [Bp_t hw] at e1 ⊢
    rw [if_neg t1]
    by_cases hP : P
    · rw [if_pos hP, Bp_t hP, if_neg t1]
      obtain ⟨W2, e2, h2, o2⟩ := X6_thr (N := N) (β := Int32 × Wd × Nat) h.1 han k
      exact ⟨W2, n, n + 1, by rw [e2]; rfl, h2, fun z hz => (o2 z (by omega) (by omega)).trans (h.2.2.2.2.2.2 z hz), by omega⟩
    · rw [if_neg hP, Bp_f hP, if_pos t0, e1, Option.bind_some, if_pos (show (J 1, W').fst = (0 : Int32) ∨ (J 1, W').fst = (1 : Int32) from Or.inr rfl), Option.bind_some]
      exact ht hw hP W' (PcX_on h h1 o1)
  · rw [if_neg hw] at h1 ⊢
    rw [Bp_f hw] at e1 ⊢
    rw [if_pos t0, e1, Option.bind_some, if_pos (show (J 0, W').fst = (0 : Int32) ∨ (J 0, W').fst = (1 : Int32) from Or.inl rfl), Option.bind_some]
    exact hf W' (PcX_on h h1 o1)
theorem X6_cdG (had : ∀ i j, i < 5 → j < 5 → ad i = ad j → i = j) (hT : TpX V o T) (ho : o + 8 < a) (hN : 1000000 ≤ N) (h : PcX ad T o a V D g th q W n) : CxG (LnP ad T o a V n) V a (if isW T 14 q = true then (if g = true then .inr (2, q) else wiG (aGusts T D (nx T q)) true) else .inr (1, q)) (cdG ad N W n a) := by
  unfold cdG
  rw [gu_1 h, Option.bind_some, PcX_i h (k := 6) rfl, Option.bind_some]
  refine CxG_t2 had hT ho hN h (i := 14) (k := 2) (by decide) (g = true) (fun _ _ W' hp => ?_) (fun W' hp => ?_)
  · simp only
    rw [if_neg (show ¬ J 1 = (0 : Int32) by decide)]
    exact CxG_wi true (X6_gusts (N := N) had hT ho hN hp) (fun D q W n' hh => ⟨⟨th, hh.1⟩, hh.2⟩)
  · simp only
    rw [if_pos (show J 0 = (0 : Int32) from rfl)]
    exact CxG_f (N := N) hp 1
theorem X6_cdL (had : ∀ i j, i < 5 → j < 5 → ad i = ad j → i = j) (hT : TpX V o T) (ho : o + 8 < a) (hN : 1000000 ≤ N) (h : PcX ad T o a V D g th q W n) : CxG (LnP ad T o a V n) V a (if isW T 13 q = true then (if cN D = 8 then .inr (3, q) else wiG (aLetter T D (nx T q)) g) else if isW T 14 q = true then (if g = true then .inr (2, q) else wiG (aGusts T D (nx T q)) true) else .inr (1, q)) (cdL ad N W n a) := by
  have hN9 : cN D ≤ 8 := by unfold cN; omega
  have main := CxG_t2 (N := N) (k := 3) had hT ho hN h (i := 13) (by decide) (cN D = 8) (rt := wiG (aLetter T D (nx T q)) g) (rf := if isW T 14 q = true then (if g = true then .inr (2, q) else wiG (aGusts T D (nx T q)) true) else .inr (1, q)) (F := fun y22 => if y22.1 = 0 then cdG ad N y22.2.1 y22.2.2 a else (fX6_letter ad N y22.2.1 y22.2.2 a).bind fun w31 => thr w31 fun y32 => some (.inl (y32.1, y32.2))) (fun _ hP W' hp => ?_) (fun W' hp => ?_)
  · unfold cdL
    rw [gu_1 h, Option.bind_some, PcX_i h (k := 2) rfl, Option.bind_some]
    by_cases h8 : cN D = 8
    · rw [if_pos (show J (cN D : Int) = (8 : Int32) by rw [h8]; rfl)]
      rw [Bp_t h8] at main
      exact main
    · rw [if_neg (show ¬ J (cN D : Int) = (8 : Int32) by rw [show (8 : Int32) = J 8 from rfl, J_eq (by omega)]; omega)]
      rw [Bp_f h8] at main
      exact main
  · simp only
    rw [if_neg (show ¬ J 1 = (0 : Int32) by decide)]
    exact CxG_wi g (X6_letter (N := N) had hT ho hN hp (by omega)) (fun D q W n' hh => ⟨⟨th, hh.1⟩, hh.2⟩)
  · simp only
    rw [if_pos (show J 0 = (0 : Int32) from rfl)]
    exact X6_cdG had hT ho hN hp
theorem X6_cdC (had : ∀ i j, i < 5 → j < 5 → ad i = ad j → i = j) (hT : TpX V o T) (ho : o + 8 < a) (hN : 1000000 ≤ N) (h : PcX ad T o a V D g th q W n) : CxG (LnP ad T o a V n) V a (if isW T 12 q = true then (if cX D = 6 then .inr (3, q) else wiG (aCross T D (nx T q)) g) else if isW T 13 q = true then (if cN D = 8 then .inr (3, q) else wiG (aLetter T D (nx T q)) g) else if isW T 14 q = true then (if g = true then .inr (2, q) else wiG (aGusts T D (nx T q)) true) else .inr (1, q)) (cdC ad N W n a) := by
  have hN9 : cX D ≤ 6 := by unfold cX; omega
  have main := CxG_t2 (N := N) (k := 3) had hT ho hN h (i := 12) (by decide) (cX D = 6) (rt := wiG (aCross T D (nx T q)) g) (rf := if isW T 13 q = true then (if cN D = 8 then .inr (3, q) else wiG (aLetter T D (nx T q)) g) else if isW T 14 q = true then (if g = true then .inr (2, q) else wiG (aGusts T D (nx T q)) true) else .inr (1, q)) (F := fun y22 => if y22.1 = 0 then cdL ad N y22.2.1 y22.2.2 a else (fX6_cross ad N y22.2.1 y22.2.2 a).bind fun w31 => thr w31 fun y32 => some (.inl (y32.1, y32.2))) (fun _ hP W' hp => ?_) (fun W' hp => ?_)
  · unfold cdC
    rw [gu_1 h, Option.bind_some, PcX_i h (k := 1) rfl, Option.bind_some]
    by_cases h8 : cX D = 6
    · rw [if_pos (show J (cX D : Int) = (6 : Int32) by rw [h8]; rfl)]
      rw [Bp_t h8] at main
      exact main
    · rw [if_neg (show ¬ J (cX D : Int) = (6 : Int32) by rw [show (6 : Int32) = J 6 from rfl, J_eq (by omega)]; omega)]
      rw [Bp_f h8] at main
      exact main
  · simp only
    rw [if_neg (show ¬ J 1 = (0 : Int32) by decide)]
    exact CxG_wi g (X6_cross (N := N) had hT ho hN hp (by omega)) (fun D q W n' hh => ⟨⟨th, hh.1⟩, hh.2⟩)
  · simp only
    rw [if_pos (show J 0 = (0 : Int32) from rfl)]
    exact X6_cdL had hT ho hN hp
theorem X6_line (had : ∀ i j, i < 5 → j < 5 → ad i = ad j → i = j) (hT : TpX V o T) (ho : o + 8 < a) (hN : 1000000 ≤ N) (h : PcX ad T o a V D g th q W n) : CxG (LnP ad T o a V n) V a (aLine T D g q) (fX6_line ad N W n a) := by
  have h8 := h.2.2.2.2.2.1
  have han : a < n := by omega
  have ha : a ≠ o ∧ a ≠ o + 8 := by omega
  have t1 : ¬ J 1 = (0 : Int32) := by decide
  have t0 : J 0 = (0 : Int32) := rfl
  rw [line_eq]
  unfold aLine
  obtain ⟨W1, e1, h1, o1⟩ := X6_takes (N := N) had (PcX_T h hT ho) ha hN h.1 (i := 10) (by decide) n
  rw [e1, Option.bind_some]
  have p1 := PcX_on h h1 o1
  by_cases w1 : isW T 10 q = true
  · rw [if_pos w1] at p1 ⊢
    rw [Bp_t w1]
    simp only
    rw [if_neg t1]
    exact CxG_wi g (X6_thrower (N := N) had hT ho hN p1) (fun D q W n' hh => hh)
  rw [if_neg w1] at p1 ⊢
  rw [Bp_f w1]
  simp only
  rw [if_pos t0]
  obtain ⟨W2, e2, h2, o2⟩ := X6_takes (N := N) had (PcX_T p1 hT ho) ha hN p1.1 (i := 11) (by decide) n
  rw [e2, Option.bind_some]
  have p2 := PcX_on p1 h2 o2
  by_cases w2 : isW T 11 q = true
  · rw [if_pos w2] at p2 ⊢
    rw [Bp_t w2]
    simp only
    rw [if_neg t1]
    exact CxG_wi g (X6_row (N := N) had hT ho hN p2) (fun D q W n' hh => ⟨⟨th, hh.1⟩, hh.2⟩)
  rw [if_neg w2] at p2 ⊢
  rw [Bp_f w2]
  simp only
  rw [if_pos t0]
  exact X6_cdC had hT ho hN p2
end
