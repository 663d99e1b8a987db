/-! backwards: the city that is laid -/
set_option maxRecDepth 100000
def bH (C : Cy) (P r i : Nat) : Nat := (bwM C r ((P : Int) - i)).1.toNat
def bT (C : Cy) (P r i : Nat) : Nat := (bwM C r ((P : Int) - i)).2.toNat
def bkR (C : Cy) (P : Nat) : Nat → Cy
  | 0 => C
  | r + 1 => cRow (bkR C P r) r P (bH C P r) (bT C P r)
theorem bwM_bd {C : Cy} {r : Nat} (hr : r < cR C) (b : Int) : (0 ≤ (bwM C r b).1 ∧ (bwM C r b).1 ≤ 9) ∧ (0 ≤ (bwM C r b).2 ∧ (bwM C r b).2 < cR C) ∧ ((bwM C r b).1 = 0 → (bwM C r b).2 = r) := by
  unfold bwM
  cases hl : ldM C r b with
  | some p =>
    obtain ⟨q, h⟩ := p
    have ⟨h1, h2, _⟩ := fi2_some (fun q h => lnd C r b q h) (cR C) 9 q h hl
    simp only
    omega
  | none =>
    simp only
    exact ⟨⟨by decide, by decide⟩, ⟨by omega, by omega⟩, fun _ => trivial⟩
theorem bk_bd {C : Cy} {r : Nat} (hr : r < cR C) (P i : Nat) : bH C P r i ≤ 9 ∧ bT C P r i < cR C ∧ (bH C P r i = 0 → bT C P r i = r) := by
  have h := bwM_bd hr ((P : Int) - i)
  unfold bH bT
  omega
theorem bkR_R (C : Cy) (P : Nat) : ∀ r, cR (bkR C P r) = cR C := by
  intro r
  induction r with
  | zero => rfl
  | succ r ih => exact ih
theorem bkR_Ok {C : Cy} (ho : OkC C) {P : Nat} (hP : 1 ≤ P ∧ P ≤ 8) : ∀ r, r ≤ cR C → OkC (bkR C P r) := by
  intro r
  induction r with
  | zero => intro _; exact ho
  | succ r ih =>
    intro hr
    refine cRow_Ok (ih (by omega)) hP (fun i _ => ?_)
    rw [bkR_R]
    exact bk_bd (by omega) P i
theorem bwF_eq {C : Cy} (hk : kp C = true) (ho : OkC C) {r : Nat} (hr : r < cR C) (P i : Nat) : bwF C P r i = J (bH C P r i) ∧ bwT C P r i = J (bT C P r i) := by
  have h := bwM_bd hr ((P : Int) - i)
  unfold bwF bwT bH bT
  rw [bwQ_eq hk ho]
  exact ⟨by congr 1; omega, by congr 1; omega⟩
