/-! how many rows: completions -/
set_option maxRecDepth 100000
def frS (p i s h : Nat) : Bool := !(s.testBit ((i + h) % p))
def nxR (p i s h : Nat) : Nat := s ||| 1 <<< ((i + h) % p)
/-- in how many ways the last k of p throws can be told: heights lo i .. lo i + cn i - 1 at place i, s the beats taken, l what is left -/
def cg (p : Nat) (lo cn : Nat → Nat) : Nat → Nat → Int → Int
  | 0, s, l => if s = 2 ^ p - 1 ∧ l = 0 then 1 else 0
  | k + 1, s, l => sm (fun h => if frS p (p - (k + 1)) s (lo (p - (k + 1)) + h) = true ∧ ((lo (p - (k + 1)) + h : Nat) : Int) ≤ l then cg p lo cn k (nxR p (p - (k + 1)) s (lo (p - (k + 1)) + h)) (l - ((lo (p - (k + 1)) + h : Nat) : Int)) else 0) (cn (p - (k + 1)))
def cw (p top : Nat) : Nat → Nat → Int → Int := cg p (fun _ => 0) (fun _ => top + 1)
theorem cg_bd (p : Nat) (lo cn : Nat → Nat) (hc : ∀ i, cn i ≤ 10) : ∀ (k s : Nat) (l : Int), 0 ≤ cg p lo cn k s l ∧ cg p lo cn k s l ≤ 10 ^ k := by
  intro k
  induction k with
  | zero => intro s l; simp only [cg]; split <;> simp
  | succ k ih =>
    intro s l
    simp only [cg]
    have hb := sm_bd (fun h => if frS p (p - (k + 1)) s (lo (p - (k + 1)) + h) = true ∧ ((lo (p - (k + 1)) + h : Nat) : Int) ≤ l then cg p lo cn k (nxR p (p - (k + 1)) s (lo (p - (k + 1)) + h)) (l - ((lo (p - (k + 1)) + h : Nat) : Int)) else 0) (cn (p - (k + 1))) 0 (10 ^ k) (fun h _ => by
      have h2 := ih (nxR p (p - (k + 1)) s (lo (p - (k + 1)) + h)) (l - ((lo (p - (k + 1)) + h : Nat) : Int))
      have h3 : (0 : Int) ≤ 10 ^ k := Int.le_trans h2.1 h2.2
      split
      · exact h2
      · exact ⟨Int.le_refl _, h3⟩)
    refine ⟨by have := hb.1; omega, ?_⟩
    have h3 : (0 : Int) ≤ 10 ^ k := Int.le_trans (ih s l).1 (ih s l).2
    have h4 : ((cn (p - (k + 1)) : Nat) : Int) * 10 ^ k ≤ 10 * 10 ^ k := Int.mul_le_mul_of_nonneg_right (by have := hc (p - (k + 1)); omega) h3
    have h5 : (10 : Int) * 10 ^ k = 10 ^ (k + 1) := by rw [Int.pow_succ, Int.mul_comm]
    omega
theorem sm_cut (f : Nat → Int) (m n : Nat) (h : m ≤ n) (hf : ∀ i, m ≤ i → i < n → f i = 0) : sm f n = sm f m := by
  induction n with
  | zero => rw [show m = 0 by omega]
  | succ n ih =>
    by_cases hm : m = n + 1
    · rw [hm]
    · simp only [sm]
      rw [ih (by omega) (fun i h1 h2 => hf i h1 (by omega)), hf n (by omega) (by omega)]; omega
theorem popc_or : ∀ s : Fin 256, ∀ b : Fin 8, s.1.testBit b.1 = false → popc (s.1 ||| 1 <<< b.1) = popc s.1 + 1 ∧ (s.1 ||| 1 <<< b.1) > s.1 := by decide +kernel
theorem or_lt8 {p s b : Nat} (hs : s < 2 ^ p) (hb : b < p) : s ||| 1 <<< b < 2 ^ p := by
  apply Nat.or_lt_two_pow hs
  rw [Nat.shiftLeft_eq, Nat.one_mul]
  exact Nat.pow_lt_pow_right (by decide) hb
theorem popc_le : ∀ p : Fin 9, ∀ s : Fin 256, s.1 < 2 ^ p.1 → popc s.1 ≤ p.1 := by decide +kernel
theorem popc_lt8 {p s : Nat} (hp : p ≤ 8) (hs : s < 2 ^ p) (hf : s ≠ 2 ^ p - 1) : popc s < p := by
  have h256 : s < 256 := Nat.lt_of_lt_of_le hs (by have := Nat.pow_le_pow_right (show 2 > 0 by decide) hp; omega)
  have h1 := popc_full ⟨p, by omega⟩ ⟨s, h256⟩ hs
  simp only at h1
  have h2 : popc s ≤ p := popc_le ⟨p, by omega⟩ ⟨s, h256⟩ hs
  have h3 : popc s ≠ p := fun e => hf (h1.1 e)
  omega
def sp_rows (p b top : Int) : Int := if (1 ≤ p ∧ p ≤ 8) ∧ (0 ≤ b ∧ b ≤ 9) ∧ 0 ≤ top ∧ top ≤ 9 then cw p.toNat top.toNat p.toNat 0 (p * b) else -2
/-- the least height that goes on, at place i -/
def gh (p top i : Nat) (q : Nat × Int) : Nat := (fi (fun h => frS p i q.1 h && decide ((h : Int) ≤ q.2) && decide (cw p top (p - (i + 1)) (nxR p i q.1 h) (q.2 - h) ≠ 0)) (top + 1)).getD 0
def gs (p top : Nat) (B : Int) : Nat → Nat × Int
  | 0 => (0, B)
  | i + 1 => (nxR p i (gs p top B i).1 (gh p top i (gs p top B i)), (gs p top B i).2 - gh p top i (gs p top B i))
def sp_least (p b top n : Int) : Int := if (1 ≤ p ∧ p ≤ 8) ∧ (0 ≤ b ∧ b ≤ 9) ∧ 0 ≤ top ∧ top ≤ 9 then if 0 ≤ n ∧ n ≤ p - 1 then if cw p.toNat top.toNat p.toNat 0 (p * b) = 0 then -1 else gh p.toNat top.toNat n.toNat (gs p.toNat top.toNat (p * b) n.toNat) else -2 else -2
/-- a step that goes on is there -/
theorem gh_ok {p top i : Nat} (hi : i < p) {q : Nat × Int} (h : cw p top (p - i) q.1 q.2 ≠ 0) : gh p top i q ≤ top ∧ frS p i q.1 (gh p top i q) = true ∧ ((gh p top i q : Nat) : Int) ≤ q.2 ∧ cw p top (p - (i + 1)) (nxR p i q.1 (gh p top i q)) (q.2 - gh p top i q) ≠ 0 ∧ fi (fun h => frS p i q.1 h && decide ((h : Int) ≤ q.2) && decide (cw p top (p - (i + 1)) (nxR p i q.1 h) (q.2 - h) ≠ 0)) (top + 1) = some (gh p top i q) := by
  unfold gh
  cases hf : fi (fun h => frS p i q.1 h && decide ((h : Int) ≤ q.2) && decide (cw p top (p - (i + 1)) (nxR p i q.1 h) (q.2 - h) ≠ 0)) (top + 1) with
  | some y =>
    have ⟨a, b, _⟩ := (fi_some _ _ _).1 hf
    simp only [Bool.and_eq_true, decide_eq_true_iff] at b
    exact ⟨by simp only [Option.getD_some]; omega, b.1.1, b.1.2, b.2, rfl⟩
  | none =>
    exfalso
    apply h
    have hn := (fi_none _ _).1 hf
    rw [show p - i = (p - (i + 1)) + 1 by omega]
    unfold cw
    simp only [cg]
    rw [show p - (p - (i + 1) + 1) = i by omega]
    refine Eq.trans (sm_congr (g := fun _ => 0) ?_) (sm_zero _)
    intro y hy
    have := hn y hy
    simp only [Bool.and_eq_true, decide_eq_true_iff] at this
    simp only [Nat.zero_add]
    by_cases hc : frS p i q.1 y = true ∧ (y : Int) ≤ q.2
    · rw [if_pos hc]
      exact Classical.byContradiction (fun hne => this ⟨hc, hne⟩)
    · rw [if_neg hc]
theorem gs_ok {p top : Nat} {B : Int} (hB : 0 ≤ B) (h : cw p top p 0 B ≠ 0) : ∀ i, i ≤ p → cw p top (p - i) (gs p top B i).1 (gs p top B i).2 ≠ 0 ∧ (gs p top B i).1 < 2 ^ p ∧ (0 ≤ (gs p top B i).2 ∧ (gs p top B i).2 ≤ B) := by
  intro i
  induction i with
  | zero => intro _; exact ⟨h, Nat.two_pow_pos p, hB, Int.le_refl B⟩
  | succ i ih =>
    intro hi
    have ⟨a, b, c⟩ := ih (by omega)
    have ⟨d1, d2, d3, d4, _⟩ := gh_ok (by omega) a
    refine ⟨d4, or_lt8 b (Nat.mod_lt _ (by omega)), ?_⟩
    simp only [gs]
    omega
