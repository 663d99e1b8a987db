/-! balls: one throw behind the other -/
set_option maxRecDepth 100000
def bgo (C : Cy) (p : Nat × Int) : Nat × Int := (tt C p.1 p.2, p.2 + hh C p.1 p.2)
def bat (C : Cy) (p : Nat × Int) : Nat → Nat × Int
  | 0 => p
  | n + 1 => bgo C (bat C p n)
def Lv (C : Cy) (p : Nat × Int) : Prop := p.1 < cR C ∧ 0 < hh C p.1 p.2
theorem Lv_go {C : Cy} (hk : kp C = true) (ho : OkC C) {p : Nat × Int} (h : Lv C p) : Lv C (bgo C p) := ⟨tt_lt ho h.1 _, land hk ho h.1 h.2⟩
theorem Lv_at {C : Cy} (hk : kp C = true) (ho : OkC C) {p : Nat × Int} (h : Lv C p) (n : Nat) : Lv C (bat C p n) := by
  induction n with
  | zero => exact h
  | succ n ih => exact Lv_go hk ho ih
theorem bat_hi (C : Cy) (p : Nat × Int) (n : Nat) : p.2 ≤ (bat C p n).2 ∧ (bat C p n).2 ≤ p.2 + 9 * n := by
  induction n with
  | zero => simp [bat]
  | succ n ih =>
    have := hh_le C (bat C p n).1 (bat C p n).2
    simp only [bat, bgo]; omega
theorem bat_lo {C : Cy} (hk : kp C = true) (ho : OkC C) {p : Nat × Int} (h : Lv C p) (n : Nat) : p.2 + n ≤ (bat C p n).2 := by
  induction n with
  | zero => simp [bat]
  | succ n ih =>
    have := (Lv_at hk ho h n).2
    simp only [bat, bgo]; omega
theorem bat_add (C : Cy) (p : Nat × Int) (m n : Nat) : bat C (bat C p m) n = bat C p (m + n) := by
  induction n with
  | zero => rfl
  | succ n ih => show bgo C (bat C (bat C p m) n) = bgo C (bat C p (m + n)); rw [ih]
/-- alike but for whole rounds -/
abbrev Al (C : Cy) (p q : Nat × Int) : Prop := p.1 = q.1 ∧ p.2 % (rnd C : Int) = q.2 % (rnd C : Int)
theorem Al_r (C : Cy) (p : Nat × Int) : Al C p p := ⟨rfl, rfl⟩
theorem Al_s {C : Cy} {p q : Nat × Int} (h : Al C p q) : Al C q p := ⟨h.1.symm, h.2.symm⟩
theorem Al_t {C : Cy} {p q r : Nat × Int} (h : Al C p q) (h' : Al C q r) : Al C p r := ⟨h.1.trans h'.1, h.2.trans h'.2⟩
theorem Al_hh {C : Cy} {p q : Nat × Int} (h : Al C p q) (hp : p.1 < cR C) : hh C p.1 p.2 = hh C q.1 q.2 ∧ tt C p.1 p.2 = tt C q.1 q.2 := by
  rw [← hh_mod C hp p.2, ← tt_mod C hp p.2, h.2, h.1, hh_mod C (h.1 ▸ hp), tt_mod C (h.1 ▸ hp)]
  exact ⟨rfl, rfl⟩
theorem Al_go {C : Cy} {p q : Nat × Int} (h : Al C p q) (hp : p.1 < cR C) : Al C (bgo C p) (bgo C q) := by
  have e := Al_hh h hp
  refine ⟨e.2, ?_⟩
  show (p.2 + hh C p.1 p.2) % (rnd C : Int) = (q.2 + hh C q.1 q.2) % (rnd C : Int)
  rw [e.1, Int.add_emod, h.2, ← Int.add_emod]
theorem Al_lv {C : Cy} {p q : Nat × Int} (h : Al C p q) (hp : Lv C p) : Lv C q := ⟨h.1 ▸ hp.1, (Al_hh h hp.1).1 ▸ hp.2⟩
theorem Al_at {C : Cy} (hk : kp C = true) (ho : OkC C) {p q : Nat × Int} (h : Al C p q) (hp : Lv C p) (n : Nat) : Al C (bat C p n) (bat C q n) := by
  induction n with
  | zero => exact h
  | succ n ih => exact Al_go ih (Lv_at hk ho hp n).1
theorem Al_inj {C : Cy} (hk : kp C = true) (ho : OkC C) {p q : Nat × Int} (hp : Lv C p) (hq : Lv C q) (h : Al C (bgo C p) (bgo C q)) : Al C p q := by
  have h1 : tt C p.1 p.2 = tt C q.1 q.2 := h.1
  have h2 : (p.2 + hh C p.1 p.2) % (rnd C : Int) = (q.2 + hh C q.1 q.2) % (rnd C : Int) := h.2
  have h3 := Int.emod_emod_of_dvd (p.2 + hh C p.1 p.2 - (q.2 + hh C q.1 q.2)) (Int.dvd_refl (rnd C : Int))
  have h4 : (p.2 + hh C p.1 p.2 - (q.2 + hh C q.1 q.2)) % (rnd C : Int) = 0 := Int.emod_eq_emod_iff_emod_sub_eq_zero.1 h2
  have ⟨k, hk'⟩ := Int.dvd_of_emod_eq_zero h4
  have e1 := hh_per C hq.1 q.2 k
  have e2 := tt_per C hq.1 q.2 k
  have := inj hk ho hp.1 hq.1 (b := p.2) (c := q.2 + (rnd C : Int) * k) hp.2 (by rw [e1]; exact hq.2) (by rw [e2]; exact h1) (by rw [e1]; omega)
  refine ⟨this.1, ?_⟩
  rw [this.2, Int.add_mul_emod_self_left]
theorem Al_back {C : Cy} (hk : kp C = true) (ho : OkC C) {p q : Nat × Int} (hp : Lv C p) (hq : Lv C q) (n : Nat) (h : Al C (bat C p n) (bat C q n)) : Al C p q := by
  induction n with
  | zero => exact h
  | succ n ih => exact ih (Al_inj hk ho (Lv_at hk ho hp n) (Lv_at hk ho hq n) h)
theorem pigeon : ∀ (m : Nat) (f : Nat → Nat), (∀ i, i ≤ m → f i < m) → ∃ i j, i < j ∧ j ≤ m ∧ f i = f j := by
  intro m
  induction m with
  | zero => intro f h; exact absurd (h 0 (Nat.le_refl 0)) (Nat.not_lt_zero _)
  | succ m ih =>
    intro f h
    by_cases hv : ∃ i, i ≤ m ∧ f i = f (m + 1)
    · have ⟨i, hi, e⟩ := hv
      exact ⟨i, m + 1, by omega, by omega, e⟩
    · have hv' : ∀ i, i ≤ m → f i ≠ f (m + 1) := fun i hi e => hv ⟨i, hi, e⟩
      have hl := h (m + 1) (Nat.le_refl _)
      have ⟨i, j, hij, hj, e⟩ := ih (fun i => if f i = m then f (m + 1) else f i) (fun i hi => by
        have h1 := h i (by omega)
        have h2 := hv' i hi
        split <;> omega)
      refine ⟨i, j, hij, by omega, ?_⟩
      have h1 := hv' i (by omega)
      have h2 := hv' j hj
      split at e <;> split at e <;> omega
def cde (C : Cy) (p : Nat × Int) : Nat := p.1 * rnd C + (p.2 % (rnd C : Int)).toNat
theorem cde_lt {C : Cy} {p : Nat × Int} (h : p.1 < cR C) : cde C p < cR C * rnd C := by
  have hp := rnd_bd C
  have h1 := Int.emod_nonneg p.2 (show (rnd C : Int) ≠ 0 by omega)
  have h2 := Int.emod_lt_of_pos p.2 (show (0 : Int) < (rnd C : Int) by omega)
  have h3 : (p.1 + 1) * rnd C ≤ cR C * rnd C := Nat.mul_le_mul_right _ h
  rw [Nat.add_mul] at h3
  unfold cde; omega
theorem cde_eq {C : Cy} {p q : Nat × Int} (h : cde C p = cde C q) : Al C p q := by
  have hp := rnd_bd C
  have h1 := Int.emod_nonneg p.2 (show (rnd C : Int) ≠ 0 by omega)
  have h2 := Int.emod_lt_of_pos p.2 (show (0 : Int) < (rnd C : Int) by omega)
  have h3 := Int.emod_nonneg q.2 (show (rnd C : Int) ≠ 0 by omega)
  have h4 := Int.emod_lt_of_pos q.2 (show (0 : Int) < (rnd C : Int) by omega)
  unfold cde at h
  have e1 : p.1 = q.1 := by
    have a : (p.1 * rnd C + (p.2 % (rnd C : Int)).toNat) / rnd C = p.1 := by
      rw [Nat.mul_comm, Nat.mul_add_div (by omega), Nat.div_eq_of_lt (by omega), Nat.add_zero]
    have b : (q.1 * rnd C + (q.2 % (rnd C : Int)).toNat) / rnd C = q.1 := by
      rw [Nat.mul_comm, Nat.mul_add_div (by omega), Nat.div_eq_of_lt (by omega), Nat.add_zero]
    rw [← a, ← b, h]
  rw [e1] at h
  exact ⟨e1, by omega⟩
theorem cde_al {C : Cy} {p q : Nat × Int} (h : Al C p q) : cde C p = cde C q := by unfold cde; rw [h.1, h.2]
/-- a ball comes back -/
theorem comes {C : Cy} (hk : kp C = true) (ho : OkC C) {p : Nat × Int} (hp : Lv C p) : ∃ L, L < cR C * rnd C ∧ Al C (bat C p (L + 1)) p := by
  have ⟨i, j, hij, hj, e⟩ := pigeon (cR C * rnd C) (fun i => cde C (bat C p i)) (fun i _ => cde_lt (Lv_at hk ho hp i).1)
  refine ⟨j - i - 1, by omega, ?_⟩
  have h1 := cde_eq e
  have h2 : bat C p j = bat C (bat C p (j - i)) i := by rw [bat_add, show j - i + i = j by omega]
  rw [h2] at h1
  have := Al_back hk ho hp (Lv_at hk ho hp (j - i)) i h1
  rw [show j - i - 1 + 1 = j - i by omega]
  exact Al_s this
theorem per_at {C : Cy} (hk : kp C = true) (ho : OkC C) {p : Nat × Int} (hp : Lv C p) {L : Nat} (hL : Al C (bat C p L) p) (n m : Nat) : Al C (bat C p (L * m + n)) (bat C p n) := by
  induction m with
  | zero => rw [Nat.mul_zero, Nat.zero_add]; exact Al_r C _
  | succ m ih =>
    have e : bat C p (L * (m + 1) + n) = bat C (bat C p L) (L * m + n) := by rw [bat_add]; congr 1; rw [Nat.mul_succ]; omega
    rw [e]
    exact Al_t (Al_at hk ho hL (Lv_at hk ho hp L) _) ih
/-- what is met at all is met before it comes back -/
theorem met_early {C : Cy} (hk : kp C = true) (ho : OkC C) {p : Nat × Int} (hp : Lv C p) {L : Nat} (hL : Al C (bat C p (L + 1)) p) (j : Nat) : (bat C p (j + 1)).1 = (bat C p (j % (L + 1) + 1)).1 := by
  have := (per_at hk ho hp hL (j % (L + 1) + 1) (j / (L + 1))).1
  rw [← this]
  congr 2
  have := Nat.div_add_mod j (L + 1)
  omega
def atB (C : Cy) (v b : Int) : Bool := kp C && decide (0 < hh C v.toNat b)
def sp_ball (C : Cy) (v b n x : Int) : Int := if 0 ≤ v ∧ v < cR C then if 0 ≤ b ∧ b ≤ 99999 then if 0 ≤ n ∧ n ≤ 200 then if 0 ≤ x ∧ x ≤ 1 then if atB C v b = true then if x = 0 then (bat C (v.toNat, b) n.toNat).1 else (bat C (v.toNat, b) n.toNat).2 else -1 else -2 else -2 else -2 else -2
def til (C : Cy) (p : Nat × Int) (l : Int) : Nat := (fi (fun i => decide (l ≤ (bat C p i).2)) 110000).getD 0
def sp_same (C : Cy) (v b u l : Int) : Int := if 0 ≤ v ∧ v < cR C then if 0 ≤ b ∧ b ≤ 99999 then if 0 ≤ u ∧ u < cR C then if 0 ≤ l ∧ l ≤ 99999 then if atB C v b = true then if (bat C (v.toNat, b) (til C (v.toNat, b) l)).2 = l ∧ ((bat C (v.toNat, b) (til C (v.toNat, b) l)).1 : Int) = u then 1 else 0 else -1 else -2 else -2 else -2 else -2
def rds (C : Cy) (p : Nat × Int) (i : Nat) : Nat := fo (fun j s => s ||| 1 <<< (bat C p j).1) i 0
def sp_readers (C : Cy) (k l : Int) : Int := if 0 ≤ k ∧ k < cN C then if 0 ≤ l ∧ l ≤ 99999 then if atB C (cF C k.toNat) (cA C k.toNat) = true then rds C (cF C k.toNat, cA C k.toNat) (til C (cF C k.toNat, cA C k.toNat) (l + 1)) else -1 else -2 else -2
def sp_missed (C : Cy) (v b u n : Int) : Int := if 0 ≤ v ∧ v < cR C then if 0 ≤ b ∧ b ≤ 99999 then if 0 ≤ u ∧ u < cR C then if 0 ≤ n ∧ n ≤ 10000 then if atB C v b = true then sm (fun j => ind (((bat C (bgo C (v.toNat, b)) j).1 : Int) = u)) (til C (bgo C (v.toNat, b)) (b + n + 1)) else -1 else -2 else -2 else -2 else -2
def nxt (C : Cy) (p : Nat × Int) (u : Nat) : Int := match fi (fun i => decide ((bat C p (i + 1)).1 = u)) (cR C * rnd C) with
  | some i => (bat C p (i + 1)).2
  | none => -1
def sp_misses (C : Cy) (v b u : Int) : Int := if 0 ≤ v ∧ v < cR C then if 0 ≤ b ∧ b ≤ 99999 then if 0 ≤ u ∧ u < cR C then if atB C v b = true then nxt C (v.toNat, b) u.toNat else -1 else -2 else -2 else -2
def sp_alone (C : Cy) (k : Int) : Int := if 0 ≤ k ∧ k < cN C then if atB C (cF C k.toNat) (cA C k.toNat) = true then nxt C (cF C k.toNat, cA C k.toNat) (cD C k.toNat) else -1 else -2
/-- how many throws an orbit has, less one -/
def obL (C : Cy) (p : Nat × Int) : Nat := (fi (fun i => decide (Al C (bat C p (i + 1)) p)) (cR C * rnd C)).getD 0
def sp_orbit (C : Cy) (v b x : Int) : Int := if 0 ≤ v ∧ v < cR C then if 0 ≤ b ∧ b ≤ 99999 then if 0 ≤ x ∧ x ≤ 3 then if atB C v b = true then if x = 0 then obL C (v.toNat, b) + 1 else if x = 1 then (bat C (v.toNat, b) (obL C (v.toNat, b) + 1)).2 - b else if x = 2 then ((bat C (v.toNat, b) (obL C (v.toNat, b) + 1)).2 - b) / rnd C else rds C (v.toNat, b) (obL C (v.toNat, b) + 1) else -1 else -2 else -2 else -2
