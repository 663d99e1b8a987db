/-! the wind -/
set_option maxRecDepth 100000
/-- what was drawn, dropped, the first drop's beat and roof, what is missing by roofs and beats -/
abbrev Wn : Type := Int × Int × Int × Int × (Nat → Nat → Bool)
def rnx (x : Int) : Int := (1103515245 * x + 12345) % 2147483648
def hit (C : Cy) (x : Int) : Bool := decide (rnx x / 65536 % 100 < cO C)
/-- whether a throw draws, and whether it is gone behind it -/
def drw (C : Cy) (r t : Nat) (s : Wn) : Bool := !s.2.2.2.2 r t && decide (cG C ≤ hh C r t)
def gon (C : Cy) (r t : Nat) (s : Wn) : Bool := s.2.2.2.2 r t || (drw C r t s && hit C s.1)
def wst (C : Cy) (t r : Nat) (s : Wn) : Wn := if hh C r t = 0 then s else
  (if drw C r t s = true then rnx s.1 else s.1,
   if (drw C r t s && hit C s.1) = true then s.2.1 + 1 else s.2.1,
   if (drw C r t s && hit C s.1) = true then (if s.2.1 = 0 then (t : Int) else s.2.2.1) else s.2.2.1,
   if (drw C r t s && hit C s.1) = true then (if s.2.1 = 0 then (r : Int) else s.2.2.2.1) else s.2.2.2.1,
   if gon C r t s = true then (fun q b => if q = tt C r t ∧ b = t + hh C r t then true else s.2.2.2.2 q b) else s.2.2.2.2)
def wnT (C : Cy) (t : Nat) (s : Wn) : Wn := fo (fun r s => wst C t r s) (cR C) s
def wnd (C : Cy) (x : Int) (n : Nat) : Wn := fo (fun t s => wnT C t s) n (x, 0, -1, -1, fun _ _ => false)
/-- what holds between throws: r roofs are through with beat t -/
def WI (C : Cy) (t r : Nat) (s : Wn) : Prop := (0 ≤ s.1 ∧ s.1 ≤ 2147483648) ∧ (0 ≤ s.2.1 ∧ s.2.1 ≤ 6 * t + r) ∧ (s.2.1 = 0 ↔ s.2.2.1 = -1) ∧ (-1 ≤ s.2.2.1 ∧ s.2.2.1 ≤ t) ∧ (-1 ≤ s.2.2.2.1 ∧ s.2.2.2.1 ≤ 6) ∧ (∀ q b, s.2.2.2.2 q b = true → q < cR C ∧ b ≤ t + 9 ∧ 0 < hh C q b)
theorem rnx_bd {x : Int} (h : 0 ≤ x) : 0 ≤ rnx x ∧ rnx x < 2147483648 := by
  unfold rnx; omega
theorem wst_WI {C : Cy} (hk : kp C = true) (ho : OkC C) {t r : Nat} (hr : r < cR C) {s : Wn} (h : WI C t r s) : WI C t (r + 1) (wst C t r s) := by
  have hR := cR_le C
  obtain ⟨h1, h2, h3, h4, h5, h6⟩ := h
  unfold wst
  by_cases h0 : hh C r t = 0
  · rw [if_pos h0]; exact ⟨h1, by omega, h3, h4, h5, h6⟩
  rw [if_neg h0]
  have hx := rnx_bd h1.1
  have h9 := hh_le C r t
  refine ⟨?_, ?_, ?_, ?_, ?_, ?_⟩ <;> simp only
  · split <;> omega
  · split <;> omega
  · split
    · split <;> omega
    · exact h3
  · split
    · split <;> omega
    · exact h4
  · split
    · split <;> omega
    · exact h5
  · intro q b hqb
    split at hqb
    · by_cases hc : q = tt C r t ∧ b = t + hh C r t
      · have := land hk ho hr (b := (t : Int)) (by omega)
        rw [hc.1, hc.2]
        refine ⟨tt_lt ho hr _, by omega, ?_⟩
        rw [Int.natCast_add]; exact this
      · simp only [if_neg hc] at hqb; exact h6 q b hqb
    · exact h6 q b hqb
theorem WI_next {C : Cy} {t : Nat} {s : Wn} (h : WI C t (cR C) s) : WI C (t + 1) 0 s := by
  have hR := cR_le C
  obtain ⟨h1, h2, h3, h4, h5, h6⟩ := h
  exact ⟨h1, by omega, h3, by omega, h5, fun q b hqb => by have := h6 q b hqb; exact ⟨this.1, by omega, this.2.2⟩⟩
/-- the ring of m beats holds what is missing, r roofs being through with beat t -/
def Rg (C : Cy) (m t r : Nat) (f : Nat → Int32) (ms : Nat → Nat → Bool) : Prop := ∀ q b, q < cR C → (t + (if q < r then 1 else 0) ≤ b ∧ b < t + (if q < r then 1 else 0) + m) → f (m * q + b % m) = Bp (ms q b = true)
/-- the ring behind a throw -/
def rgS (C : Cy) (m t r : Nat) (s : Wn) (f : Nat → Int32) : Nat → Int32 := if hh C r t = 0 then upd f (m * r + t % m) (J 0) else if gon C r t s = true then upd (upd f (m * r + t % m) (J 0)) (m * tt C r t + (t + hh C r t) % m) (J 1) else upd f (m * r + t % m) (J 0)
theorem mod_inj {m a b : Nat} (h1 : a ≤ b) (h2 : b < a + m) (h : a % m = b % m) : a = b := by
  have e1 := Nat.div_add_mod a m
  have e2 := Nat.div_add_mod b m
  rw [h] at e1
  have h3 : a / m ≤ b / m := Nat.div_le_div_right h1
  by_cases h4 : a / m = b / m
  · rw [h4] at e1; omega
  · have h5 : m * (a / m + 1) ≤ m * (b / m) := Nat.mul_le_mul_left m (by omega)
    rw [Nat.mul_add] at h5
    omega
theorem slot_inj {m q q' a b : Nat} (hm : 0 < m) (h : m * q + a % m = m * q' + b % m) : q = q' ∧ a % m = b % m := by
  have h1 := Nat.mod_lt a hm
  have h2 := Nat.mod_lt b hm
  have e1 : (m * q + a % m) / m = q := by rw [Nat.mul_add_div hm, Nat.div_eq_of_lt h1, Nat.add_zero]
  have e2 : (m * q' + b % m) / m = q' := by rw [Nat.mul_add_div hm, Nat.div_eq_of_lt h2, Nat.add_zero]
  have : q = q' := by rw [← e1, h, e2]
  subst this
  exact ⟨rfl, by omega⟩
theorem Rg_step {C : Cy} {m t r : Nat} (hm : 10 ≤ m) (hr : r < cR C) (ho : OkC C) {s : Wn} {f : Nat → Int32} (hW : WI C t r s) (h : Rg C m t r f s.2.2.2.2) : Rg C m t (r + 1) (rgS C m t r s f) (wst C t r s).2.2.2.2 := by
  obtain ⟨_, _, _, _, _, h6⟩ := hW
  have h9 := hh_le C r t
  have base : Rg C m t (r + 1) (upd f (m * r + t % m) (J 0)) s.2.2.2.2 := by
    intro q b hq hb
    by_cases e : m * q + b % m = m * r + t % m
    · have ⟨e1, e2⟩ := slot_inj (by omega) e
      subst e1
      rw [if_pos (by omega)] at hb
      rw [e, upd_s]
      by_cases hbt : b < t + m
      · have := mod_inj (m := m) (a := t) (b := b) (by omega) (by omega) e2.symm
        omega
      · rw [Bp_f]
        intro hms
        have := (h6 q b hms).2.1
        omega
    · rw [upd_o _ _ e]
      apply h q b hq
      by_cases hqr : q = r
      · subst hqr
        rw [if_pos (by omega)] at hb
        rw [if_neg (by omega)]
        have : b ≠ t + m := by
          intro e'
          apply e
          rw [e', Nat.add_mod_right]
        omega
      · by_cases hlt : q < r
        · rw [if_pos (by omega)] at hb; rw [if_pos hlt]; exact hb
        · rw [if_neg (by omega)] at hb; rw [if_neg hlt]; exact hb
  unfold rgS wst
  by_cases h0 : hh C r t = 0
  · rw [if_pos h0, if_pos h0]; exact base
  rw [if_neg h0, if_neg h0]
  by_cases hg : gon C r t s = true
  · rw [if_pos hg]
    simp only [if_pos hg]
    intro q b hq hb
    have htt := tt_lt ho hr (t : Int)
    by_cases e : m * q + b % m = m * tt C r t + (t + hh C r t) % m
    · have ⟨e1, e2⟩ := slot_inj (by omega) e
      rw [e, upd_s, Bp_t]
      have hbe : b = t + hh C r t := by
        by_cases hle : b ≤ t + hh C r t
        · exact mod_inj (m := m) hle (by split at hb <;> omega) e2
        · exact (mod_inj (m := m) (a := t + hh C r t) (b := b) (by omega) (by split at hb <;> omega) e2.symm).symm
      simp only [if_pos (And.intro e1 hbe)]
    · rw [upd_o _ _ e, base q b hq hb]
      apply Bp_congr
      simp only
      rw [if_neg (fun hc => e (by rw [hc.1, hc.2]))]
  · rw [if_neg hg]
    simp only [if_neg hg]
    exact base
theorem Rg_next {C : Cy} {m t : Nat} {f : Nat → Int32} {ms : Nat → Nat → Bool} (h : Rg C m t (cR C) f ms) : Rg C m (t + 1) 0 f ms := by
  intro q b hq hb
  rw [if_neg (by omega)] at hb
  exact h q b hq (by rw [if_pos hq]; omega)
theorem Rg_0 (C : Cy) (m : Nat) (f : Nat → Int32) (hf : ∀ q b, q < cR C → f (m * q + b % m) = J 0) : Rg C m 0 0 f (fun _ _ => false) := by
  intro q b hq _
  rw [hf q b hq, Bp_f (by simp)]
def sp_gusts (C : Cy) (x n k : Int) : Int := if 0 < cR C then if 0 ≤ x ∧ x ≤ 2000000000 then if 0 ≤ n ∧ n ≤ 2000 then if 0 ≤ k ∧ k ≤ 2 then if kp C = true then if k = 0 then bls C - (wnd C x n.toNat).2.1 else if k = 1 then (wnd C x n.toNat).2.2.1 else (wnd C x n.toNat).2.2.2.1 else -1 else -2 else -2 else -2 else -2
def sp_years (C : Cy) (x k n : Int) : Int := if 0 < cR C then if 0 ≤ x ∧ x ≤ 2000000000 then if 0 ≤ n ∧ n ≤ 2000 then if 1 ≤ k ∧ k ≤ 20 then if kp C = true then sm (fun i => ind (0 < (wnd C (x + i) n.toNat).2.1)) k.toNat else -1 else -2 else -2 else -2 else -2
