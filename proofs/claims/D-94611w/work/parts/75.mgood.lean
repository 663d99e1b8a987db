/-! a city of the reference is a city -/
set_option maxRecDepth 100000
def GdM (S : MS) (n : Nat) (C : Cy) : Prop :=
  ma S 6 n = J (cL C) ∧ ma S 7 n = J (cR C) ∧
  (∀ r, r < cR C → ma S 8 (6 * n + r) = J (cK C r) ∧ ma S 9 (6 * n + r) = J (cP C r) ∧ ∀ i, i < cP C r → ma S 10 (8 * (6 * n + r) + i) = J (cH C r i) ∧ ma S 11 (8 * (6 * n + r) + i) = J (cT C r i)) ∧
  ma S 12 (2 * n) = J (cX C) ∧ ma S 12 (2 * n + 1) = J (cN C) ∧
  (∀ k, k < cX C → ma S 13 (2 * (6 * n + k)) = J (cLo C k) ∧ ma S 13 (2 * (6 * n + k) + 1) = J (cHi C k)) ∧
  (∀ k, k < cN C → ma S 14 (3 * (8 * n + k)) = J (cF C k) ∧ ma S 14 (3 * (8 * n + k) + 1) = J (cA C k) ∧ ma S 14 (3 * (8 * n + k) + 2) = J (cD C k)) ∧
  (0 < cR C → ma S 15 (2 * n) = J (cG C) ∧ ma S 15 (2 * n + 1) = J (cO C))
theorem gm_L {S : MS} {C : Cy} (h : GdM S 0 C) : ma S 6 0 = J (cL C) := h.1
theorem gm_R {S : MS} {C : Cy} (h : GdM S 0 C) : ma S 7 0 = J (cR C) := h.2.1
theorem gm_K {S : MS} {C : Cy} (h : GdM S 0 C) {r : Nat} (hr : r < cR C) : ma S 8 r = J (cK C r) := by
  have := (h.2.2.1 r hr).1
  rwa [Nat.mul_zero, Nat.zero_add] at this
theorem gm_P {S : MS} {C : Cy} (h : GdM S 0 C) {r : Nat} (hr : r < cR C) : ma S 9 r = J (cP C r) := by
  have := (h.2.2.1 r hr).2.1
  rwa [Nat.mul_zero, Nat.zero_add] at this
theorem gm_H {S : MS} {C : Cy} (h : GdM S 0 C) {r i : Nat} (hr : r < cR C) (hi : i < cP C r) : ma S 10 (8 * r + i) = J (cH C r i) := by
  have := ((h.2.2.1 r hr).2.2 i hi).1
  rwa [Nat.mul_zero, Nat.zero_add] at this
theorem gm_T {S : MS} {C : Cy} (h : GdM S 0 C) {r i : Nat} (hr : r < cR C) (hi : i < cP C r) : ma S 11 (8 * r + i) = J (cT C r i) := by
  have := ((h.2.2.1 r hr).2.2 i hi).2
  rwa [Nat.mul_zero, Nat.zero_add] at this
theorem gm_X {S : MS} {C : Cy} (h : GdM S 0 C) : ma S 12 0 = J (cX C) := h.2.2.2.1
theorem gm_N {S : MS} {C : Cy} (h : GdM S 0 C) : ma S 12 1 = J (cN C) := h.2.2.2.2.1
theorem gm_Lo {S : MS} {C : Cy} (h : GdM S 0 C) {k : Nat} (hk : k < cX C) : ma S 13 (2 * k) = J (cLo C k) := by
  have := (h.2.2.2.2.2.1 k hk).1
  rwa [Nat.mul_zero, Nat.zero_add] at this
theorem gm_Hi {S : MS} {C : Cy} (h : GdM S 0 C) {k : Nat} (hk : k < cX C) : ma S 13 (2 * k + 1) = J (cHi C k) := by
  have := (h.2.2.2.2.2.1 k hk).2
  rwa [Nat.mul_zero, Nat.zero_add] at this
theorem gm_F {S : MS} {C : Cy} (h : GdM S 0 C) {k : Nat} (hk : k < cN C) : ma S 14 (3 * k) = J (cF C k) := by
  have := (h.2.2.2.2.2.2.1 k hk).1
  rwa [Nat.mul_zero, Nat.zero_add] at this
theorem gm_A {S : MS} {C : Cy} (h : GdM S 0 C) {k : Nat} (hk : k < cN C) : ma S 14 (3 * k + 1) = J (cA C k) := by
  have := (h.2.2.2.2.2.2.1 k hk).2.1
  rwa [Nat.mul_zero, Nat.zero_add] at this
theorem gm_D {S : MS} {C : Cy} (h : GdM S 0 C) {k : Nat} (hk : k < cN C) : ma S 14 (3 * k + 2) = J (cD C k) := by
  have := (h.2.2.2.2.2.2.1 k hk).2.2
  rwa [Nat.mul_zero, Nat.zero_add] at this
theorem gm_G {S : MS} {C : Cy} (h : GdM S 0 C) (hR : 0 < cR C) : ma S 15 0 = J (cG C) := (h.2.2.2.2.2.2.2 hR).1
theorem gm_O {S : MS} {C : Cy} (h : GdM S 0 C) (hR : 0 < cR C) : ma S 15 1 = J (cO C) := (h.2.2.2.2.2.2.2 hR).2
