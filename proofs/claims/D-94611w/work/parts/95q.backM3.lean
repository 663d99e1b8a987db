/-! the reference: backwards, the frame -/
set_option maxRecDepth 100000
section
variable {S : MS} {C : Cy}
theorem bwS_far (P : Nat) : ∀ r, (∀ a, a ≠ 9 → a ≠ 10 → a ≠ 11 → ma (bwS C P S r) a = ma S a) ∧ (∀ p, p < 30 → ma (bwS C P S r) 9 p = ma S 9 p) ∧ (∀ p, p < 240 → ma (bwS C P S r) 10 p = ma S 10 p ∧ ma (bwS C P S r) 11 p = ma S 11 p) ∧ mb (bwS C P S r) = mb S ∧ mi (bwS C P S r) = mi S := by
  intro r
  induction r with
  | zero => exact ⟨fun _ _ _ _ => rfl, fun _ _ => rfl, fun _ _ => ⟨rfl, rfl⟩, rfl, rfl⟩
  | succ r ih =>
    obtain ⟨i1, i2, i3, i4, i5⟩ := ih
    refine ⟨fun a h1 h2 h3 => ?_, fun p hp => ?_, fun p hp => ⟨?_, ?_⟩, i4, i5⟩
    · show ma (mSA _ 9 _ _) a = _
      rw [ma_A, if_neg h1, mS2_9 _ _ _ _ _ _ ⟨h2, h3⟩, i1 a h1 h2 h3]
    · show ma (mSA _ 9 _ _) 9 p = _
      rw [ma_A, if_pos rfl, upd_o _ _ (by omega), mS2_9 _ _ _ _ _ _ (by decide), i2 p hp]
    · show (if p < 8 * (30 + r) + P then (if 8 * (30 + r) ≤ p then bwF C P r (p - 8 * (30 + r)) else ma (bwS C P S r) 10 p) else ma (bwS C P S r) 10 p) = ma S 10 p
      by_cases h : p < 8 * (30 + r) + P
      · rw [if_pos h, if_neg (by omega)]; exact (i3 p hp).1
      · rw [if_neg h]; exact (i3 p hp).1
    · show (if p < 8 * (30 + r) + P then (if 8 * (30 + r) ≤ p then bwT C P r (p - 8 * (30 + r)) else ma (bwS C P S r) 11 p) else ma (bwS C P S r) 11 p) = ma S 11 p
      by_cases h : p < 8 * (30 + r) + P
      · rw [if_pos h, if_neg (by omega)]; exact (i3 p hp).2
      · rw [if_neg h]; exact (i3 p hp).2
theorem row5 {D : Cy} (hG : GdM S 5 D) {r P : Nat} (hP : 1 ≤ P ∧ P ≤ 8) (hr : r < cR D) {H T : Nat → Nat} {F G : Nat → Int32} (hf : ∀ i, i < P → H i ≤ 9 ∧ T i ≤ 5 ∧ F i = J (H i) ∧ G i = J (T i)) : GdM (mSA (mS2 S (30 + r) P F G) 9 (30 + r) (J P)) 5 (cRow D r P H T) := by
  have hR := cR_le D
  obtain ⟨g1, g2, g3, g4, g5, g6, g7, g8⟩ := hG
  have m10 : ∀ p, ma (mSA (mS2 S (30 + r) P F G) 9 (30 + r) (J P)) 10 p = if p < 8 * (30 + r) + P then (if 8 * (30 + r) ≤ p then F (p - 8 * (30 + r)) else ma S 10 p) else ma S 10 p := fun p => rfl
  have m11 : ∀ p, ma (mSA (mS2 S (30 + r) P F G) 9 (30 + r) (J P)) 11 p = if p < 8 * (30 + r) + P then (if 8 * (30 + r) ≤ p then G (p - 8 * (30 + r)) else ma S 11 p) else ma S 11 p := fun p => rfl
  have m9 : ma (mSA (mS2 S (30 + r) P F G) 9 (30 + r) (J P)) 9 = upd (ma S 9) (30 + r) (J P) := rfl
  refine ⟨g1, g2, fun q hq => ?_, g4, g5, fun k hk => ?_, fun k hk => ?_, g8⟩
  · rw [cRow_R] at hq
    have ⟨a1, a2, a3⟩ := g3 q hq
    refine ⟨by rw [cRow_K]; exact a1, ?_, fun i hi => ?_⟩
    · rw [cRow_P hP, m9]
      by_cases h : q = r
      · rw [if_pos h, h, show 6 * 5 + r = 30 + r by omega, upd_s]
      · rw [if_neg h, upd_o _ _ (by omega)]; exact a2
    · rw [cRow_P hP] at hi
      by_cases h : q = r
      · rw [if_pos h] at hi
        have ⟨b1, b2, b3, b4⟩ := hf i hi
        rw [cRow_H (by omega) b1, cRow_T (by omega) b2, if_pos h, if_pos h, m10, m11, h, show 8 * (6 * 5 + r) + i = 8 * (30 + r) + i by omega, if_pos (by omega), if_pos (by omega), if_pos (by omega), if_pos (by omega), Nat.add_sub_cancel_left]
        exact ⟨b3, b4⟩
      · rw [if_neg h] at hi
        have hPq := cP_bd D q
        rw [cRow_Hq (by omega) h, cRow_Tq (by omega) h, m10, m11]
        have e : ∀ (x y z : Int32), (if 8 * (6 * 5 + q) + i < 8 * (30 + r) + P then (if 8 * (30 + r) ≤ 8 * (6 * 5 + q) + i then x else y) else y) = y := by
          intro x y z
          by_cases h1 : 8 * (6 * 5 + q) + i < 8 * (30 + r) + P
          · rw [if_pos h1, if_neg (by omega)]
          · rw [if_neg h1]
        rw [e _ _ 0, e _ _ 0]
        exact a3 i hi
  · rw [cRow_Lo, cRow_Hi]; exact g6 k hk
  · rw [cRow_F, cRow_A, cRow_D]; exact g7 k hk
theorem bwS_5 (hG : GdM S 5 C) (hk : kp C = true) (ho : OkC C) {P : Nat} (hP : 1 ≤ P ∧ P ≤ 8) : ∀ r, r ≤ cR C → GdM (bwS C P S r) 5 (bkR C P r) := by
  intro r
  induction r with
  | zero => intro _; exact hG
  | succ r ih =>
    intro hr
    have hR := cR_le C
    refine row5 (ih (by omega)) hP (by rw [bkR_R]; omega) (fun i hi => ?_)
    have h := bk_bd (C := C) (r := r) (by omega) P i
    have h2 := bwF_eq hk ho (r := r) (by omega) P i
    exact ⟨h.1, by omega, h2.1, h2.2⟩
theorem bwA_G (hG : GdM S 0 C) (hk : kp C = true) (ho : OkC C) (h8 : rnd C ≤ 8) : GdM (bwA C S) 0 (bkR C (rnd C) (cR C)) :=
  mCC_t (bwS_5 (mCC_t (S := mSI S 0 (J 0)) (f := 0) (t := 5) hG) hk ho ⟨(rnd_bd C).1, h8⟩ (cR C) (Nat.le_refl _))
end
