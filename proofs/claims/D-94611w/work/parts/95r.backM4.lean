/-! the reference: what copying keeps -/
set_option maxRecDepth 100000
section
variable {S : MS} {C : Cy}
theorem mCC_a (S : MS) (f t : Nat) {a : Nat} (h : a = 1 ∨ a = 2 ∨ a = 5 ∨ a = 16) : ma (mCC S f t) a = ma S a := by
  rcases h with h | h | h | h <;> subst h <;> rfl
theorem mCC_i (S : MS) (f t : Nat) : mi (mCC S f t) = mi S := rfl
theorem mCC_b (S : MS) (f t : Nat) : mb (mCC S f t) = mb S := rfl
theorem bwA_C (C : Cy) (S : MS) : FrC S (bwA C S) := by
  obtain ⟨f1, f2, f3, f4, f5⟩ := bwS_far (C := C) (S := mCC (mSI S 0 (J 0)) 0 5) (rnd C) (cR C)
  unfold bwA
  refine ⟨fun a ha => ?_, fun a i h1 h2 h3 h4 => ?_, ?_, ?_, ?_, ?_⟩
  · rw [mCC_a _ _ _ ha, f1 a (by omega) (by omega) (by omega), mCC_a _ _ _ ha]; rfl
  · have : a = 6 ∨ a = 7 ∨ a = 8 ∨ a = 9 ∨ a = 10 ∨ a = 11 ∨ a = 12 ∨ a = 13 ∨ a = 14 ∨ a = 15 := by omega
    rcases this with h | h | h | h | h | h | h | h | h | h <;> subst h <;> simp only [bdS, List.getD_cons_succ, List.getD_cons_zero] at h3 h4
    · rw [mCC_6, cpR_n _ (by omega), f1 6 (by decide) (by decide) (by decide), mCC_6, cpR_n _ (by omega)]; rfl
    · rw [mCC_7, cpR_n _ (by omega), f1 7 (by decide) (by decide) (by decide), mCC_7, cpR_n _ (by omega)]; rfl
    · rw [mCC_8, cpR_n _ (by omega), f1 8 (by decide) (by decide) (by decide), mCC_8, cpR_n _ (by omega)]; rfl
    · rw [mCC_9, cpR_n _ (by omega), f2 i (by omega), mCC_9, cpR_n _ (by omega)]; rfl
    · rw [mCC_10, cpR_n _ (by omega), (f3 i (by omega)).1, mCC_10, cpR_n _ (by omega)]; rfl
    · rw [mCC_11, cpR_n _ (by omega), (f3 i (by omega)).2, mCC_11, cpR_n _ (by omega)]; rfl
    · rw [mCC_12, cpR_n _ (by omega), f1 12 (by decide) (by decide) (by decide), mCC_12, cpR_n _ (by omega)]; rfl
    · rw [mCC_13, cpR_n _ (by omega), f1 13 (by decide) (by decide) (by decide), mCC_13, cpR_n _ (by omega)]; rfl
    · rw [mCC_14, cpR_n _ (by omega), f1 14 (by decide) (by decide) (by decide), mCC_14, cpR_n _ (by omega)]; rfl
    · rw [mCC_15, cpR_n _ (by omega), f1 15 (by decide) (by decide) (by decide), mCC_15, cpR_n _ (by omega)]; rfl
  · rw [mCC_b, f4, mCC_b]; rfl
  · rw [mCC_i, f5, mCC_i]; rfl
  · rw [mCC_i, f5, mCC_i]; rfl
  · rw [mCC_i, f5, mCC_i]; rfl
end
