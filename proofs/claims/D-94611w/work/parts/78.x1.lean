/-! the component: its city in a world; rounds, throws, what comes down -/
set_option maxRecDepth 100000
/-- the class of a kind -/
def kc (k : Nat) : Nat := [2, 8, 9, 10, 11].getD k 2
theorem kc_in (k : Nat) (h : k ≤ 4) : kc k ∈ [2, 8, 9, 10, 11] := by
  have : k = 0 ∨ k = 1 ∨ k = 2 ∨ k = 3 ∨ k = 4 := by omega
  rcases this with h | h | h | h | h <;> subst h <;> decide
def Hc (w : Wd) (c : Nat) (th : Nat → Nat) (C : Cy) : Prop :=
  (∃ g : Int32, w c = some (.inr (1, [.int (J (cR C)), .int (J (cX C)), .int (J (cN C)), .int (J (cL C)), .int (J (cG C)), .int (J (cO C)), .int g, .ref (c + 1), .ref (c + 2), .ref (c + 3), .ref (c + 4), .ref (c + 5), .ref (c + 6)]))) ∧
  (∃ f, w (c + 1) = some (.inl (5, 6, .inr (.inr (.inr (.inr f))))) ∧ ∀ r, r < cR C → f r = some (th r)) ∧
  (∃ f, w (c + 2) = some (.inl (0, 6, .inl f)) ∧ ∀ k, k < cX C → f k = J (cLo C k)) ∧
  (∃ f, w (c + 3) = some (.inl (0, 6, .inl f)) ∧ ∀ k, k < cX C → f k = J (cHi C k)) ∧
  (∃ f, w (c + 4) = some (.inl (0, 8, .inl f)) ∧ ∀ k, k < cN C → f k = J (cF C k)) ∧
  (∃ f, w (c + 5) = some (.inl (0, 8, .inl f)) ∧ ∀ k, k < cN C → f k = J (cA C k)) ∧
  (∃ f, w (c + 6) = some (.inl (0, 8, .inl f)) ∧ ∀ k, k < cN C → f k = J (cD C k)) ∧
  ∀ r, r < cR C → w (th r) = some (.inr (kc (cK C r), [.int (J r), .ref (th r + 1), .ref (th r + 2), .int (J (cP C r))])) ∧
    (∃ f, w (th r + 1) = some (.inl (0, 8, .inl f)) ∧ ∀ i, i < cP C r → f i = J (cH C r i)) ∧
    (∃ f, w (th r + 2) = some (.inl (0, 8, .inl f)) ∧ ∀ i, i < cP C r → f i = J (cT C r i))
section
variable {N o c : Nat} {S : XS} {w : Wd} {C : Cy} {th : Nat → Nat}
theorem hc_0 (h : Hc w c th C) : gI w [1] c 0 = some (J (cR C)) := by have ⟨g, e⟩ := h.1; exact gI_of e (by decide) rfl
theorem hc_1 (h : Hc w c th C) : gI w [1] c 1 = some (J (cX C)) := by have ⟨g, e⟩ := h.1; exact gI_of e (by decide) rfl
theorem hc_2 (h : Hc w c th C) : gI w [1] c 2 = some (J (cN C)) := by have ⟨g, e⟩ := h.1; exact gI_of e (by decide) rfl
theorem hc_3 (h : Hc w c th C) : gI w [1] c 3 = some (J (cL C)) := by have ⟨g, e⟩ := h.1; exact gI_of e (by decide) rfl
theorem hc_4 (h : Hc w c th C) : gI w [1] c 4 = some (J (cG C)) := by have ⟨g, e⟩ := h.1; exact gI_of e (by decide) rfl
theorem hc_5 (h : Hc w c th C) : gI w [1] c 5 = some (J (cO C)) := by have ⟨g, e⟩ := h.1; exact gI_of e (by decide) rfl
theorem hc_7 (h : Hc w c th C) : gR w [1] c 7 = some (c + 1) := by have ⟨g, e⟩ := h.1; exact gR_of e (by decide) rfl
theorem hc_8 (h : Hc w c th C) : gR w [1] c 8 = some (c + 2) := by have ⟨g, e⟩ := h.1; exact gR_of e (by decide) rfl
theorem hc_9 (h : Hc w c th C) : gR w [1] c 9 = some (c + 3) := by have ⟨g, e⟩ := h.1; exact gR_of e (by decide) rfl
theorem hc_10 (h : Hc w c th C) : gR w [1] c 10 = some (c + 4) := by have ⟨g, e⟩ := h.1; exact gR_of e (by decide) rfl
theorem hc_11 (h : Hc w c th C) : gR w [1] c 11 = some (c + 5) := by have ⟨g, e⟩ := h.1; exact gR_of e (by decide) rfl
theorem hc_12 (h : Hc w c th C) : gR w [1] c 12 = some (c + 6) := by have ⟨g, e⟩ := h.1; exact gR_of e (by decide) rfl
theorem hc_k (h : Hc w c th C) : ckC w [1] c = some 1 := by have ⟨g, e⟩ := h.1; exact ckC_of e (by decide)
theorem hc_at (h : Hc w c th C) {z : Int} (hz : 0 ≤ z ∧ z < cR C) : aR 5 w (c + 1) (J z) = some (th z.toNat) := by
  have ⟨f, e, hf⟩ := h.2.1
  have := cR_le C
  exact aR_of e (by omega) (by decide) (hf z.toNat (by omega))
theorem hc_lo (h : Hc w c th C) {z : Int} (hz : 0 ≤ z ∧ z < cX C) : aI 0 w (c + 2) (J z) = some (J (cLo C z.toNat)) := by
  have ⟨f, e, hf⟩ := h.2.2.1
  have := cX_le C
  rw [aI_of e (by omega) (by decide), hf z.toNat (by omega)]
theorem hc_hi (h : Hc w c th C) {z : Int} (hz : 0 ≤ z ∧ z < cX C) : aI 0 w (c + 3) (J z) = some (J (cHi C z.toNat)) := by
  have ⟨f, e, hf⟩ := h.2.2.2.1
  have := cX_le C
  rw [aI_of e (by omega) (by decide), hf z.toNat (by omega)]
theorem hc_F (h : Hc w c th C) {z : Int} (hz : 0 ≤ z ∧ z < cN C) : aI 0 w (c + 4) (J z) = some (J (cF C z.toNat)) := by
  have ⟨f, e, hf⟩ := h.2.2.2.2.1
  have := cN_le C
  rw [aI_of e (by omega) (by decide), hf z.toNat (by omega)]
theorem hc_A (h : Hc w c th C) {z : Int} (hz : 0 ≤ z ∧ z < cN C) : aI 0 w (c + 5) (J z) = some (J (cA C z.toNat)) := by
  have ⟨f, e, hf⟩ := h.2.2.2.2.2.1
  have := cN_le C
  rw [aI_of e (by omega) (by decide), hf z.toNat (by omega)]
theorem hc_D (h : Hc w c th C) {z : Int} (hz : 0 ≤ z ∧ z < cN C) : aI 0 w (c + 6) (J z) = some (J (cD C z.toNat)) := by
  have ⟨f, e, hf⟩ := h.2.2.2.2.2.2.1
  have := cN_le C
  rw [aI_of e (by omega) (by decide), hf z.toNat (by omega)]
theorem ht_0 (h : Hc w c th C) {r : Nat} (hr : r < cR C) : gI w [2, 8, 9, 10, 11] (th r) 0 = some (J r) := gI_of (h.2.2.2.2.2.2.2 r hr).1 (kc_in _ (cK_le C r)) rfl
theorem ht_1 (h : Hc w c th C) {r : Nat} (hr : r < cR C) : gR w [2, 8, 9, 10, 11] (th r) 1 = some (th r + 1) := gR_of (h.2.2.2.2.2.2.2 r hr).1 (kc_in _ (cK_le C r)) rfl
theorem ht_2 (h : Hc w c th C) {r : Nat} (hr : r < cR C) : gR w [2, 8, 9, 10, 11] (th r) 2 = some (th r + 2) := gR_of (h.2.2.2.2.2.2.2 r hr).1 (kc_in _ (cK_le C r)) rfl
theorem ht_3 (h : Hc w c th C) {r : Nat} (hr : r < cR C) : gI w [2, 8, 9, 10, 11] (th r) 3 = some (J (cP C r)) := gI_of (h.2.2.2.2.2.2.2 r hr).1 (kc_in _ (cK_le C r)) rfl
theorem ht_k (h : Hc w c th C) {r : Nat} (hr : r < cR C) : ckC w famT (th r) = some (kc (cK C r)) := ckC_of (h.2.2.2.2.2.2.2 r hr).1 (kc_in _ (cK_le C r))
theorem ht_H (h : Hc w c th C) {r : Nat} (hr : r < cR C) {z : Int} (hz : 0 ≤ z ∧ z < cP C r) : aI 0 w (th r + 1) (J z) = some (J (cH C r z.toNat)) := by
  have ⟨f, e, hf⟩ := (h.2.2.2.2.2.2.2 r hr).2.1
  have := cP_bd C r
  rw [aI_of e (by omega) (by decide), hf z.toNat (by omega)]
theorem ht_T (h : Hc w c th C) {r : Nat} (hr : r < cR C) {z : Int} (hz : 0 ≤ z ∧ z < cP C r) : aI 0 w (th r + 2) (J z) = some (J (cT C r z.toNat)) := by
  have ⟨f, e, hf⟩ := (h.2.2.2.2.2.2.2 r hr).2.2
  have := cP_bd C r
  rw [aI_of e (by omega) (by decide), hf z.toNat (by omega)]
theorem J_msb {a : Int} (h : -2147483648 ≤ a ∧ a ≤ 2147483647) : (J a).toBitVec.msb = decide (a < 0) := by
  rw [BitVec.msb_eq_toInt]
  show decide ((J a).toInt < 0) = _
  rw [J_toInt h]
theorem le0_msb (x : Int32) : (J 0 ≤ x) = (x.toBitVec.msb = false) := by
  rw [BitVec.msb_eq_toInt, Int32.le_iff_toInt_le, J_toInt (by omega)]
  show (0 ≤ x.toInt) = (decide (x.toInt < 0) = false)
  apply propext
  rw [decide_eq_false_iff_not]; omega
theorem xor_sg {a p : Int} (h : (-2147483648 ≤ a ∧ a ≤ 2147483647) ∧ 0 ≤ p ∧ p ≤ 2147483647) : (J 0 ≤ J a ^^^ J p) = (0 ≤ a) := by
  rw [le0_msb, Int32.toBitVec_xor, BitVec.msb_xor, J_msb h.1, J_msb (by omega)]
  apply propext
  by_cases h1 : a < 0 <;> by_cases h2 : p < 0 <;> simp [h1, h2] <;> omega
theorem X_floorMod {v p : Int} (h : (-2147483648 ≤ v ∧ v ≤ 2147483647) ∧ 0 < p ∧ p ≤ 2147483647) : fJ0_floorMod N w (J v) (J p) = some (J (v % p)) := by
  have hm := tm_em v p (by omega)
  have hb1 := Int.tmod_lt_of_pos v (show 0 < p by omega)
  have hb2 : -p ≤ v.tmod p := by
    have := Int.emod_nonneg v (show p ≠ 0 by omega)
    split at hm <;> omega
  have hs : 0 ≤ v → 0 ≤ v.tmod p := fun hv => Int.tmod_nonneg p hv
  have hs' : v < 0 → v.tmod p ≤ 0 := fun hv => by
    have h3 := Int.tmod_eq_emod (a := v) (b := p)
    have h4 := Int.emod_lt_of_pos v (show 0 < p by omega)
    by_cases hd : p ∣ v
    · rw [if_pos (Or.inr hd)] at h3
      have := Int.emod_eq_zero_of_dvd hd
      omega
    · rw [if_neg (by intro h; rcases h with h | h <;> omega)] at h3
      omega
  unfold fJ0_floorMod
  simp (disch := omega) only [jn_0, jn_1, jn_2, jn_3, jn_4, jn_5, jn_6, jn_8, jn_9, jn_10, jn_11, jn_12, jn_16, jn_20, jn_24, jn_30, jn_31, jn_32, jn_36, jn_48, jn_57, jn_59, jn_60, jn_63, jn_72, jn_73, jn_96, jn_97, jn_100, jn_122, jn_144, jn_200, jn_240, jn_288, jn_512, jn_840, jn_1200, jn_1600, jn_5040, jn_5390, jn_5400, jn_9999, jn_18688, jn_32400, jn_99999, jn_100000, jn_1000000, jn_858993459, jn_1431655765, jn_252645135, jl_0, jl_1, jl_2, jl_3, jl_8, jl_9, jl_10, jl_20, jl_27, jl_47, jl_96, jl_99, jl_100, jl_200, jl_555, jl_2000, jl_10000, jl_12345, jl_65536, jl_99999, jl_131638, jl_240023, jl_298288, jl_383153, jl_1306021, jl_1960084, jl_4147840, jl_8740238, jl_9872299, jl_175252482, jl_291595537, jl_1103515245, jl_2000000000, jl_2147483648, jl_4721686497, jl_7873079139, J_add, J_sub, J_mul, J_neg, JL_add, JL_sub, JL_mul, JL_neg, J_long, JL_int, ↓remI_fold, ↓remL_fold, Int.reduceAdd, Int.reduceSub, Int.reduceMul, Int.reduceNeg, Int.reduceToNat, J_eq, J_remT, Option.bind_some, xor_sg]
  rw [if_neg (by omega)]
  by_cases h0 : 0 ≤ v
  · rw [if_pos h0, hm, if_pos (hs h0)]
  · have := hs' (by omega)
    rw [if_neg h0]
    by_cases h1 : v.tmod p = 0
    · rw [if_pos h1, hm, if_pos (by omega)]
    · rw [if_neg h1, hm, if_neg (by omega)]
theorem X_place (h : Hc w c th C) {r : Nat} (hr : r < cR C) {b : Int} (hb : -1000000 ≤ b ∧ b ≤ 1000000) : fX2_place N w (th r) (J b) = some (J (pl C r b)) := by
  have hP := cP_bd C r
  unfold fX2_place
  simp (disch := omega) only [ht_3 h hr, X_floorMod, Option.bind_some, pl_cast]
theorem X_height (h : Hc w c th C) {r : Nat} (hr : r < cR C) {b : Int} (hb : -1000000 ≤ b ∧ b ≤ 1000000) : fX2_height N w (th r) (J b) = some (J (hh C r b)) := by
  have hl := pl_lt C r b
  unfold fX2_height
  simp (disch := omega) only [ht_1 h hr, ht_k h hr, X_place h hr, ht_H h hr, Option.bind_some, Int.toNat_natCast]
  rfl
theorem X_to (h : Hc w c th C) {r : Nat} (hr : r < cR C) {b : Int} (hb : -1000000 ≤ b ∧ b ≤ 1000000) : fX2_to N w (th r) (J b) = some (J (tt C r b)) := by
  have hl := pl_lt C r b
  unfold fX2_to
  simp (disch := omega) only [ht_2 h hr, ht_k h hr, X_place h hr, ht_T h hr, Option.bind_some, Int.toNat_natCast]
  rfl
theorem X_in {v a b : Int} (h : (-9223372036854775808 ≤ v ∧ v ≤ 9223372036854775807) ∧ (-9223372036854775808 ≤ a ∧ a ≤ 9223372036854775807) ∧ -9223372036854775808 ≤ b ∧ b ≤ 9223372036854775807) : fX0_isIn N w (JL v) (JL a) (JL b) = some (Bp (a ≤ v ∧ v ≤ b)) := by
  unfold fX0_isIn
  simp (disch := omega) only [jn_0, jn_1, jn_2, jn_3, jn_4, jn_5, jn_6, jn_8, jn_9, jn_10, jn_11, jn_12, jn_16, jn_20, jn_24, jn_30, jn_31, jn_32, jn_36, jn_48, jn_57, jn_59, jn_60, jn_63, jn_72, jn_73, jn_96, jn_97, jn_100, jn_122, jn_144, jn_200, jn_240, jn_288, jn_512, jn_840, jn_1200, jn_1600, jn_5040, jn_5390, jn_5400, jn_9999, jn_18688, jn_32400, jn_99999, jn_100000, jn_1000000, jn_858993459, jn_1431655765, jn_252645135, jl_0, jl_1, jl_2, jl_3, jl_8, jl_9, jl_10, jl_20, jl_27, jl_47, jl_96, jl_99, jl_100, jl_200, jl_555, jl_2000, jl_10000, jl_12345, jl_65536, jl_99999, jl_131638, jl_240023, jl_298288, jl_383153, jl_1306021, jl_1960084, jl_4147840, jl_8740238, jl_9872299, jl_175252482, jl_291595537, jl_1103515245, jl_2000000000, jl_2147483648, jl_4721686497, jl_7873079139, J_add, J_sub, J_mul, J_neg, JL_add, JL_sub, JL_mul, JL_neg, J_long, JL_int, ↓remI_fold, ↓remL_fold, Int.reduceAdd, Int.reduceSub, Int.reduceMul, Int.reduceNeg, Int.reduceToNat, J_le, J_lt, J_eq, JL_le, JL_lt, JL_eq, cmp_lt0, cmp_gt0, cmp_le0, cmp_ge0, cmp_eq0, Classical.not_not, em_t, Bp_eq0, Bp_eq1, Bp_01, Bp_mk, Bp_mk', Bp_0, Bp_0', Bp_1, Bp_1', if_true, if_false, ite_not]
  congr 1; apply Bp_congr; omega
theorem X_isBeat {v : Int} (h : -2147483648 ≤ v ∧ v ≤ 2147483647) : fX0_isBeat N w (J v) = some (Bp (0 ≤ v ∧ v ≤ 99999)) := by
  unfold fX0_isBeat
  simp (disch := omega) only [jn_0, jn_1, jn_2, jn_3, jn_4, jn_5, jn_6, jn_8, jn_9, jn_10, jn_11, jn_12, jn_16, jn_20, jn_24, jn_30, jn_31, jn_32, jn_36, jn_48, jn_57, jn_59, jn_60, jn_63, jn_72, jn_73, jn_96, jn_97, jn_100, jn_122, jn_144, jn_200, jn_240, jn_288, jn_512, jn_840, jn_1200, jn_1600, jn_5040, jn_5390, jn_5400, jn_9999, jn_18688, jn_32400, jn_99999, jn_100000, jn_1000000, jn_858993459, jn_1431655765, jn_252645135, jl_0, jl_1, jl_2, jl_3, jl_8, jl_9, jl_10, jl_20, jl_27, jl_47, jl_96, jl_99, jl_100, jl_200, jl_555, jl_2000, jl_10000, jl_12345, jl_65536, jl_99999, jl_131638, jl_240023, jl_298288, jl_383153, jl_1306021, jl_1960084, jl_4147840, jl_8740238, jl_9872299, jl_175252482, jl_291595537, jl_1103515245, jl_2000000000, jl_2147483648, jl_4721686497, jl_7873079139, J_add, J_sub, J_mul, J_neg, JL_add, JL_sub, JL_mul, JL_neg, J_long, JL_int, ↓remI_fold, ↓remL_fold, Int.reduceAdd, Int.reduceSub, Int.reduceMul, Int.reduceNeg, Int.reduceToNat, X_in, Option.bind_some, Classical.not_not, em_t, Bp_eq0, Bp_eq1, Bp_01, Bp_mk, Bp_mk', Bp_0, Bp_0', Bp_1, Bp_1', if_true, if_false, ite_not]
theorem X_isSlot {v : Int} (h : -2147483648 ≤ v ∧ v ≤ 2147483647) : fX0_isSlot N w (J v) = some (Bp (0 ≤ v ∧ v ≤ 3)) := by
  unfold fX0_isSlot
  simp (disch := omega) only [jn_0, jn_1, jn_2, jn_3, jn_4, jn_5, jn_6, jn_8, jn_9, jn_10, jn_11, jn_12, jn_16, jn_20, jn_24, jn_30, jn_31, jn_32, jn_36, jn_48, jn_57, jn_59, jn_60, jn_63, jn_72, jn_73, jn_96, jn_97, jn_100, jn_122, jn_144, jn_200, jn_240, jn_288, jn_512, jn_840, jn_1200, jn_1600, jn_5040, jn_5390, jn_5400, jn_9999, jn_18688, jn_32400, jn_99999, jn_100000, jn_1000000, jn_858993459, jn_1431655765, jn_252645135, jl_0, jl_1, jl_2, jl_3, jl_8, jl_9, jl_10, jl_20, jl_27, jl_47, jl_96, jl_99, jl_100, jl_200, jl_555, jl_2000, jl_10000, jl_12345, jl_65536, jl_99999, jl_131638, jl_240023, jl_298288, jl_383153, jl_1306021, jl_1960084, jl_4147840, jl_8740238, jl_9872299, jl_175252482, jl_291595537, jl_1103515245, jl_2000000000, jl_2147483648, jl_4721686497, jl_7873079139, J_add, J_sub, J_mul, J_neg, JL_add, JL_sub, JL_mul, JL_neg, J_long, JL_int, ↓remI_fold, ↓remL_fold, Int.reduceAdd, Int.reduceSub, Int.reduceMul, Int.reduceNeg, Int.reduceToNat, X_in, Option.bind_some, Classical.not_not, em_t, Bp_eq0, Bp_eq1, Bp_01, Bp_mk, Bp_mk', Bp_0, Bp_0', Bp_1, Bp_1', if_true, if_false, ite_not]
theorem X_divisor : ∀ (n a b : Nat), b < n → a ≤ 1000 → b ≤ 1000 → fX1_divisor n w (J a) (J b) = some (J (Nat.gcd a b)) := by
  intro n
  induction n with
  | zero => intro a b h; omega
  | succ n ih =>
    intro a b h ha hb
    rw [fX1_divisor]
    simp (disch := omega) only [jn_0, jn_1, jn_2, jn_3, jn_4, jn_5, jn_6, jn_8, jn_9, jn_10, jn_11, jn_12, jn_16, jn_20, jn_24, jn_30, jn_31, jn_32, jn_36, jn_48, jn_57, jn_59, jn_60, jn_63, jn_72, jn_73, jn_96, jn_97, jn_100, jn_122, jn_144, jn_200, jn_240, jn_288, jn_512, jn_840, jn_1200, jn_1600, jn_5040, jn_5390, jn_5400, jn_9999, jn_18688, jn_32400, jn_99999, jn_100000, jn_1000000, jn_858993459, jn_1431655765, jn_252645135, jl_0, jl_1, jl_2, jl_3, jl_8, jl_9, jl_10, jl_20, jl_27, jl_47, jl_96, jl_99, jl_100, jl_200, jl_555, jl_2000, jl_10000, jl_12345, jl_65536, jl_99999, jl_131638, jl_240023, jl_298288, jl_383153, jl_1306021, jl_1960084, jl_4147840, jl_8740238, jl_9872299, jl_175252482, jl_291595537, jl_1103515245, jl_2000000000, jl_2147483648, jl_4721686497, jl_7873079139, J_add, J_sub, J_mul, J_neg, JL_add, JL_sub, JL_mul, JL_neg, J_long, JL_int, ↓remI_fold, ↓remL_fold, Int.reduceAdd, Int.reduceSub, Int.reduceMul, Int.reduceNeg, Int.reduceToNat, J_eq, cast0]
    by_cases h0 : b = 0
    · rw [if_pos h0, h0, Nat.gcd_zero_right]
    · rw [if_neg h0, if_neg h0, J_rem (by omega)]
      have hl := Nat.mod_lt a (show b > 0 by omega)
      rw [← Int.natCast_emod, ih b (a % b) (by omega) (by omega) (by omega), Option.bind_some, Nat.gcd_comm b, ← Nat.gcd_rec, Nat.gcd_comm]
theorem lcm_div (a b : Nat) : a / Nat.gcd a b * b = Nat.lcm a b := by
  unfold Nat.lcm
  have ⟨k, hk⟩ := Nat.gcd_dvd_left a b
  by_cases h : Nat.gcd a b = 0
  · rw [h]; simp
  · have hp := Nat.pos_of_ne_zero h
    have e1 : a / Nat.gcd a b = k := by
      conv => lhs; lhs; rw [hk]
      exact Nat.mul_div_cancel_left k hp
    have e2 : a * b / Nat.gcd a b = k * b := by
      have : a * b = Nat.gcd a b * (k * b) := by
        conv => lhs; lhs; rw [hk]
        exact Nat.mul_assoc _ _ _
      rw [this]
      exact Nat.mul_div_cancel_left _ hp
    rw [e1, e2]
theorem X_round (h : Hc w c th C) (hN : 1000 ≤ N) : fX1_round N w c = some (J (rnd C)) := by
  have hR := cR_le C
  unfold fX1_round
  have key := lp_fold (fun n i (s : Nat) => fX1_round_4 N w c (fun y => some y) n (J s) (J (i : Int))) (fun s => some (J s)) (cR C) (fun r n => Nat.lcm n (cP C r)) (fun _ s => 1 ≤ s ∧ s ∣ 840) ?_ ?_ N 1 (by omega) (by decide)
  · exact key.1
  · intro n i s hi hs
    have hs' : s ≤ 840 := Nat.le_of_dvd (by decide) hs.2
    have hP := cP_bd C i
    have hg := Nat.gcd_pos_of_pos_left (cP C i) (show 0 < s from hs.1)
    have hg2 : Nat.gcd s (cP C i) ≤ cP C i := Nat.gcd_le_right s (by omega)
    have hl : Nat.lcm s (cP C i) ≤ 840 := Nat.le_of_dvd (by decide) (Nat.lcm_dvd hs.2 (cP_840 C i))
    refine ⟨?_, Nat.lcm_pos hs.1 (by omega), Nat.lcm_dvd hs.2 (cP_840 C i)⟩
    show fX1_round_4 _ _ _ _ _ _ _ = _
    rw [fX1_round_4]
    simp (disch := omega) only [jn_0, jn_1, jn_2, jn_3, jn_4, jn_5, jn_6, jn_8, jn_9, jn_10, jn_11, jn_12, jn_16, jn_20, jn_24, jn_30, jn_31, jn_32, jn_36, jn_48, jn_57, jn_59, jn_60, jn_63, jn_72, jn_73, jn_96, jn_97, jn_100, jn_122, jn_144, jn_200, jn_240, jn_288, jn_512, jn_840, jn_1200, jn_1600, jn_5040, jn_5390, jn_5400, jn_9999, jn_18688, jn_32400, jn_99999, jn_100000, jn_1000000, jn_858993459, jn_1431655765, jn_252645135, jl_0, jl_1, jl_2, jl_3, jl_8, jl_9, jl_10, jl_20, jl_27, jl_47, jl_96, jl_99, jl_100, jl_200, jl_555, jl_2000, jl_10000, jl_12345, jl_65536, jl_99999, jl_131638, jl_240023, jl_298288, jl_383153, jl_1306021, jl_1960084, jl_4147840, jl_8740238, jl_9872299, jl_175252482, jl_291595537, jl_1103515245, jl_2000000000, jl_2147483648, jl_4721686497, jl_7873079139, J_add, J_sub, J_mul, J_neg, JL_add, JL_sub, JL_mul, JL_neg, J_long, JL_int, ↓remI_fold, ↓remL_fold, Int.reduceAdd, Int.reduceSub, Int.reduceMul, Int.reduceNeg, Int.reduceToNat, hc_0 h, hc_7 h, hc_at h, ht_3 h hi, Int.toNat_natCast, Option.bind_some, J_le, X_divisor, J_eq, J_div]
    rw [if_neg (by omega), if_neg (by omega), ← Int.natCast_ediv, ← Int.natCast_mul, lcm_div]
    rfl
  · intro n s _
    show fX1_round_4 _ _ _ _ _ _ _ = _
    rw [fX1_round_4]
    simp (disch := omega) only [jn_0, jn_1, jn_2, jn_3, jn_4, jn_5, jn_6, jn_8, jn_9, jn_10, jn_11, jn_12, jn_16, jn_20, jn_24, jn_30, jn_31, jn_32, jn_36, jn_48, jn_57, jn_59, jn_60, jn_63, jn_72, jn_73, jn_96, jn_97, jn_100, jn_122, jn_144, jn_200, jn_240, jn_288, jn_512, jn_840, jn_1200, jn_1600, jn_5040, jn_5390, jn_5400, jn_9999, jn_18688, jn_32400, jn_99999, jn_100000, jn_1000000, jn_858993459, jn_1431655765, jn_252645135, jl_0, jl_1, jl_2, jl_3, jl_8, jl_9, jl_10, jl_20, jl_27, jl_47, jl_96, jl_99, jl_100, jl_200, jl_555, jl_2000, jl_10000, jl_12345, jl_65536, jl_99999, jl_131638, jl_240023, jl_298288, jl_383153, jl_1306021, jl_1960084, jl_4147840, jl_8740238, jl_9872299, jl_175252482, jl_291595537, jl_1103515245, jl_2000000000, jl_2147483648, jl_4721686497, jl_7873079139, J_add, J_sub, J_mul, J_neg, JL_add, JL_sub, JL_mul, JL_neg, J_long, JL_int, ↓remI_fold, ↓remL_fold, Int.reduceAdd, Int.reduceSub, Int.reduceMul, Int.reduceNeg, Int.reduceToNat, hc_0 h, Option.bind_some, J_le]
    rw [if_pos (by omega)]
theorem X_isFrom (h : Hc w c th C) {q hgt r : Nat} (hq : q < cR C) (hh9 : hgt ≤ 9) (hr : r ≤ 9) {b : Int} (hb : -900000 ≤ b ∧ b ≤ 900000) : fX1_isFrom N w c (J q) (J hgt) (J r) (J b) = some (Bp (hh C q (b - hgt) = hgt ∧ tt C q (b - hgt) = r)) := by
  have h1 := hh_le C q (b - hgt)
  have h2 := tt_le C q (b - hgt)
  unfold fX1_isFrom
  simp (disch := omega) only [jn_0, jn_1, jn_2, jn_3, jn_4, jn_5, jn_6, jn_8, jn_9, jn_10, jn_11, jn_12, jn_16, jn_20, jn_24, jn_30, jn_31, jn_32, jn_36, jn_48, jn_57, jn_59, jn_60, jn_63, jn_72, jn_73, jn_96, jn_97, jn_100, jn_122, jn_144, jn_200, jn_240, jn_288, jn_512, jn_840, jn_1200, jn_1600, jn_5040, jn_5390, jn_5400, jn_9999, jn_18688, jn_32400, jn_99999, jn_100000, jn_1000000, jn_858993459, jn_1431655765, jn_252645135, jl_0, jl_1, jl_2, jl_3, jl_8, jl_9, jl_10, jl_20, jl_27, jl_47, jl_96, jl_99, jl_100, jl_200, jl_555, jl_2000, jl_10000, jl_12345, jl_65536, jl_99999, jl_131638, jl_240023, jl_298288, jl_383153, jl_1306021, jl_1960084, jl_4147840, jl_8740238, jl_9872299, jl_175252482, jl_291595537, jl_1103515245, jl_2000000000, jl_2147483648, jl_4721686497, jl_7873079139, J_add, J_sub, J_mul, J_neg, JL_add, JL_sub, JL_mul, JL_neg, J_long, JL_int, ↓remI_fold, ↓remL_fold, Int.reduceAdd, Int.reduceSub, Int.reduceMul, Int.reduceNeg, Int.reduceToNat, hc_7 h, hc_at h, ht_k h hq, X_height h hq, X_to h hq, Int.toNat_natCast, Option.bind_some, J_eq, castE, Classical.not_not, em_t, Bp_eq0, Bp_eq1, Bp_01, Bp_mk, Bp_mk', Bp_0, Bp_0', Bp_1, Bp_1', if_true, if_false, ite_not]
theorem X_cd15 (h : Hc w c th C) {hgt r : Nat} (hh9 : 1 ≤ hgt ∧ hgt ≤ 9) (hr : r ≤ 9) {b : Int} (hb : -900000 ≤ b ∧ b ≤ 900000) (k : Int32 → Option Int32) {n : Nat} (hn : 6 < n) (s : Int) :
    fX1_comeDown_15 N w c (J r) (J b) (J hgt) k n (J s) (J 0) = k (J (s + sm (fun q => dn C r b q (hgt - 1)) (cR C))) := by
  have hR := cR_le C
  have key := lp_sum (fun n i s => fX1_comeDown_15 N w c (J r) (J b) (J hgt) k n (J s) (J (i : Int))) (fun s => k (J s)) (cR C) (fun q => dn C r b q (hgt - 1)) ?_ ?_ n s (by omega)
  · exact key
  · intro n i s hi
    show fX1_comeDown_15 _ _ _ _ _ _ _ _ _ _ = fX1_comeDown_15 _ _ _ _ _ _ _ _ _ _
    rw [fX1_comeDown_15]
    simp (disch := omega) only [jn_0, jn_1, jn_2, jn_3, jn_4, jn_5, jn_6, jn_8, jn_9, jn_10, jn_11, jn_12, jn_16, jn_20, jn_24, jn_30, jn_31, jn_32, jn_36, jn_48, jn_57, jn_59, jn_60, jn_63, jn_72, jn_73, jn_96, jn_97, jn_100, jn_122, jn_144, jn_200, jn_240, jn_288, jn_512, jn_840, jn_1200, jn_1600, jn_5040, jn_5390, jn_5400, jn_9999, jn_18688, jn_32400, jn_99999, jn_100000, jn_1000000, jn_858993459, jn_1431655765, jn_252645135, jl_0, jl_1, jl_2, jl_3, jl_8, jl_9, jl_10, jl_20, jl_27, jl_47, jl_96, jl_99, jl_100, jl_200, jl_555, jl_2000, jl_10000, jl_12345, jl_65536, jl_99999, jl_131638, jl_240023, jl_298288, jl_383153, jl_1306021, jl_1960084, jl_4147840, jl_8740238, jl_9872299, jl_175252482, jl_291595537, jl_1103515245, jl_2000000000, jl_2147483648, jl_4721686497, jl_7873079139, J_add, J_sub, J_mul, J_neg, JL_add, JL_sub, JL_mul, JL_neg, J_long, JL_int, ↓remI_fold, ↓remL_fold, Int.reduceAdd, Int.reduceSub, Int.reduceMul, Int.reduceNeg, Int.reduceToNat, Classical.not_not, em_t, Bp_eq0, Bp_eq1, Bp_01, Bp_mk, Bp_mk', Bp_0, Bp_0', Bp_1, Bp_1', if_true, if_false, ite_not, hc_0 h, X_isFrom h hi hh9.2 hr hb, J_le, castS, Option.bind_some]
    rw [if_neg (by omega)]
    unfold dn
    rw [show (1 + ((hgt - 1 : Nat) : Int)) = (hgt : Int) by omega, show 1 + (hgt - 1) = hgt by omega]
    split <;> rfl
  · intro n s
    show fX1_comeDown_15 _ _ _ _ _ _ _ _ _ _ = _
    rw [fX1_comeDown_15]
    simp (disch := omega) only [jn_0, jn_1, jn_2, jn_3, jn_4, jn_5, jn_6, jn_8, jn_9, jn_10, jn_11, jn_12, jn_16, jn_20, jn_24, jn_30, jn_31, jn_32, jn_36, jn_48, jn_57, jn_59, jn_60, jn_63, jn_72, jn_73, jn_96, jn_97, jn_100, jn_122, jn_144, jn_200, jn_240, jn_288, jn_512, jn_840, jn_1200, jn_1600, jn_5040, jn_5390, jn_5400, jn_9999, jn_18688, jn_32400, jn_99999, jn_100000, jn_1000000, jn_858993459, jn_1431655765, jn_252645135, jl_0, jl_1, jl_2, jl_3, jl_8, jl_9, jl_10, jl_20, jl_27, jl_47, jl_96, jl_99, jl_100, jl_200, jl_555, jl_2000, jl_10000, jl_12345, jl_65536, jl_99999, jl_131638, jl_240023, jl_298288, jl_383153, jl_1306021, jl_1960084, jl_4147840, jl_8740238, jl_9872299, jl_175252482, jl_291595537, jl_1103515245, jl_2000000000, jl_2147483648, jl_4721686497, jl_7873079139, J_add, J_sub, J_mul, J_neg, JL_add, JL_sub, JL_mul, JL_neg, J_long, JL_int, ↓remI_fold, ↓remL_fold, Int.reduceAdd, Int.reduceSub, Int.reduceMul, Int.reduceNeg, Int.reduceToNat, hc_0 h, J_le, Option.bind_some]
    rw [if_pos (by omega)]
theorem X_comeDown (h : Hc w c th C) (hN : 1000 ≤ N) {b : Int} (hb : -900000 ≤ b ∧ b ≤ 900000) {r : Nat} (hr : r ≤ 9) : fX1_comeDown N w c (J r) (J b) = some (J (cd C r b)) := by
  unfold fX1_comeDown
  have key := lp_sum (fun n i s => fX1_comeDown_5 N w c (J r) (J b) (fun y => some y) n (J s) (J ((1 + i : Nat) : Int))) (fun s => some (J s)) 9 (fun hgt => sm (fun q => dn C r b q hgt) (cR C)) ?_ ?_ N 0 (by omega)
  · rw [Int.zero_add, cd_sw] at key
    exact key
  · intro n i s hi
    show fX1_comeDown_5 _ _ _ _ _ _ _ _ _ = fX1_comeDown_5 _ _ _ _ _ _ _ _ _
    rw [fX1_comeDown_5]
    simp (disch := omega) only [jn_0, jn_1, jn_2, jn_3, jn_4, jn_5, jn_6, jn_8, jn_9, jn_10, jn_11, jn_12, jn_16, jn_20, jn_24, jn_30, jn_31, jn_32, jn_36, jn_48, jn_57, jn_59, jn_60, jn_63, jn_72, jn_73, jn_96, jn_97, jn_100, jn_122, jn_144, jn_200, jn_240, jn_288, jn_512, jn_840, jn_1200, jn_1600, jn_5040, jn_5390, jn_5400, jn_9999, jn_18688, jn_32400, jn_99999, jn_100000, jn_1000000, jn_858993459, jn_1431655765, jn_252645135, jl_0, jl_1, jl_2, jl_3, jl_8, jl_9, jl_10, jl_20, jl_27, jl_47, jl_96, jl_99, jl_100, jl_200, jl_555, jl_2000, jl_10000, jl_12345, jl_65536, jl_99999, jl_131638, jl_240023, jl_298288, jl_383153, jl_1306021, jl_1960084, jl_4147840, jl_8740238, jl_9872299, jl_175252482, jl_291595537, jl_1103515245, jl_2000000000, jl_2147483648, jl_4721686497, jl_7873079139, J_add, J_sub, J_mul, J_neg, JL_add, JL_sub, JL_mul, JL_neg, J_long, JL_int, ↓remI_fold, ↓remL_fold, Int.reduceAdd, Int.reduceSub, Int.reduceMul, Int.reduceNeg, Int.reduceToNat, J_lt]
    rw [if_neg (by omega), X_cd15 h (by omega) hr hb _ (by omega), Option.bind_some, show 1 + i - 1 = i by omega, show ((1 + i : Nat) : Int) + 1 = ((1 + (i + 1) : Nat) : Int) by omega]
  · intro n s
    show fX1_comeDown_5 _ _ _ _ _ _ _ _ _ = _
    rw [fX1_comeDown_5]
    simp (disch := omega) only [jn_0, jn_1, jn_2, jn_3, jn_4, jn_5, jn_6, jn_8, jn_9, jn_10, jn_11, jn_12, jn_16, jn_20, jn_24, jn_30, jn_31, jn_32, jn_36, jn_48, jn_57, jn_59, jn_60, jn_63, jn_72, jn_73, jn_96, jn_97, jn_100, jn_122, jn_144, jn_200, jn_240, jn_288, jn_512, jn_840, jn_1200, jn_1600, jn_5040, jn_5390, jn_5400, jn_9999, jn_18688, jn_32400, jn_99999, jn_100000, jn_1000000, jn_858993459, jn_1431655765, jn_252645135, jl_0, jl_1, jl_2, jl_3, jl_8, jl_9, jl_10, jl_20, jl_27, jl_47, jl_96, jl_99, jl_100, jl_200, jl_555, jl_2000, jl_10000, jl_12345, jl_65536, jl_99999, jl_131638, jl_240023, jl_298288, jl_383153, jl_1306021, jl_1960084, jl_4147840, jl_8740238, jl_9872299, jl_175252482, jl_291595537, jl_1103515245, jl_2000000000, jl_2147483648, jl_4721686497, jl_7873079139, J_add, J_sub, J_mul, J_neg, JL_add, JL_sub, JL_mul, JL_neg, J_long, JL_int, ↓remI_fold, ↓remL_fold, Int.reduceAdd, Int.reduceSub, Int.reduceMul, Int.reduceNeg, Int.reduceToNat, J_lt]
    rw [if_pos (by omega)]
theorem X_isClash (h : Hc w c th C) (hN : 1000 ≤ N) {b : Int} (hb : -900000 ≤ b ∧ b ≤ 900000) {r : Nat} (hr : r < cR C) : fX1_isClash N w c (J r) (J b) = some (Bp (clash C r b = true)) := by
  have hR := cR_le C
  have h1 := hh_le C r b
  have h2 := cd_bd C r b
  unfold fX1_isClash fX1_isClash_24 clash
  simp (disch := omega) only [jn_0, jn_1, jn_2, jn_3, jn_4, jn_5, jn_6, jn_8, jn_9, jn_10, jn_11, jn_12, jn_16, jn_20, jn_24, jn_30, jn_31, jn_32, jn_36, jn_48, jn_57, jn_59, jn_60, jn_63, jn_72, jn_73, jn_96, jn_97, jn_100, jn_122, jn_144, jn_200, jn_240, jn_288, jn_512, jn_840, jn_1200, jn_1600, jn_5040, jn_5390, jn_5400, jn_9999, jn_18688, jn_32400, jn_99999, jn_100000, jn_1000000, jn_858993459, jn_1431655765, jn_252645135, jl_0, jl_1, jl_2, jl_3, jl_8, jl_9, jl_10, jl_20, jl_27, jl_47, jl_96, jl_99, jl_100, jl_200, jl_555, jl_2000, jl_10000, jl_12345, jl_65536, jl_99999, jl_131638, jl_240023, jl_298288, jl_383153, jl_1306021, jl_1960084, jl_4147840, jl_8740238, jl_9872299, jl_175252482, jl_291595537, jl_1103515245, jl_2000000000, jl_2147483648, jl_4721686497, jl_7873079139, J_add, J_sub, J_mul, J_neg, JL_add, JL_sub, JL_mul, JL_neg, J_long, JL_int, ↓remI_fold, ↓remL_fold, Int.reduceAdd, Int.reduceSub, Int.reduceMul, Int.reduceNeg, Int.reduceToNat, J_le, J_lt, J_eq, JL_le, JL_lt, JL_eq, cmp_lt0, cmp_gt0, cmp_le0, cmp_ge0, cmp_eq0, Classical.not_not, em_t, Bp_eq0, Bp_eq1, Bp_01, Bp_mk, Bp_mk', Bp_0, Bp_0', Bp_1, Bp_1', if_true, if_false, ite_not, X_comeDown h hN hb, hc_7 h, hc_at h, ht_k h hr, X_height h hr, Int.toNat_natCast, Option.bind_some, decide_eq_true_iff]
  by_cases h : 0 < hh C r b
  · rw [if_neg (by omega), if_pos h]
  · rw [if_pos (by omega), if_neg h]
theorem X_keeps14 (h : Hc w c th C) (hN : 1000 ≤ N) {b : Nat} (hb : b ≤ 900000) (x : Int32) (k1 k2 : Option Int32) {n : Nat} (hn : 6 < n) : fX1_keeps_14 N w c x (J b) k1 k2 n (J 0) = if clB C b = true then k1 else k2 := by
  have hR := cR_le C
  have key := lp_find (fun n i => fX1_keeps_14 N w c x (J b) k1 k2 n (J (i : Int))) (fun _ => k1) k2 (cR C) (fun r => clash C r b) ?_ ?_ n (by omega)
  · refine Eq.trans key ?_
    unfold clB
    cases fi (fun r => clash C r b) (cR C) <;> rfl
  · intro n i hi
    show fX1_keeps_14 _ _ _ _ _ _ _ _ _ = _
    rw [fX1_keeps_14]
    simp (disch := omega) only [jn_0, jn_1, jn_2, jn_3, jn_4, jn_5, jn_6, jn_8, jn_9, jn_10, jn_11, jn_12, jn_16, jn_20, jn_24, jn_30, jn_31, jn_32, jn_36, jn_48, jn_57, jn_59, jn_60, jn_63, jn_72, jn_73, jn_96, jn_97, jn_100, jn_122, jn_144, jn_200, jn_240, jn_288, jn_512, jn_840, jn_1200, jn_1600, jn_5040, jn_5390, jn_5400, jn_9999, jn_18688, jn_32400, jn_99999, jn_100000, jn_1000000, jn_858993459, jn_1431655765, jn_252645135, jl_0, jl_1, jl_2, jl_3, jl_8, jl_9, jl_10, jl_20, jl_27, jl_47, jl_96, jl_99, jl_100, jl_200, jl_555, jl_2000, jl_10000, jl_12345, jl_65536, jl_99999, jl_131638, jl_240023, jl_298288, jl_383153, jl_1306021, jl_1960084, jl_4147840, jl_8740238, jl_9872299, jl_175252482, jl_291595537, jl_1103515245, jl_2000000000, jl_2147483648, jl_4721686497, jl_7873079139, J_add, J_sub, J_mul, J_neg, JL_add, JL_sub, JL_mul, JL_neg, J_long, JL_int, ↓remI_fold, ↓remL_fold, Int.reduceAdd, Int.reduceSub, Int.reduceMul, Int.reduceNeg, Int.reduceToNat, Classical.not_not, em_t, Bp_eq0, Bp_eq1, Bp_01, Bp_mk, Bp_mk', Bp_0, Bp_0', Bp_1, Bp_1', if_true, if_false, ite_not, hc_0 h, Option.bind_some, J_le, X_isClash h hN _ hi]
    rw [if_neg (by omega)]
    rfl
  · intro n
    show fX1_keeps_14 _ _ _ _ _ _ _ _ _ = _
    rw [fX1_keeps_14]
    simp (disch := omega) only [jn_0, jn_1, jn_2, jn_3, jn_4, jn_5, jn_6, jn_8, jn_9, jn_10, jn_11, jn_12, jn_16, jn_20, jn_24, jn_30, jn_31, jn_32, jn_36, jn_48, jn_57, jn_59, jn_60, jn_63, jn_72, jn_73, jn_96, jn_97, jn_100, jn_122, jn_144, jn_200, jn_240, jn_288, jn_512, jn_840, jn_1200, jn_1600, jn_5040, jn_5390, jn_5400, jn_9999, jn_18688, jn_32400, jn_99999, jn_100000, jn_1000000, jn_858993459, jn_1431655765, jn_252645135, jl_0, jl_1, jl_2, jl_3, jl_8, jl_9, jl_10, jl_20, jl_27, jl_47, jl_96, jl_99, jl_100, jl_200, jl_555, jl_2000, jl_10000, jl_12345, jl_65536, jl_99999, jl_131638, jl_240023, jl_298288, jl_383153, jl_1306021, jl_1960084, jl_4147840, jl_8740238, jl_9872299, jl_175252482, jl_291595537, jl_1103515245, jl_2000000000, jl_2147483648, jl_4721686497, jl_7873079139, J_add, J_sub, J_mul, J_neg, JL_add, JL_sub, JL_mul, JL_neg, J_long, JL_int, ↓remI_fold, ↓remL_fold, Int.reduceAdd, Int.reduceSub, Int.reduceMul, Int.reduceNeg, Int.reduceToNat, hc_0 h, Option.bind_some, J_le]
    rw [if_pos (by omega)]
theorem X_keepsC (h : Hc w c th C) (hN : 1000 ≤ N) : fX1_keeps N w c = some (Bp (kp C = true)) := by
  have hp := rnd_bd C
  unfold fX1_keeps
  rw [X_round h hN, Option.bind_some]
  have key := lp_find (fun n i => fX1_keeps_7 N w c (J (rnd C)) (some (J 0)) (some (J 1)) n (J (i : Int))) (fun _ => some (J 0)) (some (J 1)) (rnd C) (clB C) ?_ ?_ N (by omega)
  · refine Eq.trans key ?_
    unfold kp
    cases fi (clB C) (rnd C) <;> rfl
  · intro n i hi
    show fX1_keeps_7 _ _ _ _ _ _ _ _ = _
    rw [fX1_keeps_7]
    simp (disch := omega) only [jn_0, jn_1, jn_2, jn_3, jn_4, jn_5, jn_6, jn_8, jn_9, jn_10, jn_11, jn_12, jn_16, jn_20, jn_24, jn_30, jn_31, jn_32, jn_36, jn_48, jn_57, jn_59, jn_60, jn_63, jn_72, jn_73, jn_96, jn_97, jn_100, jn_122, jn_144, jn_200, jn_240, jn_288, jn_512, jn_840, jn_1200, jn_1600, jn_5040, jn_5390, jn_5400, jn_9999, jn_18688, jn_32400, jn_99999, jn_100000, jn_1000000, jn_858993459, jn_1431655765, jn_252645135, jl_0, jl_1, jl_2, jl_3, jl_8, jl_9, jl_10, jl_20, jl_27, jl_47, jl_96, jl_99, jl_100, jl_200, jl_555, jl_2000, jl_10000, jl_12345, jl_65536, jl_99999, jl_131638, jl_240023, jl_298288, jl_383153, jl_1306021, jl_1960084, jl_4147840, jl_8740238, jl_9872299, jl_175252482, jl_291595537, jl_1103515245, jl_2000000000, jl_2147483648, jl_4721686497, jl_7873079139, J_add, J_sub, J_mul, J_neg, JL_add, JL_sub, JL_mul, JL_neg, J_long, JL_int, ↓remI_fold, ↓remL_fold, Int.reduceAdd, Int.reduceSub, Int.reduceMul, Int.reduceNeg, Int.reduceToNat, J_le, Option.bind_some]
    rw [if_neg (by omega), X_keeps14 h hN (by omega) _ _ _ (by omega)]
    rfl
  · intro n
    show fX1_keeps_7 _ _ _ _ _ _ _ _ = _
    rw [fX1_keeps_7]
    simp (disch := omega) only [jn_0, jn_1, jn_2, jn_3, jn_4, jn_5, jn_6, jn_8, jn_9, jn_10, jn_11, jn_12, jn_16, jn_20, jn_24, jn_30, jn_31, jn_32, jn_36, jn_48, jn_57, jn_59, jn_60, jn_63, jn_72, jn_73, jn_96, jn_97, jn_100, jn_122, jn_144, jn_200, jn_240, jn_288, jn_512, jn_840, jn_1200, jn_1600, jn_5040, jn_5390, jn_5400, jn_9999, jn_18688, jn_32400, jn_99999, jn_100000, jn_1000000, jn_858993459, jn_1431655765, jn_252645135, jl_0, jl_1, jl_2, jl_3, jl_8, jl_9, jl_10, jl_20, jl_27, jl_47, jl_96, jl_99, jl_100, jl_200, jl_555, jl_2000, jl_10000, jl_12345, jl_65536, jl_99999, jl_131638, jl_240023, jl_298288, jl_383153, jl_1306021, jl_1960084, jl_4147840, jl_8740238, jl_9872299, jl_175252482, jl_291595537, jl_1103515245, jl_2000000000, jl_2147483648, jl_4721686497, jl_7873079139, J_add, J_sub, J_mul, J_neg, JL_add, JL_sub, JL_mul, JL_neg, J_long, JL_int, ↓remI_fold, ↓remL_fold, Int.reduceAdd, Int.reduceSub, Int.reduceMul, Int.reduceNeg, Int.reduceToNat, J_le]
    rw [if_pos (by omega)]
def bsum (C : Cy) (b : Int) : Int := sm (fun r => (hh C r b : Int)) (cR C)
theorem bsum_bd (C : Cy) (b : Int) : 0 ≤ bsum C b ∧ bsum C b ≤ 54 := by
  have hR := cR_le C
  have := sm_bd (fun r => (hh C r b : Int)) (cR C) 0 9 (fun r _ => by have := hh_le C r b; omega)
  unfold bsum; omega
def bls (C : Cy) : Int := sm (fun b => bsum C b) (rnd C) / rnd C
theorem bls_bd (C : Cy) : 0 ≤ sm (fun b => bsum C b) (rnd C) ∧ sm (fun b => bsum C b) (rnd C) ≤ 45360 := by
  have hp := rnd_bd C
  have := sm_bd (fun b : Nat => bsum C b) (rnd C) 0 54 (fun b _ => bsum_bd C b)
  omega
theorem X_b17 (h : Hc w c th C) {b : Int} (hb : -900000 ≤ b ∧ b ≤ 900000) (x : Int32) (k : Int32 → Option Int32) {n : Nat} (hn : 6 < n) (s : Int) : fX1_balls_17 N w c x (J b) k n (J s) (J 0) = k (J (s + bsum C b)) := by
  have hR := cR_le C
  have key := lp_sum (fun n i s => fX1_balls_17 N w c x (J b) k n (J s) (J (i : Int))) (fun s => k (J s)) (cR C) (fun r => (hh C r b : Int)) ?_ ?_ n s (by omega)
  · exact key
  · intro n i s hi
    show fX1_balls_17 _ _ _ _ _ _ _ _ _ = fX1_balls_17 _ _ _ _ _ _ _ _ _
    rw [fX1_balls_17]
    simp (disch := omega) only [jn_0, jn_1, jn_2, jn_3, jn_4, jn_5, jn_6, jn_8, jn_9, jn_10, jn_11, jn_12, jn_16, jn_20, jn_24, jn_30, jn_31, jn_32, jn_36, jn_48, jn_57, jn_59, jn_60, jn_63, jn_72, jn_73, jn_96, jn_97, jn_100, jn_122, jn_144, jn_200, jn_240, jn_288, jn_512, jn_840, jn_1200, jn_1600, jn_5040, jn_5390, jn_5400, jn_9999, jn_18688, jn_32400, jn_99999, jn_100000, jn_1000000, jn_858993459, jn_1431655765, jn_252645135, jl_0, jl_1, jl_2, jl_3, jl_8, jl_9, jl_10, jl_20, jl_27, jl_47, jl_96, jl_99, jl_100, jl_200, jl_555, jl_2000, jl_10000, jl_12345, jl_65536, jl_99999, jl_131638, jl_240023, jl_298288, jl_383153, jl_1306021, jl_1960084, jl_4147840, jl_8740238, jl_9872299, jl_175252482, jl_291595537, jl_1103515245, jl_2000000000, jl_2147483648, jl_4721686497, jl_7873079139, J_add, J_sub, J_mul, J_neg, JL_add, JL_sub, JL_mul, JL_neg, J_long, JL_int, ↓remI_fold, ↓remL_fold, Int.reduceAdd, Int.reduceSub, Int.reduceMul, Int.reduceNeg, Int.reduceToNat, hc_0 h, hc_7 h, hc_at h, ht_k h hi, X_height h hi, Int.toNat_natCast, J_le, castS, Option.bind_some]
    rw [if_neg (by omega)]
  · intro n s
    show fX1_balls_17 _ _ _ _ _ _ _ _ _ = _
    rw [fX1_balls_17]
    simp (disch := omega) only [jn_0, jn_1, jn_2, jn_3, jn_4, jn_5, jn_6, jn_8, jn_9, jn_10, jn_11, jn_12, jn_16, jn_20, jn_24, jn_30, jn_31, jn_32, jn_36, jn_48, jn_57, jn_59, jn_60, jn_63, jn_72, jn_73, jn_96, jn_97, jn_100, jn_122, jn_144, jn_200, jn_240, jn_288, jn_512, jn_840, jn_1200, jn_1600, jn_5040, jn_5390, jn_5400, jn_9999, jn_18688, jn_32400, jn_99999, jn_100000, jn_1000000, jn_858993459, jn_1431655765, jn_252645135, jl_0, jl_1, jl_2, jl_3, jl_8, jl_9, jl_10, jl_20, jl_27, jl_47, jl_96, jl_99, jl_100, jl_200, jl_555, jl_2000, jl_10000, jl_12345, jl_65536, jl_99999, jl_131638, jl_240023, jl_298288, jl_383153, jl_1306021, jl_1960084, jl_4147840, jl_8740238, jl_9872299, jl_175252482, jl_291595537, jl_1103515245, jl_2000000000, jl_2147483648, jl_4721686497, jl_7873079139, J_add, J_sub, J_mul, J_neg, JL_add, JL_sub, JL_mul, JL_neg, J_long, JL_int, ↓remI_fold, ↓remL_fold, Int.reduceAdd, Int.reduceSub, Int.reduceMul, Int.reduceNeg, Int.reduceToNat, hc_0 h, J_le, Option.bind_some]
    rw [if_pos (by omega)]
theorem X_ballsC (h : Hc w c th C) (hN : 1000 ≤ N) : fX1_balls N w c = some (J (bls C)) := by
  have hp := rnd_bd C
  have hR := cR_le C
  have hs := bls_bd C
  unfold fX1_balls
  rw [X_round h hN, Option.bind_some]
  have key := lp_sum (fun n i s => fX1_balls_9 N w c (J (rnd C)) (fun y11 => if J (rnd C) = 0 then none else some (y11 / J (rnd C))) n (J s) (J (i : Int))) (fun s => (fun y11 => if J (rnd C) = 0 then none else some (y11 / J (rnd C))) (J s)) (rnd C) (fun b => bsum C b) ?_ ?_ N 0 (by omega)
  · refine Eq.trans key ?_
    rw [Int.zero_add]
    simp (disch := omega) only [jn_0, jn_1, jn_2, jn_3, jn_4, jn_5, jn_6, jn_8, jn_9, jn_10, jn_11, jn_12, jn_16, jn_20, jn_24, jn_30, jn_31, jn_32, jn_36, jn_48, jn_57, jn_59, jn_60, jn_63, jn_72, jn_73, jn_96, jn_97, jn_100, jn_122, jn_144, jn_200, jn_240, jn_288, jn_512, jn_840, jn_1200, jn_1600, jn_5040, jn_5390, jn_5400, jn_9999, jn_18688, jn_32400, jn_99999, jn_100000, jn_1000000, jn_858993459, jn_1431655765, jn_252645135, jl_0, jl_1, jl_2, jl_3, jl_8, jl_9, jl_10, jl_20, jl_27, jl_47, jl_96, jl_99, jl_100, jl_200, jl_555, jl_2000, jl_10000, jl_12345, jl_65536, jl_99999, jl_131638, jl_240023, jl_298288, jl_383153, jl_1306021, jl_1960084, jl_4147840, jl_8740238, jl_9872299, jl_175252482, jl_291595537, jl_1103515245, jl_2000000000, jl_2147483648, jl_4721686497, jl_7873079139, J_add, J_sub, J_mul, J_neg, JL_add, JL_sub, JL_mul, JL_neg, J_long, JL_int, ↓remI_fold, ↓remL_fold, Int.reduceAdd, Int.reduceSub, Int.reduceMul, Int.reduceNeg, Int.reduceToNat, J_eq, J_div]
    rw [if_neg (by omega)]; rfl
  · intro n i s hi
    show fX1_balls_9 _ _ _ _ _ _ _ _ = fX1_balls_9 _ _ _ _ _ _ _ _
    rw [fX1_balls_9]
    simp (disch := omega) only [jn_0, jn_1, jn_2, jn_3, jn_4, jn_5, jn_6, jn_8, jn_9, jn_10, jn_11, jn_12, jn_16, jn_20, jn_24, jn_30, jn_31, jn_32, jn_36, jn_48, jn_57, jn_59, jn_60, jn_63, jn_72, jn_73, jn_96, jn_97, jn_100, jn_122, jn_144, jn_200, jn_240, jn_288, jn_512, jn_840, jn_1200, jn_1600, jn_5040, jn_5390, jn_5400, jn_9999, jn_18688, jn_32400, jn_99999, jn_100000, jn_1000000, jn_858993459, jn_1431655765, jn_252645135, jl_0, jl_1, jl_2, jl_3, jl_8, jl_9, jl_10, jl_20, jl_27, jl_47, jl_96, jl_99, jl_100, jl_200, jl_555, jl_2000, jl_10000, jl_12345, jl_65536, jl_99999, jl_131638, jl_240023, jl_298288, jl_383153, jl_1306021, jl_1960084, jl_4147840, jl_8740238, jl_9872299, jl_175252482, jl_291595537, jl_1103515245, jl_2000000000, jl_2147483648, jl_4721686497, jl_7873079139, J_add, J_sub, J_mul, J_neg, JL_add, JL_sub, JL_mul, JL_neg, J_long, JL_int, ↓remI_fold, ↓remL_fold, Int.reduceAdd, Int.reduceSub, Int.reduceMul, Int.reduceNeg, Int.reduceToNat, J_le, castS, Option.bind_some]
    rw [if_neg (by omega), X_b17 h (by omega) _ _ (by omega)]
  · intro n s
    show fX1_balls_9 _ _ _ _ _ _ _ _ = _
    rw [fX1_balls_9]
    simp (disch := omega) only [jn_0, jn_1, jn_2, jn_3, jn_4, jn_5, jn_6, jn_8, jn_9, jn_10, jn_11, jn_12, jn_16, jn_20, jn_24, jn_30, jn_31, jn_32, jn_36, jn_48, jn_57, jn_59, jn_60, jn_63, jn_72, jn_73, jn_96, jn_97, jn_100, jn_122, jn_144, jn_200, jn_240, jn_288, jn_512, jn_840, jn_1200, jn_1600, jn_5040, jn_5390, jn_5400, jn_9999, jn_18688, jn_32400, jn_99999, jn_100000, jn_1000000, jn_858993459, jn_1431655765, jn_252645135, jl_0, jl_1, jl_2, jl_3, jl_8, jl_9, jl_10, jl_20, jl_27, jl_47, jl_96, jl_99, jl_100, jl_200, jl_555, jl_2000, jl_10000, jl_12345, jl_65536, jl_99999, jl_131638, jl_240023, jl_298288, jl_383153, jl_1306021, jl_1960084, jl_4147840, jl_8740238, jl_9872299, jl_175252482, jl_291595537, jl_1103515245, jl_2000000000, jl_2147483648, jl_4721686497, jl_7873079139, J_add, J_sub, J_mul, J_neg, JL_add, JL_sub, JL_mul, JL_neg, J_long, JL_int, ↓remI_fold, ↓remL_fold, Int.reduceAdd, Int.reduceSub, Int.reduceMul, Int.reduceNeg, Int.reduceToNat, J_le]
    rw [if_pos (by omega)]
end
