/-! the component: questions about rows -/
set_option maxRecDepth 100000
section
variable {N o c : Nat} {w : Wd} {C : Cy} {th : Nat → Nat}
theorem J_and1 {b : Int} (h : 0 ≤ b) : J b &&& J 1 = J (b % 2) := by
  obtain ⟨n, hn⟩ : ∃ n : Nat, b = n := ⟨b.toNat, by omega⟩
  subst hn
  have := J_and n 1
  rw [Nat.and_one_is_mod] at this
  exact this
theorem X_isCity (hg : gR w [0] o 0 = some c) (h : Hc w c th C) : fX0_isCity N w o = some (Bp (0 < cR C)) := by
  have hR := cR_le C
  unfold fX0_isCity
  simp (disch := omega) only [jn_0, jn_1, jn_2, jn_3, jn_4, jn_5, jn_6, jn_8, jn_9, jn_10, jn_11, jn_12, jn_16, jn_20, jn_24, jn_30, jn_31, jn_32, jn_36, jn_48, jn_57, jn_59, jn_60, jn_63, jn_72, jn_73, jn_96, jn_97, jn_100, jn_122, jn_144, jn_200, jn_240, jn_288, jn_512, jn_840, jn_1200, jn_1600, jn_5040, jn_5390, jn_5400, jn_9999, jn_18688, jn_32400, jn_99999, jn_100000, jn_1000000, jn_858993459, jn_1431655765, jn_252645135, jl_0, jl_1, jl_2, jl_3, jl_8, jl_9, jl_10, jl_20, jl_27, jl_47, jl_96, jl_99, jl_100, jl_200, jl_555, jl_2000, jl_10000, jl_12345, jl_65536, jl_99999, jl_131638, jl_240023, jl_298288, jl_383153, jl_1306021, jl_1960084, jl_4147840, jl_8740238, jl_9872299, jl_175252482, jl_291595537, jl_1103515245, jl_2000000000, jl_2147483648, jl_4721686497, jl_7873079139, J_add, J_sub, J_mul, J_neg, JL_add, JL_sub, JL_mul, JL_neg, J_long, JL_int, ↓remI_fold, ↓remL_fold, Int.reduceAdd, Int.reduceSub, Int.reduceMul, Int.reduceNeg, Int.reduceToNat, Classical.not_not, em_t, Bp_eq0, Bp_eq1, Bp_01, Bp_mk, Bp_mk', Bp_0, Bp_0', Bp_1, Bp_1', if_true, if_false, ite_not, hg, hc_0 h, hc_1 h, hc_2 h, hc_3 h, hc_4 h, hc_5 h, hc_7 h, hc_8 h, hc_9 h, hc_10 h, hc_11 h, hc_12 h, hc_k h, hc_at h, Int.toNat_natCast, J_le, Option.bind_some]
  congr 1; apply Bp_congr; omega
theorem X_isRoof (hg : gR w [0] o 0 = some c) (h : Hc w c th C) {v : Int} (hv : -2147483648 ≤ v ∧ v ≤ 2147483647) : fX0_isRoof N w o (J v) = some (Bp (0 ≤ v ∧ v < cR C)) := by
  have hR := cR_le C
  unfold fX0_isRoof
  simp (disch := omega) only [jn_0, jn_1, jn_2, jn_3, jn_4, jn_5, jn_6, jn_8, jn_9, jn_10, jn_11, jn_12, jn_16, jn_20, jn_24, jn_30, jn_31, jn_32, jn_36, jn_48, jn_57, jn_59, jn_60, jn_63, jn_72, jn_73, jn_96, jn_97, jn_100, jn_122, jn_144, jn_200, jn_240, jn_288, jn_512, jn_840, jn_1200, jn_1600, jn_5040, jn_5390, jn_5400, jn_9999, jn_18688, jn_32400, jn_99999, jn_100000, jn_1000000, jn_858993459, jn_1431655765, jn_252645135, jl_0, jl_1, jl_2, jl_3, jl_8, jl_9, jl_10, jl_20, jl_27, jl_47, jl_96, jl_99, jl_100, jl_200, jl_555, jl_2000, jl_10000, jl_12345, jl_65536, jl_99999, jl_131638, jl_240023, jl_298288, jl_383153, jl_1306021, jl_1960084, jl_4147840, jl_8740238, jl_9872299, jl_175252482, jl_291595537, jl_1103515245, jl_2000000000, jl_2147483648, jl_4721686497, jl_7873079139, J_add, J_sub, J_mul, J_neg, JL_add, JL_sub, JL_mul, JL_neg, J_long, JL_int, ↓remI_fold, ↓remL_fold, Int.reduceAdd, Int.reduceSub, Int.reduceMul, Int.reduceNeg, Int.reduceToNat, Classical.not_not, em_t, Bp_eq0, Bp_eq1, Bp_01, Bp_mk, Bp_mk', Bp_0, Bp_0', Bp_1, Bp_1', if_true, if_false, ite_not, hg, hc_0 h, hc_1 h, hc_2 h, hc_3 h, hc_4 h, hc_5 h, hc_7 h, hc_8 h, hc_9 h, hc_10 h, hc_11 h, hc_12 h, hc_k h, hc_at h, Int.toNat_natCast, X_in, Option.bind_some]
  congr 1; apply Bp_congr; omega
theorem X_isLetter (hg : gR w [0] o 0 = some c) (h : Hc w c th C) {v : Int} (hv : -2147483648 ≤ v ∧ v ≤ 2147483647) : fX0_isLetter N w o (J v) = some (Bp (0 ≤ v ∧ v < cN C)) := by
  have hR := cN_le C
  unfold fX0_isLetter
  simp (disch := omega) only [jn_0, jn_1, jn_2, jn_3, jn_4, jn_5, jn_6, jn_8, jn_9, jn_10, jn_11, jn_12, jn_16, jn_20, jn_24, jn_30, jn_31, jn_32, jn_36, jn_48, jn_57, jn_59, jn_60, jn_63, jn_72, jn_73, jn_96, jn_97, jn_100, jn_122, jn_144, jn_200, jn_240, jn_288, jn_512, jn_840, jn_1200, jn_1600, jn_5040, jn_5390, jn_5400, jn_9999, jn_18688, jn_32400, jn_99999, jn_100000, jn_1000000, jn_858993459, jn_1431655765, jn_252645135, jl_0, jl_1, jl_2, jl_3, jl_8, jl_9, jl_10, jl_20, jl_27, jl_47, jl_96, jl_99, jl_100, jl_200, jl_555, jl_2000, jl_10000, jl_12345, jl_65536, jl_99999, jl_131638, jl_240023, jl_298288, jl_383153, jl_1306021, jl_1960084, jl_4147840, jl_8740238, jl_9872299, jl_175252482, jl_291595537, jl_1103515245, jl_2000000000, jl_2147483648, jl_4721686497, jl_7873079139, J_add, J_sub, J_mul, J_neg, JL_add, JL_sub, JL_mul, JL_neg, J_long, JL_int, ↓remI_fold, ↓remL_fold, Int.reduceAdd, Int.reduceSub, Int.reduceMul, Int.reduceNeg, Int.reduceToNat, Classical.not_not, em_t, Bp_eq0, Bp_eq1, Bp_01, Bp_mk, Bp_mk', Bp_0, Bp_0', Bp_1, Bp_1', if_true, if_false, ite_not, hg, hc_0 h, hc_1 h, hc_2 h, hc_3 h, hc_4 h, hc_5 h, hc_7 h, hc_8 h, hc_9 h, hc_10 h, hc_11 h, hc_12 h, hc_k h, hc_at h, Int.toNat_natCast, X_in, Option.bind_some]
  congr 1; apply Bp_congr; omega
theorem X_isThrow (hg : gR w [0] o 0 = some c) (h : Hc w c th C) {v i : Int} (hv : -2147483648 ≤ v ∧ v ≤ 2147483647) (hi : -2147483648 ≤ i ∧ i ≤ 2147483647) : fX0_isThrow N w o (J v) (J i) = some (Bp ((0 ≤ v ∧ v < cR C) ∧ 0 ≤ i ∧ i < cP C v.toNat)) := by
  have hR := cR_le C
  have hP := cP_bd C v.toNat
  unfold fX0_isThrow
  simp (disch := omega) only [jn_0, jn_1, jn_2, jn_3, jn_4, jn_5, jn_6, jn_8, jn_9, jn_10, jn_11, jn_12, jn_16, jn_20, jn_24, jn_30, jn_31, jn_32, jn_36, jn_48, jn_57, jn_59, jn_60, jn_63, jn_72, jn_73, jn_96, jn_97, jn_100, jn_122, jn_144, jn_200, jn_240, jn_288, jn_512, jn_840, jn_1200, jn_1600, jn_5040, jn_5390, jn_5400, jn_9999, jn_18688, jn_32400, jn_99999, jn_100000, jn_1000000, jn_858993459, jn_1431655765, jn_252645135, jl_0, jl_1, jl_2, jl_3, jl_8, jl_9, jl_10, jl_20, jl_27, jl_47, jl_96, jl_99, jl_100, jl_200, jl_555, jl_2000, jl_10000, jl_12345, jl_65536, jl_99999, jl_131638, jl_240023, jl_298288, jl_383153, jl_1306021, jl_1960084, jl_4147840, jl_8740238, jl_9872299, jl_175252482, jl_291595537, jl_1103515245, jl_2000000000, jl_2147483648, jl_4721686497, jl_7873079139, J_add, J_sub, J_mul, J_neg, JL_add, JL_sub, JL_mul, JL_neg, J_long, JL_int, ↓remI_fold, ↓remL_fold, Int.reduceAdd, Int.reduceSub, Int.reduceMul, Int.reduceNeg, Int.reduceToNat, X_isRoof hg h, Option.bind_some, Classical.not_not, em_t, Bp_eq0, Bp_eq1, Bp_01, Bp_mk, Bp_mk', Bp_0, Bp_0', Bp_1, Bp_1', if_true, if_false, ite_not]
  by_cases hv : 0 ≤ v ∧ v < cR C
  · have hr : v.toNat < cR C := by omega
    simp (disch := omega) only [hv, if_true, true_and, and_self, jn_0, jn_1, jn_2, jn_3, jn_4, jn_5, jn_6, jn_8, jn_9, jn_10, jn_11, jn_12, jn_16, jn_20, jn_24, jn_30, jn_31, jn_32, jn_36, jn_48, jn_57, jn_59, jn_60, jn_63, jn_72, jn_73, jn_96, jn_97, jn_100, jn_122, jn_144, jn_200, jn_240, jn_288, jn_512, jn_840, jn_1200, jn_1600, jn_5040, jn_5390, jn_5400, jn_9999, jn_18688, jn_32400, jn_99999, jn_100000, jn_1000000, jn_858993459, jn_1431655765, jn_252645135, jl_0, jl_1, jl_2, jl_3, jl_8, jl_9, jl_10, jl_20, jl_27, jl_47, jl_96, jl_99, jl_100, jl_200, jl_555, jl_2000, jl_10000, jl_12345, jl_65536, jl_99999, jl_131638, jl_240023, jl_298288, jl_383153, jl_1306021, jl_1960084, jl_4147840, jl_8740238, jl_9872299, jl_175252482, jl_291595537, jl_1103515245, jl_2000000000, jl_2147483648, jl_4721686497, jl_7873079139, J_add, J_sub, J_mul, J_neg, JL_add, JL_sub, JL_mul, JL_neg, J_long, JL_int, ↓remI_fold, ↓remL_fold, Int.reduceAdd, Int.reduceSub, Int.reduceMul, Int.reduceNeg, Int.reduceToNat, hg, hc_0 h, hc_1 h, hc_2 h, hc_3 h, hc_4 h, hc_5 h, hc_7 h, hc_8 h, hc_9 h, hc_10 h, hc_11 h, hc_12 h, hc_k h, hc_at h, Int.toNat_natCast, ht_3 h hr, X_in, Option.bind_some, Classical.not_not, em_t, Bp_eq0, Bp_eq1, Bp_01, Bp_mk, Bp_mk', Bp_0, Bp_0', Bp_1, Bp_1', if_true, if_false, ite_not]
    congr 1; apply Bp_congr; omega
  · rw [if_neg hv, Bp_f (fun h => hv h.1)]
theorem X_keeps (hg : gR w [0] o 0 = some c) (h : Hc w c th C) (hN : 1000000 ≤ N) : fX0_keeps N w o = some (J (sp_keeps C)) := by
  unfold fX0_keeps sp_keeps
  simp (disch := omega) only [jn_0, jn_1, jn_2, jn_3, jn_4, jn_5, jn_6, jn_8, jn_9, jn_10, jn_11, jn_12, jn_16, jn_20, jn_24, jn_30, jn_31, jn_32, jn_36, jn_48, jn_57, jn_59, jn_60, jn_63, jn_72, jn_73, jn_96, jn_97, jn_100, jn_122, jn_144, jn_200, jn_240, jn_288, jn_512, jn_840, jn_1200, jn_1600, jn_5040, jn_5390, jn_5400, jn_9999, jn_18688, jn_32400, jn_99999, jn_100000, jn_1000000, jn_858993459, jn_1431655765, jn_252645135, jl_0, jl_1, jl_2, jl_3, jl_8, jl_9, jl_10, jl_20, jl_27, jl_47, jl_96, jl_99, jl_100, jl_200, jl_555, jl_2000, jl_10000, jl_12345, jl_65536, jl_99999, jl_131638, jl_240023, jl_298288, jl_383153, jl_1306021, jl_1960084, jl_4147840, jl_8740238, jl_9872299, jl_175252482, jl_291595537, jl_1103515245, jl_2000000000, jl_2147483648, jl_4721686497, jl_7873079139, J_add, J_sub, J_mul, J_neg, JL_add, JL_sub, JL_mul, JL_neg, J_long, JL_int, ↓remI_fold, ↓remL_fold, Int.reduceAdd, Int.reduceSub, Int.reduceMul, Int.reduceNeg, Int.reduceToNat, Classical.not_not, em_t, Bp_eq0, Bp_eq1, Bp_01, Bp_mk, Bp_mk', Bp_0, Bp_0', Bp_1, Bp_1', if_true, if_false, ite_not, hg, hc_0 h, hc_1 h, hc_2 h, hc_3 h, hc_4 h, hc_5 h, hc_7 h, hc_8 h, hc_9 h, hc_10 h, hc_11 h, hc_12 h, hc_k h, hc_at h, Int.toNat_natCast, X_isCity hg h, X_keepsC h, Option.bind_some]
  by_cases h1 : 0 < cR C
  case neg => simp only [if_neg h1, ite_self]
  simp only [if_pos h1]
  by_cases h2 : kp C = true
  · rw [Bp_t h2, if_pos h2]
  · rw [Bp_f h2, if_neg h2]
theorem X_balls (hg : gR w [0] o 0 = some c) (h : Hc w c th C) (hN : 1000000 ≤ N) : fX0_balls N w o = some (J (sp_balls C)) := by
  unfold fX0_balls sp_balls
  simp (disch := omega) only [jn_0, jn_1, jn_2, jn_3, jn_4, jn_5, jn_6, jn_8, jn_9, jn_10, jn_11, jn_12, jn_16, jn_20, jn_24, jn_30, jn_31, jn_32, jn_36, jn_48, jn_57, jn_59, jn_60, jn_63, jn_72, jn_73, jn_96, jn_97, jn_100, jn_122, jn_144, jn_200, jn_240, jn_288, jn_512, jn_840, jn_1200, jn_1600, jn_5040, jn_5390, jn_5400, jn_9999, jn_18688, jn_32400, jn_99999, jn_100000, jn_1000000, jn_858993459, jn_1431655765, jn_252645135, jl_0, jl_1, jl_2, jl_3, jl_8, jl_9, jl_10, jl_20, jl_27, jl_47, jl_96, jl_99, jl_100, jl_200, jl_555, jl_2000, jl_10000, jl_12345, jl_65536, jl_99999, jl_131638, jl_240023, jl_298288, jl_383153, jl_1306021, jl_1960084, jl_4147840, jl_8740238, jl_9872299, jl_175252482, jl_291595537, jl_1103515245, jl_2000000000, jl_2147483648, jl_4721686497, jl_7873079139, J_add, J_sub, J_mul, J_neg, JL_add, JL_sub, JL_mul, JL_neg, J_long, JL_int, ↓remI_fold, ↓remL_fold, Int.reduceAdd, Int.reduceSub, Int.reduceMul, Int.reduceNeg, Int.reduceToNat, Classical.not_not, em_t, Bp_eq0, Bp_eq1, Bp_01, Bp_mk, Bp_mk', Bp_0, Bp_0', Bp_1, Bp_1', if_true, if_false, ite_not, hg, hc_0 h, hc_1 h, hc_2 h, hc_3 h, hc_4 h, hc_5 h, hc_7 h, hc_8 h, hc_9 h, hc_10 h, hc_11 h, hc_12 h, hc_k h, hc_at h, Int.toNat_natCast, X_isCity hg h, X_keepsC h, X_ballsC h, Option.bind_some]
  by_cases h1 : 0 < cR C
  case neg => simp only [if_neg h1, ite_self]
  simp only [if_pos h1]
  by_cases h2 : kp C = true
  case neg => simp only [if_neg h2, ite_self]
  simp only [if_pos h2]
theorem X_hand (h : Hc w c th C) {r : Nat} (hr : r < cR C) {b : Int} (hb : 0 ≤ b ∧ b ≤ 1000000) : dX2_hand N w (kc (cK C r)) (th r) (J b) = some (J (if cK C r = 1 then 1 - b % 2 else b % 2)) := by
  have hK := cK_le C r
  unfold dX2_hand fX8_hand fX2_hand
  by_cases h1 : cK C r = 1
  · have hk := ht_k h hr
    have he : w (th r) = some (.inr (8, [.int (J r), .ref (th r + 1), .ref (th r + 2), .int (J (cP C r))])) := by
      have := (h.2.2.2.2.2.2.2 r hr).1
      rw [h1] at this; exact this
    rw [if_pos (by rw [h1]; rfl), if_pos h1, ckC_of he (by decide)]
    simp (disch := omega) only [jn_0, jn_1, jn_2, jn_3, jn_4, jn_5, jn_6, jn_8, jn_9, jn_10, jn_11, jn_12, jn_16, jn_20, jn_24, jn_30, jn_31, jn_32, jn_36, jn_48, jn_57, jn_59, jn_60, jn_63, jn_72, jn_73, jn_96, jn_97, jn_100, jn_122, jn_144, jn_200, jn_240, jn_288, jn_512, jn_840, jn_1200, jn_1600, jn_5040, jn_5390, jn_5400, jn_9999, jn_18688, jn_32400, jn_99999, jn_100000, jn_1000000, jn_858993459, jn_1431655765, jn_252645135, jl_0, jl_1, jl_2, jl_3, jl_8, jl_9, jl_10, jl_20, jl_27, jl_47, jl_96, jl_99, jl_100, jl_200, jl_555, jl_2000, jl_10000, jl_12345, jl_65536, jl_99999, jl_131638, jl_240023, jl_298288, jl_383153, jl_1306021, jl_1960084, jl_4147840, jl_8740238, jl_9872299, jl_175252482, jl_291595537, jl_1103515245, jl_2000000000, jl_2147483648, jl_4721686497, jl_7873079139, J_add, J_sub, J_mul, J_neg, JL_add, JL_sub, JL_mul, JL_neg, J_long, JL_int, ↓remI_fold, ↓remL_fold, Int.reduceAdd, Int.reduceSub, Int.reduceMul, Int.reduceNeg, Int.reduceToNat, J_and1, Option.bind_some]
  · have : kc (cK C r) ≠ 8 := by
      have : cK C r = 0 ∨ cK C r = 2 ∨ cK C r = 3 ∨ cK C r = 4 := by omega
      rcases this with h | h | h | h <;> rw [h] <;> decide
    rw [if_neg this, if_neg h1]
    simp (disch := omega) only [jn_0, jn_1, jn_2, jn_3, jn_4, jn_5, jn_6, jn_8, jn_9, jn_10, jn_11, jn_12, jn_16, jn_20, jn_24, jn_30, jn_31, jn_32, jn_36, jn_48, jn_57, jn_59, jn_60, jn_63, jn_72, jn_73, jn_96, jn_97, jn_100, jn_122, jn_144, jn_200, jn_240, jn_288, jn_512, jn_840, jn_1200, jn_1600, jn_5040, jn_5390, jn_5400, jn_9999, jn_18688, jn_32400, jn_99999, jn_100000, jn_1000000, jn_858993459, jn_1431655765, jn_252645135, jl_0, jl_1, jl_2, jl_3, jl_8, jl_9, jl_10, jl_20, jl_27, jl_47, jl_96, jl_99, jl_100, jl_200, jl_555, jl_2000, jl_10000, jl_12345, jl_65536, jl_99999, jl_131638, jl_240023, jl_298288, jl_383153, jl_1306021, jl_1960084, jl_4147840, jl_8740238, jl_9872299, jl_175252482, jl_291595537, jl_1103515245, jl_2000000000, jl_2147483648, jl_4721686497, jl_7873079139, J_add, J_sub, J_mul, J_neg, JL_add, JL_sub, JL_mul, JL_neg, J_long, JL_int, ↓remI_fold, ↓remL_fold, Int.reduceAdd, Int.reduceSub, Int.reduceMul, Int.reduceNeg, Int.reduceToNat, J_and1, Option.bind_some]
theorem X_better {r : Nat} : dX2_better N w (kc (cK C r)) (th r) = some (J (if cK C r = 1 then 1 else 0)) := by
  have hK := cK_le C r
  unfold dX2_better fX8_better fX2_better
  have : cK C r = 0 ∨ cK C r = 1 ∨ cK C r = 2 ∨ cK C r = 3 ∨ cK C r = 4 := by omega
  rcases this with h | h | h | h | h <;> rw [h] <;> rfl
theorem X_tosses (hg : gR w [0] o 0 = some c) (h : Hc w c th C) {v b x : Int} (hv : -2147483648 ≤ v ∧ v ≤ 2147483647) (hb : -2147483648 ≤ b ∧ b ≤ 2147483647) (hx : -2147483648 ≤ x ∧ x ≤ 2147483647) : fX0_tosses N w o (J v) (J b) (J x) = some (J (sp_tosses C v b x)) := by
  have hR := cR_le C
  unfold fX0_tosses sp_tosses
  simp (disch := omega) only [jn_0, jn_1, jn_2, jn_3, jn_4, jn_5, jn_6, jn_8, jn_9, jn_10, jn_11, jn_12, jn_16, jn_20, jn_24, jn_30, jn_31, jn_32, jn_36, jn_48, jn_57, jn_59, jn_60, jn_63, jn_72, jn_73, jn_96, jn_97, jn_100, jn_122, jn_144, jn_200, jn_240, jn_288, jn_512, jn_840, jn_1200, jn_1600, jn_5040, jn_5390, jn_5400, jn_9999, jn_18688, jn_32400, jn_99999, jn_100000, jn_1000000, jn_858993459, jn_1431655765, jn_252645135, jl_0, jl_1, jl_2, jl_3, jl_8, jl_9, jl_10, jl_20, jl_27, jl_47, jl_96, jl_99, jl_100, jl_200, jl_555, jl_2000, jl_10000, jl_12345, jl_65536, jl_99999, jl_131638, jl_240023, jl_298288, jl_383153, jl_1306021, jl_1960084, jl_4147840, jl_8740238, jl_9872299, jl_175252482, jl_291595537, jl_1103515245, jl_2000000000, jl_2147483648, jl_4721686497, jl_7873079139, J_add, J_sub, J_mul, J_neg, JL_add, JL_sub, JL_mul, JL_neg, J_long, JL_int, ↓remI_fold, ↓remL_fold, Int.reduceAdd, Int.reduceSub, Int.reduceMul, Int.reduceNeg, Int.reduceToNat, Classical.not_not, em_t, Bp_eq0, Bp_eq1, Bp_01, Bp_mk, Bp_mk', Bp_0, Bp_0', Bp_1, Bp_1', if_true, if_false, ite_not, Option.bind_some, X_in, X_isBeat, X_isRoof hg h]
  by_cases h1 : 0 ≤ v ∧ v < cR C
  case neg => simp only [if_neg h1, ite_self]
  simp only [if_pos h1]
  by_cases h2 : 0 ≤ b ∧ b ≤ 99999
  case neg => simp only [if_neg h2, ite_self]
  simp only [if_pos h2]
  by_cases h3 : 0 ≤ x ∧ x ≤ 2
  case neg => simp only [if_neg h3, ite_self]
  simp only [if_pos h3]
  obtain ⟨r, hr⟩ : ∃ r : Nat, v = r := ⟨v.toNat, by omega⟩
  subst hr
  have hr' : r < cR C := by omega
  have hK := cK_le C r
  simp (disch := omega) only [jn_0, jn_1, jn_2, jn_3, jn_4, jn_5, jn_6, jn_8, jn_9, jn_10, jn_11, jn_12, jn_16, jn_20, jn_24, jn_30, jn_31, jn_32, jn_36, jn_48, jn_57, jn_59, jn_60, jn_63, jn_72, jn_73, jn_96, jn_97, jn_100, jn_122, jn_144, jn_200, jn_240, jn_288, jn_512, jn_840, jn_1200, jn_1600, jn_5040, jn_5390, jn_5400, jn_9999, jn_18688, jn_32400, jn_99999, jn_100000, jn_1000000, jn_858993459, jn_1431655765, jn_252645135, jl_0, jl_1, jl_2, jl_3, jl_8, jl_9, jl_10, jl_20, jl_27, jl_47, jl_96, jl_99, jl_100, jl_200, jl_555, jl_2000, jl_10000, jl_12345, jl_65536, jl_99999, jl_131638, jl_240023, jl_298288, jl_383153, jl_1306021, jl_1960084, jl_4147840, jl_8740238, jl_9872299, jl_175252482, jl_291595537, jl_1103515245, jl_2000000000, jl_2147483648, jl_4721686497, jl_7873079139, J_add, J_sub, J_mul, J_neg, JL_add, JL_sub, JL_mul, JL_neg, J_long, JL_int, ↓remI_fold, ↓remL_fold, Int.reduceAdd, Int.reduceSub, Int.reduceMul, Int.reduceNeg, Int.reduceToNat, J_eq, hg, hc_0 h, hc_1 h, hc_2 h, hc_3 h, hc_4 h, hc_5 h, hc_7 h, hc_8 h, hc_9 h, hc_10 h, hc_11 h, hc_12 h, hc_k h, hc_at h, Int.toNat_natCast, ht_k h hr', X_height h hr', X_to h hr', X_hand h hr', Option.bind_some]
  by_cases h4 : x = 0
  · simp only [if_pos h4]
  simp only [if_neg h4]
  by_cases h5 : x = 1
  · simp only [if_pos h5]
  simp only [if_neg h5]
theorem X_period (hg : gR w [0] o 0 = some c) (h : Hc w c th C) {v : Int} (hv : -2147483648 ≤ v ∧ v ≤ 2147483647) : fX0_period N w o (J v) = some (J (sp_period C v)) := by
  have hR := cR_le C
  unfold fX0_period sp_period
  simp (disch := omega) only [jn_0, jn_1, jn_2, jn_3, jn_4, jn_5, jn_6, jn_8, jn_9, jn_10, jn_11, jn_12, jn_16, jn_20, jn_24, jn_30, jn_31, jn_32, jn_36, jn_48, jn_57, jn_59, jn_60, jn_63, jn_72, jn_73, jn_96, jn_97, jn_100, jn_122, jn_144, jn_200, jn_240, jn_288, jn_512, jn_840, jn_1200, jn_1600, jn_5040, jn_5390, jn_5400, jn_9999, jn_18688, jn_32400, jn_99999, jn_100000, jn_1000000, jn_858993459, jn_1431655765, jn_252645135, jl_0, jl_1, jl_2, jl_3, jl_8, jl_9, jl_10, jl_20, jl_27, jl_47, jl_96, jl_99, jl_100, jl_200, jl_555, jl_2000, jl_10000, jl_12345, jl_65536, jl_99999, jl_131638, jl_240023, jl_298288, jl_383153, jl_1306021, jl_1960084, jl_4147840, jl_8740238, jl_9872299, jl_175252482, jl_291595537, jl_1103515245, jl_2000000000, jl_2147483648, jl_4721686497, jl_7873079139, J_add, J_sub, J_mul, J_neg, JL_add, JL_sub, JL_mul, JL_neg, J_long, JL_int, ↓remI_fold, ↓remL_fold, Int.reduceAdd, Int.reduceSub, Int.reduceMul, Int.reduceNeg, Int.reduceToNat, Classical.not_not, em_t, Bp_eq0, Bp_eq1, Bp_01, Bp_mk, Bp_mk', Bp_0, Bp_0', Bp_1, Bp_1', if_true, if_false, ite_not, Option.bind_some, X_isRoof hg h]
  by_cases h1 : 0 ≤ v ∧ v < cR C
  case neg => simp only [if_neg h1, ite_self]
  simp only [if_pos h1]
  simp (disch := omega) only [hg, hc_0 h, hc_1 h, hc_2 h, hc_3 h, hc_4 h, hc_5 h, hc_7 h, hc_8 h, hc_9 h, hc_10 h, hc_11 h, hc_12 h, hc_k h, hc_at h, Int.toNat_natCast, ht_3 h (show v.toNat < cR C by omega), Option.bind_some]
theorem X_turn (hg : gR w [0] o 0 = some c) (h : Hc w c th C) (hN : 1000000 ≤ N) : fX0_turn N w o = some (J (sp_turn C)) := by
  unfold fX0_turn sp_turn
  simp (disch := omega) only [jn_0, jn_1, jn_2, jn_3, jn_4, jn_5, jn_6, jn_8, jn_9, jn_10, jn_11, jn_12, jn_16, jn_20, jn_24, jn_30, jn_31, jn_32, jn_36, jn_48, jn_57, jn_59, jn_60, jn_63, jn_72, jn_73, jn_96, jn_97, jn_100, jn_122, jn_144, jn_200, jn_240, jn_288, jn_512, jn_840, jn_1200, jn_1600, jn_5040, jn_5390, jn_5400, jn_9999, jn_18688, jn_32400, jn_99999, jn_100000, jn_1000000, jn_858993459, jn_1431655765, jn_252645135, jl_0, jl_1, jl_2, jl_3, jl_8, jl_9, jl_10, jl_20, jl_27, jl_47, jl_96, jl_99, jl_100, jl_200, jl_555, jl_2000, jl_10000, jl_12345, jl_65536, jl_99999, jl_131638, jl_240023, jl_298288, jl_383153, jl_1306021, jl_1960084, jl_4147840, jl_8740238, jl_9872299, jl_175252482, jl_291595537, jl_1103515245, jl_2000000000, jl_2147483648, jl_4721686497, jl_7873079139, J_add, J_sub, J_mul, J_neg, JL_add, JL_sub, JL_mul, JL_neg, J_long, JL_int, ↓remI_fold, ↓remL_fold, Int.reduceAdd, Int.reduceSub, Int.reduceMul, Int.reduceNeg, Int.reduceToNat, Classical.not_not, em_t, Bp_eq0, Bp_eq1, Bp_01, Bp_mk, Bp_mk', Bp_0, Bp_0', Bp_1, Bp_1', if_true, if_false, ite_not, hg, hc_0 h, hc_1 h, hc_2 h, hc_3 h, hc_4 h, hc_5 h, hc_7 h, hc_8 h, hc_9 h, hc_10 h, hc_11 h, hc_12 h, hc_k h, hc_at h, Int.toNat_natCast, Option.bind_some, X_isCity hg h, X_round h]
  by_cases h1 : 0 < cR C
  case neg => simp only [if_neg h1, ite_self]
  simp only [if_pos h1]
theorem X_clash40 (hg : gR w [0] o 0 = some c) (h : Hc w c th C) (hN : 1000000 ≤ N) {b : Nat} (hb : b ≤ 900000) (x y : Int32) (kf : Int32 → Option Int32) (ke : Option Int32) {n : Nat} (hn : 6 < n) : fX0_clash_40 N w o x y (J b) kf ke n (J 0) = match fi (fun r => clash C r b) (cR C) with | some r => kf (J r) | none => ke := by
  have hR := cR_le C
  have key := lp_find (fun n i => fX0_clash_40 N w o x y (J b) kf ke n (J (i : Int))) (fun r => kf (J r)) ke (cR C) (fun r => clash C r b) ?_ ?_ n (by omega)
  · exact key
  · intro n i hi
    try dsimp only
    rw [fX0_clash_40]
    simp (disch := omega) only [jn_0, jn_1, jn_2, jn_3, jn_4, jn_5, jn_6, jn_8, jn_9, jn_10, jn_11, jn_12, jn_16, jn_20, jn_24, jn_30, jn_31, jn_32, jn_36, jn_48, jn_57, jn_59, jn_60, jn_63, jn_72, jn_73, jn_96, jn_97, jn_100, jn_122, jn_144, jn_200, jn_240, jn_288, jn_512, jn_840, jn_1200, jn_1600, jn_5040, jn_5390, jn_5400, jn_9999, jn_18688, jn_32400, jn_99999, jn_100000, jn_1000000, jn_858993459, jn_1431655765, jn_252645135, jl_0, jl_1, jl_2, jl_3, jl_8, jl_9, jl_10, jl_20, jl_27, jl_47, jl_96, jl_99, jl_100, jl_200, jl_555, jl_2000, jl_10000, jl_12345, jl_65536, jl_99999, jl_131638, jl_240023, jl_298288, jl_383153, jl_1306021, jl_1960084, jl_4147840, jl_8740238, jl_9872299, jl_175252482, jl_291595537, jl_1103515245, jl_2000000000, jl_2147483648, jl_4721686497, jl_7873079139, J_add, J_sub, J_mul, J_neg, JL_add, JL_sub, JL_mul, JL_neg, J_long, JL_int, ↓remI_fold, ↓remL_fold, Int.reduceAdd, Int.reduceSub, Int.reduceMul, Int.reduceNeg, Int.reduceToNat, Classical.not_not, em_t, Bp_eq0, Bp_eq1, Bp_01, Bp_mk, Bp_mk', Bp_0, Bp_0', Bp_1, Bp_1', if_true, if_false, ite_not, hg, hc_0 h, hc_1 h, hc_2 h, hc_3 h, hc_4 h, hc_5 h, hc_7 h, hc_8 h, hc_9 h, hc_10 h, hc_11 h, hc_12 h, hc_k h, hc_at h, Int.toNat_natCast, J_le, castS, Option.bind_some, X_isClash h (show 1000 ≤ N by omega) _ hi]
    rw [if_neg (by omega)]
  · intro n
    try dsimp only
    rw [fX0_clash_40]
    simp (disch := omega) only [jn_0, jn_1, jn_2, jn_3, jn_4, jn_5, jn_6, jn_8, jn_9, jn_10, jn_11, jn_12, jn_16, jn_20, jn_24, jn_30, jn_31, jn_32, jn_36, jn_48, jn_57, jn_59, jn_60, jn_63, jn_72, jn_73, jn_96, jn_97, jn_100, jn_122, jn_144, jn_200, jn_240, jn_288, jn_512, jn_840, jn_1200, jn_1600, jn_5040, jn_5390, jn_5400, jn_9999, jn_18688, jn_32400, jn_99999, jn_100000, jn_1000000, jn_858993459, jn_1431655765, jn_252645135, jl_0, jl_1, jl_2, jl_3, jl_8, jl_9, jl_10, jl_20, jl_27, jl_47, jl_96, jl_99, jl_100, jl_200, jl_555, jl_2000, jl_10000, jl_12345, jl_65536, jl_99999, jl_131638, jl_240023, jl_298288, jl_383153, jl_1306021, jl_1960084, jl_4147840, jl_8740238, jl_9872299, jl_175252482, jl_291595537, jl_1103515245, jl_2000000000, jl_2147483648, jl_4721686497, jl_7873079139, J_add, J_sub, J_mul, J_neg, JL_add, JL_sub, JL_mul, JL_neg, J_long, JL_int, ↓remI_fold, ↓remL_fold, Int.reduceAdd, Int.reduceSub, Int.reduceMul, Int.reduceNeg, Int.reduceToNat, Classical.not_not, em_t, Bp_eq0, Bp_eq1, Bp_01, Bp_mk, Bp_mk', Bp_0, Bp_0', Bp_1, Bp_1', if_true, if_false, ite_not, hg, hc_0 h, hc_1 h, hc_2 h, hc_3 h, hc_4 h, hc_5 h, hc_7 h, hc_8 h, hc_9 h, hc_10 h, hc_11 h, hc_12 h, hc_k h, hc_at h, Int.toNat_natCast, J_le, castS, Option.bind_some]
    rw [if_pos (by omega)]
theorem X_clash (hg : gR w [0] o 0 = some c) (h : Hc w c th C) (hN : 1000000 ≤ N) {x : Int} (hx : -2147483648 ≤ x ∧ x ≤ 2147483647) : fX0_clash N w o (J x) = some (J (sp_clash C x)) := by
  have hp := rnd_bd C
  have hR := cR_le C
  unfold fX0_clash sp_clash
  simp (disch := omega) only [jn_0, jn_1, jn_2, jn_3, jn_4, jn_5, jn_6, jn_8, jn_9, jn_10, jn_11, jn_12, jn_16, jn_20, jn_24, jn_30, jn_31, jn_32, jn_36, jn_48, jn_57, jn_59, jn_60, jn_63, jn_72, jn_73, jn_96, jn_97, jn_100, jn_122, jn_144, jn_200, jn_240, jn_288, jn_512, jn_840, jn_1200, jn_1600, jn_5040, jn_5390, jn_5400, jn_9999, jn_18688, jn_32400, jn_99999, jn_100000, jn_1000000, jn_858993459, jn_1431655765, jn_252645135, jl_0, jl_1, jl_2, jl_3, jl_8, jl_9, jl_10, jl_20, jl_27, jl_47, jl_96, jl_99, jl_100, jl_200, jl_555, jl_2000, jl_10000, jl_12345, jl_65536, jl_99999, jl_131638, jl_240023, jl_298288, jl_383153, jl_1306021, jl_1960084, jl_4147840, jl_8740238, jl_9872299, jl_175252482, jl_291595537, jl_1103515245, jl_2000000000, jl_2147483648, jl_4721686497, jl_7873079139, J_add, J_sub, J_mul, J_neg, JL_add, JL_sub, JL_mul, JL_neg, J_long, JL_int, ↓remI_fold, ↓remL_fold, Int.reduceAdd, Int.reduceSub, Int.reduceMul, Int.reduceNeg, Int.reduceToNat, Classical.not_not, em_t, Bp_eq0, Bp_eq1, Bp_01, Bp_mk, Bp_mk', Bp_0, Bp_0', Bp_1, Bp_1', if_true, if_false, ite_not, hg, hc_0 h, hc_1 h, hc_2 h, hc_3 h, hc_4 h, hc_5 h, hc_7 h, hc_8 h, hc_9 h, hc_10 h, hc_11 h, hc_12 h, hc_k h, hc_at h, Int.toNat_natCast, Option.bind_some, X_in, X_isCity hg h, X_round h, J_eq]
  by_cases h1 : 0 < cR C
  case neg => simp only [if_neg h1, ite_self]
  simp only [if_pos h1]
  by_cases h2 : 0 ≤ x ∧ x ≤ 2
  case neg => simp only [if_neg h2, ite_self]
  simp only [if_pos h2]
  have key := lp_find (fun n i => fX0_clash_32 N w o (J x) (J (rnd C)) (fun y11 y12 => if x = 0 then some y11 else if x = 1 then some y12 else (fX1_comeDown N w c y12 y11).bind fun x13 => some x13) (some (J (-1))) n (J (i : Int))) (fun b => match fi (fun r => clash C r b) (cR C) with | some r => some (J (if x = 0 then (b : Int) else if x = 1 then (r : Int) else cd C r b)) | none => none) (some (J (-1))) (rnd C) (clB C) ?_ ?_ N (by omega)
  · refine Eq.trans key ?_
    cases h' : fi (clB C) (rnd C) with
    | none => rfl
    | some b =>
      have hb := ((fi_some _ _ _).1 h').2.1
      unfold clB at hb
      simp only
      cases h'' : fi (fun r => clash C r b) (cR C) with
      | none => rw [h''] at hb; cases hb
      | some r => rfl
  · intro n i hi
    try dsimp only
    rw [fX0_clash_32]
    simp (disch := omega) only [jn_0, jn_1, jn_2, jn_3, jn_4, jn_5, jn_6, jn_8, jn_9, jn_10, jn_11, jn_12, jn_16, jn_20, jn_24, jn_30, jn_31, jn_32, jn_36, jn_48, jn_57, jn_59, jn_60, jn_63, jn_72, jn_73, jn_96, jn_97, jn_100, jn_122, jn_144, jn_200, jn_240, jn_288, jn_512, jn_840, jn_1200, jn_1600, jn_5040, jn_5390, jn_5400, jn_9999, jn_18688, jn_32400, jn_99999, jn_100000, jn_1000000, jn_858993459, jn_1431655765, jn_252645135, jl_0, jl_1, jl_2, jl_3, jl_8, jl_9, jl_10, jl_20, jl_27, jl_47, jl_96, jl_99, jl_100, jl_200, jl_555, jl_2000, jl_10000, jl_12345, jl_65536, jl_99999, jl_131638, jl_240023, jl_298288, jl_383153, jl_1306021, jl_1960084, jl_4147840, jl_8740238, jl_9872299, jl_175252482, jl_291595537, jl_1103515245, jl_2000000000, jl_2147483648, jl_4721686497, jl_7873079139, J_add, J_sub, J_mul, J_neg, JL_add, JL_sub, JL_mul, JL_neg, J_long, JL_int, ↓remI_fold, ↓remL_fold, Int.reduceAdd, Int.reduceSub, Int.reduceMul, Int.reduceNeg, Int.reduceToNat, J_le, castS, Option.bind_some]
    rw [if_neg (by omega), X_clash40 hg h hN (by omega) _ _ _ _ (by omega)]
    unfold clB
    cases h' : fi (fun r => clash C r i) (cR C) with
    | none => rfl
    | some r =>
      have hr := ((fi_some _ _ _).1 h').1
      simp only [Option.isSome_some, if_true]
      by_cases h3 : x = 0
      · simp only [if_pos h3]
      simp only [if_neg h3]
      by_cases h4 : x = 1
      · simp only [if_pos h4]
      simp only [if_neg h4]
      rw [X_comeDown h (by omega) (by omega) (by omega)]
      rfl
  · intro n
    try dsimp only
    rw [fX0_clash_32]
    simp (disch := omega) only [jn_0, jn_1, jn_2, jn_3, jn_4, jn_5, jn_6, jn_8, jn_9, jn_10, jn_11, jn_12, jn_16, jn_20, jn_24, jn_30, jn_31, jn_32, jn_36, jn_48, jn_57, jn_59, jn_60, jn_63, jn_72, jn_73, jn_96, jn_97, jn_100, jn_122, jn_144, jn_200, jn_240, jn_288, jn_512, jn_840, jn_1200, jn_1600, jn_5040, jn_5390, jn_5400, jn_9999, jn_18688, jn_32400, jn_99999, jn_100000, jn_1000000, jn_858993459, jn_1431655765, jn_252645135, jl_0, jl_1, jl_2, jl_3, jl_8, jl_9, jl_10, jl_20, jl_27, jl_47, jl_96, jl_99, jl_100, jl_200, jl_555, jl_2000, jl_10000, jl_12345, jl_65536, jl_99999, jl_131638, jl_240023, jl_298288, jl_383153, jl_1306021, jl_1960084, jl_4147840, jl_8740238, jl_9872299, jl_175252482, jl_291595537, jl_1103515245, jl_2000000000, jl_2147483648, jl_4721686497, jl_7873079139, J_add, J_sub, J_mul, J_neg, JL_add, JL_sub, JL_mul, JL_neg, J_long, JL_int, ↓remI_fold, ↓remL_fold, Int.reduceAdd, Int.reduceSub, Int.reduceMul, Int.reduceNeg, Int.reduceToNat, J_le, castS, Option.bind_some]
    rw [if_pos (by omega)]
theorem X_air44 (hg : gR w [0] o 0 = some c) (h : Hc w c th C) {b u : Int} (hb : -900000 ≤ b ∧ b ≤ 900000) (hu : -900000 ≤ u ∧ u ≤ 900000) (k : Int32 → Option Int32) {n : Nat} (hn : 6 < n) (s : Int) : fX0_air_44 N w o (J b) (J u) k n (J s) (J 0) = k (J (s + sm (fun q => ind (b < u + hh C q u)) (cR C))) := by
  have hR := cR_le C
  have key := lp_sum (fun n i s => fX0_air_44 N w o (J b) (J u) k n (J s) (J (i : Int))) (fun s => k (J s)) (cR C) (fun q => ind (b < u + hh C q u)) ?_ ?_ n s (by omega)
  · exact key
  · intro n i s hi
    try dsimp only
    have h9 := hh_le C i u
    rw [fX0_air_44]
    simp (disch := omega) only [jn_0, jn_1, jn_2, jn_3, jn_4, jn_5, jn_6, jn_8, jn_9, jn_10, jn_11, jn_12, jn_16, jn_20, jn_24, jn_30, jn_31, jn_32, jn_36, jn_48, jn_57, jn_59, jn_60, jn_63, jn_72, jn_73, jn_96, jn_97, jn_100, jn_122, jn_144, jn_200, jn_240, jn_288, jn_512, jn_840, jn_1200, jn_1600, jn_5040, jn_5390, jn_5400, jn_9999, jn_18688, jn_32400, jn_99999, jn_100000, jn_1000000, jn_858993459, jn_1431655765, jn_252645135, jl_0, jl_1, jl_2, jl_3, jl_8, jl_9, jl_10, jl_20, jl_27, jl_47, jl_96, jl_99, jl_100, jl_200, jl_555, jl_2000, jl_10000, jl_12345, jl_65536, jl_99999, jl_131638, jl_240023, jl_298288, jl_383153, jl_1306021, jl_1960084, jl_4147840, jl_8740238, jl_9872299, jl_175252482, jl_291595537, jl_1103515245, jl_2000000000, jl_2147483648, jl_4721686497, jl_7873079139, J_add, J_sub, J_mul, J_neg, JL_add, JL_sub, JL_mul, JL_neg, J_long, JL_int, ↓remI_fold, ↓remL_fold, Int.reduceAdd, Int.reduceSub, Int.reduceMul, Int.reduceNeg, Int.reduceToNat, hg, hc_0 h, hc_1 h, hc_2 h, hc_3 h, hc_4 h, hc_5 h, hc_7 h, hc_8 h, hc_9 h, hc_10 h, hc_11 h, hc_12 h, hc_k h, hc_at h, Int.toNat_natCast, J_lt, J_le, castS, Option.bind_some, ht_k h hi, X_height h hi]
    rw [if_neg (by omega)]
    unfold ind
    by_cases h1 : b < u + hh C i u
    · rw [if_neg (by omega), if_pos h1]
    · rw [if_pos (by omega), if_neg h1]
  · intro n s
    try dsimp only
    rw [fX0_air_44]
    simp (disch := omega) only [jn_0, jn_1, jn_2, jn_3, jn_4, jn_5, jn_6, jn_8, jn_9, jn_10, jn_11, jn_12, jn_16, jn_20, jn_24, jn_30, jn_31, jn_32, jn_36, jn_48, jn_57, jn_59, jn_60, jn_63, jn_72, jn_73, jn_96, jn_97, jn_100, jn_122, jn_144, jn_200, jn_240, jn_288, jn_512, jn_840, jn_1200, jn_1600, jn_5040, jn_5390, jn_5400, jn_9999, jn_18688, jn_32400, jn_99999, jn_100000, jn_1000000, jn_858993459, jn_1431655765, jn_252645135, jl_0, jl_1, jl_2, jl_3, jl_8, jl_9, jl_10, jl_20, jl_27, jl_47, jl_96, jl_99, jl_100, jl_200, jl_555, jl_2000, jl_10000, jl_12345, jl_65536, jl_99999, jl_131638, jl_240023, jl_298288, jl_383153, jl_1306021, jl_1960084, jl_4147840, jl_8740238, jl_9872299, jl_175252482, jl_291595537, jl_1103515245, jl_2000000000, jl_2147483648, jl_4721686497, jl_7873079139, J_add, J_sub, J_mul, J_neg, JL_add, JL_sub, JL_mul, JL_neg, J_long, JL_int, ↓remI_fold, ↓remL_fold, Int.reduceAdd, Int.reduceSub, Int.reduceMul, Int.reduceNeg, Int.reduceToNat, hg, hc_0 h, hc_1 h, hc_2 h, hc_3 h, hc_4 h, hc_5 h, hc_7 h, hc_8 h, hc_9 h, hc_10 h, hc_11 h, hc_12 h, hc_k h, hc_at h, Int.toNat_natCast, J_lt, J_le, castS, Option.bind_some]
    rw [if_pos (by omega)]
theorem sm_rev (f : Nat → Int) (m : Nat) : sm (fun i => f (m - 1 - i)) m = sm f m := by
  induction m with
  | zero => rfl
  | succ m ih =>
    have e : ∀ m, sm f (m + 1) = f 0 + sm (fun i => f (i + 1)) m := by
      intro m
      induction m with
      | zero => simp [sm]
      | succ m ih => rw [sm, ih]; simp only [sm]; omega
    have e2 : ∀ (g : Nat → Int) m, sm g (m + 1) = g 0 + sm (fun i => g (i + 1)) m := by
      intro g m
      induction m with
      | zero => simp [sm]
      | succ m ih => rw [sm, ih]; simp only [sm]; omega
    rw [e2]
    simp only [sm]
    have : sm (fun i => f (m + 1 - 1 - (i + 1))) m = sm (fun i => f (m - 1 - i)) m := sm_congr (fun i hi => by congr 1; omega)
    rw [this, ih]
    simp; omega
theorem X_air (hg : gR w [0] o 0 = some c) (h : Hc w c th C) (hN : 1000000 ≤ N) {b : Int} (hb : -2147483648 ≤ b ∧ b ≤ 2147483647) : fX0_air N w o (J b) = some (J (sp_air C b)) := by
  have hR := cR_le C
  unfold fX0_air sp_air
  simp (disch := omega) only [jn_0, jn_1, jn_2, jn_3, jn_4, jn_5, jn_6, jn_8, jn_9, jn_10, jn_11, jn_12, jn_16, jn_20, jn_24, jn_30, jn_31, jn_32, jn_36, jn_48, jn_57, jn_59, jn_60, jn_63, jn_72, jn_73, jn_96, jn_97, jn_100, jn_122, jn_144, jn_200, jn_240, jn_288, jn_512, jn_840, jn_1200, jn_1600, jn_5040, jn_5390, jn_5400, jn_9999, jn_18688, jn_32400, jn_99999, jn_100000, jn_1000000, jn_858993459, jn_1431655765, jn_252645135, jl_0, jl_1, jl_2, jl_3, jl_8, jl_9, jl_10, jl_20, jl_27, jl_47, jl_96, jl_99, jl_100, jl_200, jl_555, jl_2000, jl_10000, jl_12345, jl_65536, jl_99999, jl_131638, jl_240023, jl_298288, jl_383153, jl_1306021, jl_1960084, jl_4147840, jl_8740238, jl_9872299, jl_175252482, jl_291595537, jl_1103515245, jl_2000000000, jl_2147483648, jl_4721686497, jl_7873079139, J_add, J_sub, J_mul, J_neg, JL_add, JL_sub, JL_mul, JL_neg, J_long, JL_int, ↓remI_fold, ↓remL_fold, Int.reduceAdd, Int.reduceSub, Int.reduceMul, Int.reduceNeg, Int.reduceToNat, Classical.not_not, em_t, Bp_eq0, Bp_eq1, Bp_01, Bp_mk, Bp_mk', Bp_0, Bp_0', Bp_1, Bp_1', if_true, if_false, ite_not, hg, hc_0 h, hc_1 h, hc_2 h, hc_3 h, hc_4 h, hc_5 h, hc_7 h, hc_8 h, hc_9 h, hc_10 h, hc_11 h, hc_12 h, hc_k h, hc_at h, Int.toNat_natCast, Option.bind_some, X_isBeat, X_isCity hg h, X_keepsC h]
  by_cases h1 : 0 < cR C
  case neg => simp only [if_neg h1, ite_self]
  simp only [if_pos h1]
  by_cases h2 : 0 ≤ b ∧ b ≤ 99999
  case neg => simp only [if_neg h2, ite_self]
  simp only [if_pos h2]
  by_cases h3 : kp C = true
  case neg => simp only [if_neg h3, ite_self]
  simp only [if_pos h3]
  have key := lp_sum (fun n i s => fX0_air_33 N w o (J b) (fun y15 => some y15) n (J s) (J (b - (i : Int)))) (fun s => some (J s)) (9) (fun i => sm (fun q => ind (b < b - i + hh C q (b - i))) (cR C)) ?_ ?_ N 0 (by omega)
  · rw [Int.zero_add, show b - ((0 : Nat) : Int) = b by omega] at key
    refine Eq.trans key ?_
    congr 2
    rw [sm_swap]
    apply sm_congr
    intro q _
    rw [← sm_rev]
    apply sm_congr
    intro i hi
    rw [show b - ((9 - 1 - i : Nat) : Int) = b - 8 + i by omega]
  · intro n i s hi
    try dsimp only
    rw [fX0_air_33]
    simp (disch := omega) only [jn_0, jn_1, jn_2, jn_3, jn_4, jn_5, jn_6, jn_8, jn_9, jn_10, jn_11, jn_12, jn_16, jn_20, jn_24, jn_30, jn_31, jn_32, jn_36, jn_48, jn_57, jn_59, jn_60, jn_63, jn_72, jn_73, jn_96, jn_97, jn_100, jn_122, jn_144, jn_200, jn_240, jn_288, jn_512, jn_840, jn_1200, jn_1600, jn_5040, jn_5390, jn_5400, jn_9999, jn_18688, jn_32400, jn_99999, jn_100000, jn_1000000, jn_858993459, jn_1431655765, jn_252645135, jl_0, jl_1, jl_2, jl_3, jl_8, jl_9, jl_10, jl_20, jl_27, jl_47, jl_96, jl_99, jl_100, jl_200, jl_555, jl_2000, jl_10000, jl_12345, jl_65536, jl_99999, jl_131638, jl_240023, jl_298288, jl_383153, jl_1306021, jl_1960084, jl_4147840, jl_8740238, jl_9872299, jl_175252482, jl_291595537, jl_1103515245, jl_2000000000, jl_2147483648, jl_4721686497, jl_7873079139, J_add, J_sub, J_mul, J_neg, JL_add, JL_sub, JL_mul, JL_neg, J_long, JL_int, ↓remI_fold, ↓remL_fold, Int.reduceAdd, Int.reduceSub, Int.reduceMul, Int.reduceNeg, Int.reduceToNat, J_le, Option.bind_some]
    rw [if_neg (by omega), X_air44 hg h (by omega) (by omega) _ (by omega), show b - (i : Int) + -1 = b - ((i + 1 : Nat) : Int) by omega]
  · intro n s
    try dsimp only
    rw [fX0_air_33]
    simp (disch := omega) only [jn_0, jn_1, jn_2, jn_3, jn_4, jn_5, jn_6, jn_8, jn_9, jn_10, jn_11, jn_12, jn_16, jn_20, jn_24, jn_30, jn_31, jn_32, jn_36, jn_48, jn_57, jn_59, jn_60, jn_63, jn_72, jn_73, jn_96, jn_97, jn_100, jn_122, jn_144, jn_200, jn_240, jn_288, jn_512, jn_840, jn_1200, jn_1600, jn_5040, jn_5390, jn_5400, jn_9999, jn_18688, jn_32400, jn_99999, jn_100000, jn_1000000, jn_858993459, jn_1431655765, jn_252645135, jl_0, jl_1, jl_2, jl_3, jl_8, jl_9, jl_10, jl_20, jl_27, jl_47, jl_96, jl_99, jl_100, jl_200, jl_555, jl_2000, jl_10000, jl_12345, jl_65536, jl_99999, jl_131638, jl_240023, jl_298288, jl_383153, jl_1306021, jl_1960084, jl_4147840, jl_8740238, jl_9872299, jl_175252482, jl_291595537, jl_1103515245, jl_2000000000, jl_2147483648, jl_4721686497, jl_7873079139, J_add, J_sub, J_mul, J_neg, JL_add, JL_sub, JL_mul, JL_neg, J_long, JL_int, ↓remI_fold, ↓remL_fold, Int.reduceAdd, Int.reduceSub, Int.reduceMul, Int.reduceNeg, Int.reduceToNat, J_le, Option.bind_some]
    rw [if_pos (by omega)]
theorem X_throwsTo (hg : gR w [0] o 0 = some c) (h : Hc w c th C) {r q : Nat} (hr : r < cR C) (hq : q ≤ 9) {b : Int} (hb : -900000 ≤ b ∧ b ≤ 900000) : fX0_throwsTo N w o (J r) (J q) (J b) = some (Bp (0 < hh C r b ∧ tt C r b = q)) := by
  have hR := cR_le C
  have h9 := hh_le C r b
  have h5 := tt_le C r b
  unfold fX0_throwsTo
  simp (disch := omega) only [jn_0, jn_1, jn_2, jn_3, jn_4, jn_5, jn_6, jn_8, jn_9, jn_10, jn_11, jn_12, jn_16, jn_20, jn_24, jn_30, jn_31, jn_32, jn_36, jn_48, jn_57, jn_59, jn_60, jn_63, jn_72, jn_73, jn_96, jn_97, jn_100, jn_122, jn_144, jn_200, jn_240, jn_288, jn_512, jn_840, jn_1200, jn_1600, jn_5040, jn_5390, jn_5400, jn_9999, jn_18688, jn_32400, jn_99999, jn_100000, jn_1000000, jn_858993459, jn_1431655765, jn_252645135, jl_0, jl_1, jl_2, jl_3, jl_8, jl_9, jl_10, jl_20, jl_27, jl_47, jl_96, jl_99, jl_100, jl_200, jl_555, jl_2000, jl_10000, jl_12345, jl_65536, jl_99999, jl_131638, jl_240023, jl_298288, jl_383153, jl_1306021, jl_1960084, jl_4147840, jl_8740238, jl_9872299, jl_175252482, jl_291595537, jl_1103515245, jl_2000000000, jl_2147483648, jl_4721686497, jl_7873079139, J_add, J_sub, J_mul, J_neg, JL_add, JL_sub, JL_mul, JL_neg, J_long, JL_int, ↓remI_fold, ↓remL_fold, Int.reduceAdd, Int.reduceSub, Int.reduceMul, Int.reduceNeg, Int.reduceToNat, Classical.not_not, em_t, Bp_eq0, Bp_eq1, Bp_01, Bp_mk, Bp_mk', Bp_0, Bp_0', Bp_1, Bp_1', if_true, if_false, ite_not, hg, hc_0 h, hc_1 h, hc_2 h, hc_3 h, hc_4 h, hc_5 h, hc_7 h, hc_8 h, hc_9 h, hc_10 h, hc_11 h, hc_12 h, hc_k h, hc_at h, Int.toNat_natCast, ht_k h hr, X_height h hr, X_to h hr, J_le, J_eq, castE, Option.bind_some]
  congr 1; apply Bp_congr; omega
theorem X_carries (hg : gR w [0] o 0 = some c) (h : Hc w c th C) (hN : 1000000 ≤ N) {v u : Int} (hv : -2147483648 ≤ v ∧ v ≤ 2147483647) (hu : -2147483648 ≤ u ∧ u ≤ 2147483647) : fX0_carries N w o (J v) (J u) = some (J (sp_carries C v u)) := by
  have hR := cR_le C
  have hp := rnd_bd C
  unfold fX0_carries sp_carries
  simp (disch := omega) only [jn_0, jn_1, jn_2, jn_3, jn_4, jn_5, jn_6, jn_8, jn_9, jn_10, jn_11, jn_12, jn_16, jn_20, jn_24, jn_30, jn_31, jn_32, jn_36, jn_48, jn_57, jn_59, jn_60, jn_63, jn_72, jn_73, jn_96, jn_97, jn_100, jn_122, jn_144, jn_200, jn_240, jn_288, jn_512, jn_840, jn_1200, jn_1600, jn_5040, jn_5390, jn_5400, jn_9999, jn_18688, jn_32400, jn_99999, jn_100000, jn_1000000, jn_858993459, jn_1431655765, jn_252645135, jl_0, jl_1, jl_2, jl_3, jl_8, jl_9, jl_10, jl_20, jl_27, jl_47, jl_96, jl_99, jl_100, jl_200, jl_555, jl_2000, jl_10000, jl_12345, jl_65536, jl_99999, jl_131638, jl_240023, jl_298288, jl_383153, jl_1306021, jl_1960084, jl_4147840, jl_8740238, jl_9872299, jl_175252482, jl_291595537, jl_1103515245, jl_2000000000, jl_2147483648, jl_4721686497, jl_7873079139, J_add, J_sub, J_mul, J_neg, JL_add, JL_sub, JL_mul, JL_neg, J_long, JL_int, ↓remI_fold, ↓remL_fold, Int.reduceAdd, Int.reduceSub, Int.reduceMul, Int.reduceNeg, Int.reduceToNat, Classical.not_not, em_t, Bp_eq0, Bp_eq1, Bp_01, Bp_mk, Bp_mk', Bp_0, Bp_0', Bp_1, Bp_1', if_true, if_false, ite_not, hg, hc_0 h, hc_1 h, hc_2 h, hc_3 h, hc_4 h, hc_5 h, hc_7 h, hc_8 h, hc_9 h, hc_10 h, hc_11 h, hc_12 h, hc_k h, hc_at h, Int.toNat_natCast, Option.bind_some, X_isRoof hg h, X_round h]
  by_cases h1 : 0 ≤ v ∧ v < cR C
  case neg => simp only [if_neg h1, ite_self]
  simp only [if_pos h1]
  by_cases h2 : 0 ≤ u ∧ u < cR C
  case neg => simp only [if_neg h2, ite_self]
  simp only [if_pos h2]
  obtain ⟨r, hr⟩ : ∃ r : Nat, v = r := ⟨v.toNat, by omega⟩
  subst hr
  obtain ⟨q, hq⟩ : ∃ q : Nat, u = q := ⟨u.toNat, by omega⟩
  subst hq
  have hr' : r < cR C := by omega
  simp only [Int.toNat_natCast]
  have key := lp_sum (fun n i s => fX0_carries_33 N w o (J r) (J q) (J (rnd C)) (fun y15 => some y15) n (J s) (J (i : Int))) (fun s => some (J s)) (rnd C) (fun b => ind (0 < hh C r b ∧ tt C r b = q)) ?_ ?_ N 0 (by omega)
  · rw [Int.zero_add] at key
    exact key
  · intro n i s hi
    try dsimp only
    rw [fX0_carries_33]
    simp (disch := omega) only [jn_0, jn_1, jn_2, jn_3, jn_4, jn_5, jn_6, jn_8, jn_9, jn_10, jn_11, jn_12, jn_16, jn_20, jn_24, jn_30, jn_31, jn_32, jn_36, jn_48, jn_57, jn_59, jn_60, jn_63, jn_72, jn_73, jn_96, jn_97, jn_100, jn_122, jn_144, jn_200, jn_240, jn_288, jn_512, jn_840, jn_1200, jn_1600, jn_5040, jn_5390, jn_5400, jn_9999, jn_18688, jn_32400, jn_99999, jn_100000, jn_1000000, jn_858993459, jn_1431655765, jn_252645135, jl_0, jl_1, jl_2, jl_3, jl_8, jl_9, jl_10, jl_20, jl_27, jl_47, jl_96, jl_99, jl_100, jl_200, jl_555, jl_2000, jl_10000, jl_12345, jl_65536, jl_99999, jl_131638, jl_240023, jl_298288, jl_383153, jl_1306021, jl_1960084, jl_4147840, jl_8740238, jl_9872299, jl_175252482, jl_291595537, jl_1103515245, jl_2000000000, jl_2147483648, jl_4721686497, jl_7873079139, J_add, J_sub, J_mul, J_neg, JL_add, JL_sub, JL_mul, JL_neg, J_long, JL_int, ↓remI_fold, ↓remL_fold, Int.reduceAdd, Int.reduceSub, Int.reduceMul, Int.reduceNeg, Int.reduceToNat, Classical.not_not, em_t, Bp_eq0, Bp_eq1, Bp_01, Bp_mk, Bp_mk', Bp_0, Bp_0', Bp_1, Bp_1', if_true, if_false, ite_not, J_le, castS, Option.bind_some, X_throwsTo hg h hr']
    rw [if_neg (by omega)]
    unfold ind
    split <;> rfl
  · intro n s
    try dsimp only
    rw [fX0_carries_33]
    simp (disch := omega) only [jn_0, jn_1, jn_2, jn_3, jn_4, jn_5, jn_6, jn_8, jn_9, jn_10, jn_11, jn_12, jn_16, jn_20, jn_24, jn_30, jn_31, jn_32, jn_36, jn_48, jn_57, jn_59, jn_60, jn_63, jn_72, jn_73, jn_96, jn_97, jn_100, jn_122, jn_144, jn_200, jn_240, jn_288, jn_512, jn_840, jn_1200, jn_1600, jn_5040, jn_5390, jn_5400, jn_9999, jn_18688, jn_32400, jn_99999, jn_100000, jn_1000000, jn_858993459, jn_1431655765, jn_252645135, jl_0, jl_1, jl_2, jl_3, jl_8, jl_9, jl_10, jl_20, jl_27, jl_47, jl_96, jl_99, jl_100, jl_200, jl_555, jl_2000, jl_10000, jl_12345, jl_65536, jl_99999, jl_131638, jl_240023, jl_298288, jl_383153, jl_1306021, jl_1960084, jl_4147840, jl_8740238, jl_9872299, jl_175252482, jl_291595537, jl_1103515245, jl_2000000000, jl_2147483648, jl_4721686497, jl_7873079139, J_add, J_sub, J_mul, J_neg, JL_add, JL_sub, JL_mul, JL_neg, J_long, JL_int, ↓remI_fold, ↓remL_fold, Int.reduceAdd, Int.reduceSub, Int.reduceMul, Int.reduceNeg, Int.reduceToNat, Classical.not_not, em_t, Bp_eq0, Bp_eq1, Bp_01, Bp_mk, Bp_mk', Bp_0, Bp_0', Bp_1, Bp_1', if_true, if_false, ite_not, J_le, castS, Option.bind_some]
    rw [if_pos (by omega)]
theorem X_silent (hg : gR w [0] o 0 = some c) (h : Hc w c th C) (hN : 1000000 ≤ N) {v : Int} (hv : -2147483648 ≤ v ∧ v ≤ 2147483647) : fX0_silent N w o (J v) = some (J (sp_silent C v)) := by
  have hR := cR_le C
  have hp := rnd_bd C
  unfold fX0_silent sp_silent
  simp (disch := omega) only [jn_0, jn_1, jn_2, jn_3, jn_4, jn_5, jn_6, jn_8, jn_9, jn_10, jn_11, jn_12, jn_16, jn_20, jn_24, jn_30, jn_31, jn_32, jn_36, jn_48, jn_57, jn_59, jn_60, jn_63, jn_72, jn_73, jn_96, jn_97, jn_100, jn_122, jn_144, jn_200, jn_240, jn_288, jn_512, jn_840, jn_1200, jn_1600, jn_5040, jn_5390, jn_5400, jn_9999, jn_18688, jn_32400, jn_99999, jn_100000, jn_1000000, jn_858993459, jn_1431655765, jn_252645135, jl_0, jl_1, jl_2, jl_3, jl_8, jl_9, jl_10, jl_20, jl_27, jl_47, jl_96, jl_99, jl_100, jl_200, jl_555, jl_2000, jl_10000, jl_12345, jl_65536, jl_99999, jl_131638, jl_240023, jl_298288, jl_383153, jl_1306021, jl_1960084, jl_4147840, jl_8740238, jl_9872299, jl_175252482, jl_291595537, jl_1103515245, jl_2000000000, jl_2147483648, jl_4721686497, jl_7873079139, J_add, J_sub, J_mul, J_neg, JL_add, JL_sub, JL_mul, JL_neg, J_long, JL_int, ↓remI_fold, ↓remL_fold, Int.reduceAdd, Int.reduceSub, Int.reduceMul, Int.reduceNeg, Int.reduceToNat, Classical.not_not, em_t, Bp_eq0, Bp_eq1, Bp_01, Bp_mk, Bp_mk', Bp_0, Bp_0', Bp_1, Bp_1', if_true, if_false, ite_not, hg, hc_0 h, hc_1 h, hc_2 h, hc_3 h, hc_4 h, hc_5 h, hc_7 h, hc_8 h, hc_9 h, hc_10 h, hc_11 h, hc_12 h, hc_k h, hc_at h, Int.toNat_natCast, Option.bind_some, X_isRoof hg h, X_round h]
  by_cases h1 : 0 ≤ v ∧ v < cR C
  case neg => simp only [if_neg h1, ite_self]
  simp only [if_pos h1]
  obtain ⟨r, hr⟩ : ∃ r : Nat, v = r := ⟨v.toNat, by omega⟩
  subst hr
  have hr' : r < cR C := by omega
  simp only [Int.toNat_natCast]
  have key := lp_sum (fun n i s => fX0_silent_24 N w o (J r) (J (rnd C)) (fun y15 => some y15) n (J s) (J (i : Int))) (fun s => some (J s)) (rnd C) (fun b => ind (hh C r b = 0)) ?_ ?_ N 0 (by omega)
  · rw [Int.zero_add] at key
    exact key
  · intro n i s hi
    try dsimp only
    have h9 := hh_le C r i
    rw [fX0_silent_24]
    simp (disch := omega) only [jn_0, jn_1, jn_2, jn_3, jn_4, jn_5, jn_6, jn_8, jn_9, jn_10, jn_11, jn_12, jn_16, jn_20, jn_24, jn_30, jn_31, jn_32, jn_36, jn_48, jn_57, jn_59, jn_60, jn_63, jn_72, jn_73, jn_96, jn_97, jn_100, jn_122, jn_144, jn_200, jn_240, jn_288, jn_512, jn_840, jn_1200, jn_1600, jn_5040, jn_5390, jn_5400, jn_9999, jn_18688, jn_32400, jn_99999, jn_100000, jn_1000000, jn_858993459, jn_1431655765, jn_252645135, jl_0, jl_1, jl_2, jl_3, jl_8, jl_9, jl_10, jl_20, jl_27, jl_47, jl_96, jl_99, jl_100, jl_200, jl_555, jl_2000, jl_10000, jl_12345, jl_65536, jl_99999, jl_131638, jl_240023, jl_298288, jl_383153, jl_1306021, jl_1960084, jl_4147840, jl_8740238, jl_9872299, jl_175252482, jl_291595537, jl_1103515245, jl_2000000000, jl_2147483648, jl_4721686497, jl_7873079139, J_add, J_sub, J_mul, J_neg, JL_add, JL_sub, JL_mul, JL_neg, J_long, JL_int, ↓remI_fold, ↓remL_fold, Int.reduceAdd, Int.reduceSub, Int.reduceMul, Int.reduceNeg, Int.reduceToNat, Classical.not_not, em_t, Bp_eq0, Bp_eq1, Bp_01, Bp_mk, Bp_mk', Bp_0, Bp_0', Bp_1, Bp_1', if_true, if_false, ite_not, hg, hc_0 h, hc_1 h, hc_2 h, hc_3 h, hc_4 h, hc_5 h, hc_7 h, hc_8 h, hc_9 h, hc_10 h, hc_11 h, hc_12 h, hc_k h, hc_at h, Int.toNat_natCast, J_le, J_eq, castS, cast0, Option.bind_some, ht_k h hr', X_height h hr']
    rw [if_neg (by omega)]
    unfold ind
    by_cases h3 : hh C r i = 0
    · rw [if_pos h3, if_pos h3]
    · rw [if_neg h3, if_neg h3]
  · intro n s
    try dsimp only
    rw [fX0_silent_24]
    simp (disch := omega) only [jn_0, jn_1, jn_2, jn_3, jn_4, jn_5, jn_6, jn_8, jn_9, jn_10, jn_11, jn_12, jn_16, jn_20, jn_24, jn_30, jn_31, jn_32, jn_36, jn_48, jn_57, jn_59, jn_60, jn_63, jn_72, jn_73, jn_96, jn_97, jn_100, jn_122, jn_144, jn_200, jn_240, jn_288, jn_512, jn_840, jn_1200, jn_1600, jn_5040, jn_5390, jn_5400, jn_9999, jn_18688, jn_32400, jn_99999, jn_100000, jn_1000000, jn_858993459, jn_1431655765, jn_252645135, jl_0, jl_1, jl_2, jl_3, jl_8, jl_9, jl_10, jl_20, jl_27, jl_47, jl_96, jl_99, jl_100, jl_200, jl_555, jl_2000, jl_10000, jl_12345, jl_65536, jl_99999, jl_131638, jl_240023, jl_298288, jl_383153, jl_1306021, jl_1960084, jl_4147840, jl_8740238, jl_9872299, jl_175252482, jl_291595537, jl_1103515245, jl_2000000000, jl_2147483648, jl_4721686497, jl_7873079139, J_add, J_sub, J_mul, J_neg, JL_add, JL_sub, JL_mul, JL_neg, J_long, JL_int, ↓remI_fold, ↓remL_fold, Int.reduceAdd, Int.reduceSub, Int.reduceMul, Int.reduceNeg, Int.reduceToNat, Classical.not_not, em_t, Bp_eq0, Bp_eq1, Bp_01, Bp_mk, Bp_mk', Bp_0, Bp_0', Bp_1, Bp_1', if_true, if_false, ite_not, hg, hc_0 h, hc_1 h, hc_2 h, hc_3 h, hc_4 h, hc_5 h, hc_7 h, hc_8 h, hc_9 h, hc_10 h, hc_11 h, hc_12 h, hc_k h, hc_at h, Int.toNat_natCast, J_le, J_eq, castS, cast0, Option.bind_some]
    rw [if_pos (by omega)]
theorem X_isAway (h : Hc w c th C) {r : Nat} (hr : r < cR C) {b : Int} (hb : -900000 ≤ b ∧ b ≤ 900000) : fX2_isAway N w (th r) (J b) = some (Bp (0 < hh C r b ∧ tt C r b ≠ r)) := by
  have hR := cR_le C
  have h9 := hh_le C r b
  have h5 := tt_le C r b
  unfold fX2_isAway
  simp (disch := omega) only [jn_0, jn_1, jn_2, jn_3, jn_4, jn_5, jn_6, jn_8, jn_9, jn_10, jn_11, jn_12, jn_16, jn_20, jn_24, jn_30, jn_31, jn_32, jn_36, jn_48, jn_57, jn_59, jn_60, jn_63, jn_72, jn_73, jn_96, jn_97, jn_100, jn_122, jn_144, jn_200, jn_240, jn_288, jn_512, jn_840, jn_1200, jn_1600, jn_5040, jn_5390, jn_5400, jn_9999, jn_18688, jn_32400, jn_99999, jn_100000, jn_1000000, jn_858993459, jn_1431655765, jn_252645135, jl_0, jl_1, jl_2, jl_3, jl_8, jl_9, jl_10, jl_20, jl_27, jl_47, jl_96, jl_99, jl_100, jl_200, jl_555, jl_2000, jl_10000, jl_12345, jl_65536, jl_99999, jl_131638, jl_240023, jl_298288, jl_383153, jl_1306021, jl_1960084, jl_4147840, jl_8740238, jl_9872299, jl_175252482, jl_291595537, jl_1103515245, jl_2000000000, jl_2147483648, jl_4721686497, jl_7873079139, J_add, J_sub, J_mul, J_neg, JL_add, JL_sub, JL_mul, JL_neg, J_long, JL_int, ↓remI_fold, ↓remL_fold, Int.reduceAdd, Int.reduceSub, Int.reduceMul, Int.reduceNeg, Int.reduceToNat, Classical.not_not, em_t, Bp_eq0, Bp_eq1, Bp_01, Bp_mk, Bp_mk', Bp_0, Bp_0', Bp_1, Bp_1', if_true, if_false, ite_not, ht_k h hr, ht_0 h hr, X_height h hr, X_to h hr, J_le, J_eq, castE, Option.bind_some]
  congr 1; apply Bp_congr; omega
theorem X_wages (hg : gR w [0] o 0 = some c) (h : Hc w c th C) (ho : OkC C) (hN : 1000000 ≤ N) {v m : Int} (hv : -2147483648 ≤ v ∧ v ≤ 2147483647) (hm : -2147483648 ≤ m ∧ m ≤ 2147483647) : fX0_wages N w o (J v) (J m) = some (JL (sp_wages C v m)) := by
  have hR := cR_le C
  unfold fX0_wages sp_wages
  simp (disch := omega) only [jn_0, jn_1, jn_2, jn_3, jn_4, jn_5, jn_6, jn_8, jn_9, jn_10, jn_11, jn_12, jn_16, jn_20, jn_24, jn_30, jn_31, jn_32, jn_36, jn_48, jn_57, jn_59, jn_60, jn_63, jn_72, jn_73, jn_96, jn_97, jn_100, jn_122, jn_144, jn_200, jn_240, jn_288, jn_512, jn_840, jn_1200, jn_1600, jn_5040, jn_5390, jn_5400, jn_9999, jn_18688, jn_32400, jn_99999, jn_100000, jn_1000000, jn_858993459, jn_1431655765, jn_252645135, jl_0, jl_1, jl_2, jl_3, jl_8, jl_9, jl_10, jl_20, jl_27, jl_47, jl_96, jl_99, jl_100, jl_200, jl_555, jl_2000, jl_10000, jl_12345, jl_65536, jl_99999, jl_131638, jl_240023, jl_298288, jl_383153, jl_1306021, jl_1960084, jl_4147840, jl_8740238, jl_9872299, jl_175252482, jl_291595537, jl_1103515245, jl_2000000000, jl_2147483648, jl_4721686497, jl_7873079139, J_add, J_sub, J_mul, J_neg, JL_add, JL_sub, JL_mul, JL_neg, J_long, JL_int, ↓remI_fold, ↓remL_fold, Int.reduceAdd, Int.reduceSub, Int.reduceMul, Int.reduceNeg, Int.reduceToNat, Classical.not_not, em_t, Bp_eq0, Bp_eq1, Bp_01, Bp_mk, Bp_mk', Bp_0, Bp_0', Bp_1, Bp_1', if_true, if_false, ite_not, Option.bind_some, X_isRoof hg h, X_in]
  by_cases h1 : 0 ≤ v ∧ v < cR C
  case neg => simp only [if_neg h1, ite_self]
  simp only [if_pos h1]
  by_cases h2 : 0 ≤ m ∧ m ≤ 10000
  case neg => simp only [if_neg h2, ite_self]
  simp only [if_pos h2]
  obtain ⟨r, hr⟩ : ∃ r : Nat, v = r := ⟨v.toNat, by omega⟩
  subst hr
  obtain ⟨m, hr⟩ : ∃ r : Nat, m = r := ⟨m.toNat, by omega⟩
  subst hr
  have hr' : r < cR C := by omega
  simp (disch := omega) only [hg, hc_0 h, hc_1 h, hc_2 h, hc_3 h, hc_4 h, hc_5 h, hc_7 h, hc_8 h, hc_9 h, hc_10 h, hc_11 h, hc_12 h, hc_k h, hc_at h, Int.toNat_natCast, Option.bind_some]
  have key := lp_sum (fun n i s => fX0_wages_40 N w o (J m) (th r) (fun y15 => some y15) n (JL s) (J (i : Int))) (fun s => some (JL s)) (m) (wg C r) ?_ ?_ N 0 (by omega)
  · rw [Int.zero_add] at key
    exact key
  · intro n i s hi
    try dsimp only
    have h9 := hh_le C r i
    have h5 := tt_le C r i
    rw [fX0_wages_40]
    simp (disch := omega) only [jn_0, jn_1, jn_2, jn_3, jn_4, jn_5, jn_6, jn_8, jn_9, jn_10, jn_11, jn_12, jn_16, jn_20, jn_24, jn_30, jn_31, jn_32, jn_36, jn_48, jn_57, jn_59, jn_60, jn_63, jn_72, jn_73, jn_96, jn_97, jn_100, jn_122, jn_144, jn_200, jn_240, jn_288, jn_512, jn_840, jn_1200, jn_1600, jn_5040, jn_5390, jn_5400, jn_9999, jn_18688, jn_32400, jn_99999, jn_100000, jn_1000000, jn_858993459, jn_1431655765, jn_252645135, jl_0, jl_1, jl_2, jl_3, jl_8, jl_9, jl_10, jl_20, jl_27, jl_47, jl_96, jl_99, jl_100, jl_200, jl_555, jl_2000, jl_10000, jl_12345, jl_65536, jl_99999, jl_131638, jl_240023, jl_298288, jl_383153, jl_1306021, jl_1960084, jl_4147840, jl_8740238, jl_9872299, jl_175252482, jl_291595537, jl_1103515245, jl_2000000000, jl_2147483648, jl_4721686497, jl_7873079139, J_add, J_sub, J_mul, J_neg, JL_add, JL_sub, JL_mul, JL_neg, J_long, JL_int, ↓remI_fold, ↓remL_fold, Int.reduceAdd, Int.reduceSub, Int.reduceMul, Int.reduceNeg, Int.reduceToNat, Classical.not_not, em_t, Bp_eq0, Bp_eq1, Bp_01, Bp_mk, Bp_mk', Bp_0, Bp_0', Bp_1, Bp_1', if_true, if_false, ite_not, fX0_wages_64, J_le, castS, Option.bind_some, ht_k h hr', X_isAway h hr', X_height h hr']
    rw [if_neg (by omega)]
    unfold wg
    by_cases h3 : 0 < hh C r i
    · by_cases h4 : tt C r i = r
      · rw [if_neg (fun h => h.2 h4), if_pos h4]
      · rw [if_pos ⟨h3, h4⟩, if_neg h4]
    · have h0 : hh C r i = 0 := by omega
      rw [if_neg (fun h => h3 h.1), if_pos (tt_self ho hr' h0)]
  · intro n s
    try dsimp only
    rw [fX0_wages_40]
    simp (disch := omega) only [jn_0, jn_1, jn_2, jn_3, jn_4, jn_5, jn_6, jn_8, jn_9, jn_10, jn_11, jn_12, jn_16, jn_20, jn_24, jn_30, jn_31, jn_32, jn_36, jn_48, jn_57, jn_59, jn_60, jn_63, jn_72, jn_73, jn_96, jn_97, jn_100, jn_122, jn_144, jn_200, jn_240, jn_288, jn_512, jn_840, jn_1200, jn_1600, jn_5040, jn_5390, jn_5400, jn_9999, jn_18688, jn_32400, jn_99999, jn_100000, jn_1000000, jn_858993459, jn_1431655765, jn_252645135, jl_0, jl_1, jl_2, jl_3, jl_8, jl_9, jl_10, jl_20, jl_27, jl_47, jl_96, jl_99, jl_100, jl_200, jl_555, jl_2000, jl_10000, jl_12345, jl_65536, jl_99999, jl_131638, jl_240023, jl_298288, jl_383153, jl_1306021, jl_1960084, jl_4147840, jl_8740238, jl_9872299, jl_175252482, jl_291595537, jl_1103515245, jl_2000000000, jl_2147483648, jl_4721686497, jl_7873079139, J_add, J_sub, J_mul, J_neg, JL_add, JL_sub, JL_mul, JL_neg, J_long, JL_int, ↓remI_fold, ↓remL_fold, Int.reduceAdd, Int.reduceSub, Int.reduceMul, Int.reduceNeg, Int.reduceToNat, Classical.not_not, em_t, Bp_eq0, Bp_eq1, Bp_01, Bp_mk, Bp_mk', Bp_0, Bp_0', Bp_1, Bp_1', if_true, if_false, ite_not, fX0_wages_64, J_le, castS, Option.bind_some]
    rw [if_pos (by omega)]
theorem X_letter (hg : gR w [0] o 0 = some c) (h : Hc w c th C) {k x : Int} (hk : -2147483648 ≤ k ∧ k ≤ 2147483647) (hx : -2147483648 ≤ x ∧ x ≤ 2147483647) : fX0_letter N w o (J k) (J x) = some (J (sp_letter C k x)) := by
  have hR := cN_le C
  unfold fX0_letter sp_letter
  simp (disch := omega) only [jn_0, jn_1, jn_2, jn_3, jn_4, jn_5, jn_6, jn_8, jn_9, jn_10, jn_11, jn_12, jn_16, jn_20, jn_24, jn_30, jn_31, jn_32, jn_36, jn_48, jn_57, jn_59, jn_60, jn_63, jn_72, jn_73, jn_96, jn_97, jn_100, jn_122, jn_144, jn_200, jn_240, jn_288, jn_512, jn_840, jn_1200, jn_1600, jn_5040, jn_5390, jn_5400, jn_9999, jn_18688, jn_32400, jn_99999, jn_100000, jn_1000000, jn_858993459, jn_1431655765, jn_252645135, jl_0, jl_1, jl_2, jl_3, jl_8, jl_9, jl_10, jl_20, jl_27, jl_47, jl_96, jl_99, jl_100, jl_200, jl_555, jl_2000, jl_10000, jl_12345, jl_65536, jl_99999, jl_131638, jl_240023, jl_298288, jl_383153, jl_1306021, jl_1960084, jl_4147840, jl_8740238, jl_9872299, jl_175252482, jl_291595537, jl_1103515245, jl_2000000000, jl_2147483648, jl_4721686497, jl_7873079139, J_add, J_sub, J_mul, J_neg, JL_add, JL_sub, JL_mul, JL_neg, J_long, JL_int, ↓remI_fold, ↓remL_fold, Int.reduceAdd, Int.reduceSub, Int.reduceMul, Int.reduceNeg, Int.reduceToNat, Classical.not_not, em_t, Bp_eq0, Bp_eq1, Bp_01, Bp_mk, Bp_mk', Bp_0, Bp_0', Bp_1, Bp_1', if_true, if_false, ite_not, Option.bind_some, X_isLetter hg h, X_in, J_eq]
  by_cases h1 : 0 ≤ k ∧ k < cN C
  case neg => simp only [if_neg h1, ite_self]
  simp only [if_pos h1]
  by_cases h2 : 0 ≤ x ∧ x ≤ 2
  case neg => simp only [if_neg h2, ite_self]
  simp only [if_pos h2]
  simp (disch := omega) only [hg, hc_0 h, hc_1 h, hc_2 h, hc_3 h, hc_4 h, hc_5 h, hc_7 h, hc_8 h, hc_9 h, hc_10 h, hc_11 h, hc_12 h, hc_k h, hc_at h, Int.toNat_natCast, hc_F h, hc_A h, hc_D h, Option.bind_some]
  by_cases h4 : x = 0
  · simp only [if_pos h4]
  simp only [if_neg h4]
  by_cases h5 : x = 1
  · simp only [if_pos h5]
  simp only [if_neg h5]
theorem X_isFrom1 (h : Hc w c th C) {q i r : Nat} (hq : q < cR C) (hi : i < 9) (hr : r ≤ 9) {b : Int} (hb : -900000 ≤ b ∧ b ≤ 900000) : fX1_isFrom N w c (J q) (J ((1 + i : Nat) : Int)) (J r) (J b) = some (Bp (lnd C r b q i = true)) := by
  rw [X_isFrom h hq (by omega) hr hb]
  congr 1; apply Bp_congr
  unfold lnd
  rw [decide_eq_true_iff, show ((1 + i : Nat) : Int) = 1 + (i : Int) by omega]
theorem X_lands41 (hg : gR w [0] o 0 = some c) (h : Hc w c th C) {j r : Nat} (hj : j < 9) (hr : r ≤ 9) {b : Int} (hb : -900000 ≤ b ∧ b ≤ 900000) (kf : Int32 → Option Int32) (ke : Option Int32) {n : Nat} (hn : 6 < n) : fX0_lands_41 N w o (J r) (J b) (J ((1 + j : Nat) : Int)) kf ke n (J 0) = match fi (fun q => lnd C r b q j) (cR C) with | some q => kf (J q) | none => ke := by
  have hR := cR_le C
  have key := lp_find (fun n q => fX0_lands_41 N w o (J r) (J b) (J ((1 + j : Nat) : Int)) kf ke n (J (q : Int))) (fun q => kf (J q)) ke (cR C) (fun q => lnd C r b q j) ?_ ?_ n (by omega)
  · exact key
  · intro n i hi
    try dsimp only
    rw [fX0_lands_41]
    simp (disch := omega) only [jn_0, jn_1, jn_2, jn_3, jn_4, jn_5, jn_6, jn_8, jn_9, jn_10, jn_11, jn_12, jn_16, jn_20, jn_24, jn_30, jn_31, jn_32, jn_36, jn_48, jn_57, jn_59, jn_60, jn_63, jn_72, jn_73, jn_96, jn_97, jn_100, jn_122, jn_144, jn_200, jn_240, jn_288, jn_512, jn_840, jn_1200, jn_1600, jn_5040, jn_5390, jn_5400, jn_9999, jn_18688, jn_32400, jn_99999, jn_100000, jn_1000000, jn_858993459, jn_1431655765, jn_252645135, jl_0, jl_1, jl_2, jl_3, jl_8, jl_9, jl_10, jl_20, jl_27, jl_47, jl_96, jl_99, jl_100, jl_200, jl_555, jl_2000, jl_10000, jl_12345, jl_65536, jl_99999, jl_131638, jl_240023, jl_298288, jl_383153, jl_1306021, jl_1960084, jl_4147840, jl_8740238, jl_9872299, jl_175252482, jl_291595537, jl_1103515245, jl_2000000000, jl_2147483648, jl_4721686497, jl_7873079139, J_add, J_sub, J_mul, J_neg, JL_add, JL_sub, JL_mul, JL_neg, J_long, JL_int, ↓remI_fold, ↓remL_fold, Int.reduceAdd, Int.reduceSub, Int.reduceMul, Int.reduceNeg, Int.reduceToNat, Classical.not_not, em_t, Bp_eq0, Bp_eq1, Bp_01, Bp_mk, Bp_mk', Bp_0, Bp_0', Bp_1, Bp_1', if_true, if_false, ite_not, hg, hc_0 h, hc_1 h, hc_2 h, hc_3 h, hc_4 h, hc_5 h, hc_7 h, hc_8 h, hc_9 h, hc_10 h, hc_11 h, hc_12 h, hc_k h, hc_at h, Int.toNat_natCast, J_le, castS, Option.bind_some, X_isFrom1 h hi hj hr hb]
    rw [if_neg (by omega)]
  · intro n
    try dsimp only
    rw [fX0_lands_41]
    simp (disch := omega) only [jn_0, jn_1, jn_2, jn_3, jn_4, jn_5, jn_6, jn_8, jn_9, jn_10, jn_11, jn_12, jn_16, jn_20, jn_24, jn_30, jn_31, jn_32, jn_36, jn_48, jn_57, jn_59, jn_60, jn_63, jn_72, jn_73, jn_96, jn_97, jn_100, jn_122, jn_144, jn_200, jn_240, jn_288, jn_512, jn_840, jn_1200, jn_1600, jn_5040, jn_5390, jn_5400, jn_9999, jn_18688, jn_32400, jn_99999, jn_100000, jn_1000000, jn_858993459, jn_1431655765, jn_252645135, jl_0, jl_1, jl_2, jl_3, jl_8, jl_9, jl_10, jl_20, jl_27, jl_47, jl_96, jl_99, jl_100, jl_200, jl_555, jl_2000, jl_10000, jl_12345, jl_65536, jl_99999, jl_131638, jl_240023, jl_298288, jl_383153, jl_1306021, jl_1960084, jl_4147840, jl_8740238, jl_9872299, jl_175252482, jl_291595537, jl_1103515245, jl_2000000000, jl_2147483648, jl_4721686497, jl_7873079139, J_add, J_sub, J_mul, J_neg, JL_add, JL_sub, JL_mul, JL_neg, J_long, JL_int, ↓remI_fold, ↓remL_fold, Int.reduceAdd, Int.reduceSub, Int.reduceMul, Int.reduceNeg, Int.reduceToNat, Classical.not_not, em_t, Bp_eq0, Bp_eq1, Bp_01, Bp_mk, Bp_mk', Bp_0, Bp_0', Bp_1, Bp_1', if_true, if_false, ite_not, hg, hc_0 h, hc_1 h, hc_2 h, hc_3 h, hc_4 h, hc_5 h, hc_7 h, hc_8 h, hc_9 h, hc_10 h, hc_11 h, hc_12 h, hc_k h, hc_at h, Int.toNat_natCast, J_le, castS, Option.bind_some]
    rw [if_pos (by omega)]
theorem X_lands (hg : gR w [0] o 0 = some c) (h : Hc w c th C) (ho : OkC C) (hN : 1000000 ≤ N) {v b : Int} (hv : -2147483648 ≤ v ∧ v ≤ 2147483647) (hb : -2147483648 ≤ b ∧ b ≤ 2147483647) : fX0_lands N w o (J v) (J b) = some (J (sp_lands C v b)) := by
  have hR := cR_le C
  unfold fX0_lands sp_lands
  simp (disch := omega) only [jn_0, jn_1, jn_2, jn_3, jn_4, jn_5, jn_6, jn_8, jn_9, jn_10, jn_11, jn_12, jn_16, jn_20, jn_24, jn_30, jn_31, jn_32, jn_36, jn_48, jn_57, jn_59, jn_60, jn_63, jn_72, jn_73, jn_96, jn_97, jn_100, jn_122, jn_144, jn_200, jn_240, jn_288, jn_512, jn_840, jn_1200, jn_1600, jn_5040, jn_5390, jn_5400, jn_9999, jn_18688, jn_32400, jn_99999, jn_100000, jn_1000000, jn_858993459, jn_1431655765, jn_252645135, jl_0, jl_1, jl_2, jl_3, jl_8, jl_9, jl_10, jl_20, jl_27, jl_47, jl_96, jl_99, jl_100, jl_200, jl_555, jl_2000, jl_10000, jl_12345, jl_65536, jl_99999, jl_131638, jl_240023, jl_298288, jl_383153, jl_1306021, jl_1960084, jl_4147840, jl_8740238, jl_9872299, jl_175252482, jl_291595537, jl_1103515245, jl_2000000000, jl_2147483648, jl_4721686497, jl_7873079139, J_add, J_sub, J_mul, J_neg, JL_add, JL_sub, JL_mul, JL_neg, J_long, JL_int, ↓remI_fold, ↓remL_fold, Int.reduceAdd, Int.reduceSub, Int.reduceMul, Int.reduceNeg, Int.reduceToNat, Classical.not_not, em_t, Bp_eq0, Bp_eq1, Bp_01, Bp_mk, Bp_mk', Bp_0, Bp_0', Bp_1, Bp_1', if_true, if_false, ite_not, hg, hc_0 h, hc_1 h, hc_2 h, hc_3 h, hc_4 h, hc_5 h, hc_7 h, hc_8 h, hc_9 h, hc_10 h, hc_11 h, hc_12 h, hc_k h, hc_at h, Int.toNat_natCast, Option.bind_some, X_isBeat, X_isRoof hg h, X_keepsC h]
  by_cases h1 : 0 ≤ v ∧ v < cR C
  case neg => simp only [if_neg h1, ite_self]
  simp only [if_pos h1]
  by_cases h2 : 0 ≤ b ∧ b ≤ 99999
  case neg => simp only [if_neg h2, ite_self]
  simp only [if_pos h2]
  by_cases h3 : kp C = true
  case neg => simp only [if_neg h3, ite_self]
  simp only [if_pos h3]
  obtain ⟨r, hr⟩ : ∃ r : Nat, v = r := ⟨v.toNat, by omega⟩
  subst hr
  simp only [Int.toNat_natCast]
  have key := lp_find (fun n i => fX0_lands_32 N w o (J r) (J b) (fun y14 y15 => some (J 10 * y14 + y15)) (some (J (-1))) n (J ((1 + i : Nat) : Int))) (fun i => match fi (fun q => lnd C r b q i) (cR C) with | some q => some (J (10 * (1 + i) + q)) | none => none) (some (J (-1))) (9) (fun i => (fi (fun q => lnd C r b q i) (cR C)).isSome) ?_ ?_ N (by omega)
  · refine Eq.trans key ?_
    rw [← ld_eq h3 ho]
    unfold ldX
    cases h' : fi (fun i => (fi (fun q => lnd C r b q i) (cR C)).isSome) 9 with
    | none => rfl
    | some i =>
      have hq := ((fi_some _ _ _).1 h').2.1
      simp only [Option.bind_some]
      cases h'' : fi (fun q => lnd C r b q i) (cR C) with
      | none => rw [h''] at hq; cases hq
      | some r => rfl
  · intro n i hi
    try dsimp only
    rw [fX0_lands_32]
    simp (disch := omega) only [jn_0, jn_1, jn_2, jn_3, jn_4, jn_5, jn_6, jn_8, jn_9, jn_10, jn_11, jn_12, jn_16, jn_20, jn_24, jn_30, jn_31, jn_32, jn_36, jn_48, jn_57, jn_59, jn_60, jn_63, jn_72, jn_73, jn_96, jn_97, jn_100, jn_122, jn_144, jn_200, jn_240, jn_288, jn_512, jn_840, jn_1200, jn_1600, jn_5040, jn_5390, jn_5400, jn_9999, jn_18688, jn_32400, jn_99999, jn_100000, jn_1000000, jn_858993459, jn_1431655765, jn_252645135, jl_0, jl_1, jl_2, jl_3, jl_8, jl_9, jl_10, jl_20, jl_27, jl_47, jl_96, jl_99, jl_100, jl_200, jl_555, jl_2000, jl_10000, jl_12345, jl_65536, jl_99999, jl_131638, jl_240023, jl_298288, jl_383153, jl_1306021, jl_1960084, jl_4147840, jl_8740238, jl_9872299, jl_175252482, jl_291595537, jl_1103515245, jl_2000000000, jl_2147483648, jl_4721686497, jl_7873079139, J_add, J_sub, J_mul, J_neg, JL_add, JL_sub, JL_mul, JL_neg, J_long, JL_int, ↓remI_fold, ↓remL_fold, Int.reduceAdd, Int.reduceSub, Int.reduceMul, Int.reduceNeg, Int.reduceToNat, J_lt, Option.bind_some]
    rw [if_neg (by omega), X_lands41 hg h hi (by omega) (by omega) _ _ (by omega), show ((1 + i : Nat) : Int) + 1 = ((1 + (i + 1) : Nat) : Int) by omega]
    cases fi (fun q => lnd C r b q i) (cR C) with
    | none => rfl
    | some q => simp only [jn_0, jn_1, jn_2, jn_3, jn_4, jn_5, jn_6, jn_8, jn_9, jn_10, jn_11, jn_12, jn_16, jn_20, jn_24, jn_30, jn_31, jn_32, jn_36, jn_48, jn_57, jn_59, jn_60, jn_63, jn_72, jn_73, jn_96, jn_97, jn_100, jn_122, jn_144, jn_200, jn_240, jn_288, jn_512, jn_840, jn_1200, jn_1600, jn_5040, jn_5390, jn_5400, jn_9999, jn_18688, jn_32400, jn_99999, jn_100000, jn_1000000, jn_858993459, jn_1431655765, jn_252645135, jl_0, jl_1, jl_2, jl_3, jl_8, jl_9, jl_10, jl_20, jl_27, jl_47, jl_96, jl_99, jl_100, jl_200, jl_555, jl_2000, jl_10000, jl_12345, jl_65536, jl_99999, jl_131638, jl_240023, jl_298288, jl_383153, jl_1306021, jl_1960084, jl_4147840, jl_8740238, jl_9872299, jl_175252482, jl_291595537, jl_1103515245, jl_2000000000, jl_2147483648, jl_4721686497, jl_7873079139, J_add, J_sub, J_mul, J_neg, JL_add, JL_sub, JL_mul, JL_neg, J_long, JL_int, ↓remI_fold, ↓remL_fold, Int.reduceAdd, Int.reduceSub, Int.reduceMul, Int.reduceNeg, Int.reduceToNat]; rw [show ((1 + i : Nat) : Int) = 1 + (i : Int) by omega]; rfl
  · intro n
    try dsimp only
    rw [fX0_lands_32]
    simp (disch := omega) only [jn_0, jn_1, jn_2, jn_3, jn_4, jn_5, jn_6, jn_8, jn_9, jn_10, jn_11, jn_12, jn_16, jn_20, jn_24, jn_30, jn_31, jn_32, jn_36, jn_48, jn_57, jn_59, jn_60, jn_63, jn_72, jn_73, jn_96, jn_97, jn_100, jn_122, jn_144, jn_200, jn_240, jn_288, jn_512, jn_840, jn_1200, jn_1600, jn_5040, jn_5390, jn_5400, jn_9999, jn_18688, jn_32400, jn_99999, jn_100000, jn_1000000, jn_858993459, jn_1431655765, jn_252645135, jl_0, jl_1, jl_2, jl_3, jl_8, jl_9, jl_10, jl_20, jl_27, jl_47, jl_96, jl_99, jl_100, jl_200, jl_555, jl_2000, jl_10000, jl_12345, jl_65536, jl_99999, jl_131638, jl_240023, jl_298288, jl_383153, jl_1306021, jl_1960084, jl_4147840, jl_8740238, jl_9872299, jl_175252482, jl_291595537, jl_1103515245, jl_2000000000, jl_2147483648, jl_4721686497, jl_7873079139, J_add, J_sub, J_mul, J_neg, JL_add, JL_sub, JL_mul, JL_neg, J_long, JL_int, ↓remI_fold, ↓remL_fold, Int.reduceAdd, Int.reduceSub, Int.reduceMul, Int.reduceNeg, Int.reduceToNat, J_lt, Option.bind_some]
    rw [if_pos (by omega)]
end
