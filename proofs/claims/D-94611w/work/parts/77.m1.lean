/-! the reference: what it asks, rounds, throws, what comes down -/
set_option maxRecDepth 100000
section
variable {N o : Nat} {S : MS} {w : Wd} {C : Cy}
theorem M_in {v a b : Int} (h : (-9223372036854775808 ≤ v ∧ v ≤ 9223372036854775807) ∧ (-9223372036854775808 ≤ a ∧ a ≤ 9223372036854775807) ∧ -9223372036854775808 ≤ b ∧ b ≤ 9223372036854775807) : fX5_in N w (JL v) (JL a) (JL b) = some (Bp (a ≤ v ∧ v ≤ b)) := by
  unfold fX5_in
  simp (disch := omega) only [jn_0, jn_1, jn_2, jn_3, jn_4, jn_5, jn_6, jn_8, jn_9, jn_10, jn_11, jn_12, jn_16, jn_20, jn_24, jn_30, jn_31, jn_32, jn_36, jn_48, jn_57, jn_59, jn_60, jn_63, jn_72, jn_73, jn_96, jn_97, jn_100, jn_122, jn_144, jn_200, jn_240, jn_288, jn_512, jn_840, jn_1200, jn_1600, jn_5040, jn_5390, jn_5400, jn_9999, jn_18688, jn_32400, jn_99999, jn_100000, jn_1000000, jn_858993459, jn_1431655765, jn_252645135, jl_0, jl_1, jl_2, jl_3, jl_8, jl_9, jl_10, jl_20, jl_27, jl_47, jl_96, jl_99, jl_100, jl_200, jl_555, jl_2000, jl_10000, jl_12345, jl_65536, jl_99999, jl_131638, jl_240023, jl_298288, jl_383153, jl_1306021, jl_1960084, jl_4147840, jl_8740238, jl_9872299, jl_175252482, jl_291595537, jl_1103515245, jl_2000000000, jl_2147483648, jl_4721686497, jl_7873079139, J_add, J_sub, J_mul, J_neg, JL_add, JL_sub, JL_mul, JL_neg, J_long, JL_int, ↓remI_fold, ↓remL_fold, Int.reduceAdd, Int.reduceSub, Int.reduceMul, Int.reduceNeg, Int.reduceToNat, J_le, J_lt, J_eq, JL_le, JL_lt, JL_eq, cmp_lt0, cmp_gt0, cmp_le0, cmp_ge0, cmp_eq0, Classical.not_not, em_t, Bp_eq0, Bp_eq1, Bp_01, Bp_mk, Bp_mk', Bp_0, Bp_0', Bp_1, Bp_1', if_true, if_false, ite_not]
  congr 1; apply Bp_congr; omega
theorem M_isBeat {v : Int} (h : -2147483648 ≤ v ∧ v ≤ 2147483647) : fX5_isBeat N w (J v) = some (Bp (0 ≤ v ∧ v ≤ 99999)) := by
  unfold fX5_isBeat
  simp (disch := omega) only [jn_0, jn_1, jn_2, jn_3, jn_4, jn_5, jn_6, jn_8, jn_9, jn_10, jn_11, jn_12, jn_16, jn_20, jn_24, jn_30, jn_31, jn_32, jn_36, jn_48, jn_57, jn_59, jn_60, jn_63, jn_72, jn_73, jn_96, jn_97, jn_100, jn_122, jn_144, jn_200, jn_240, jn_288, jn_512, jn_840, jn_1200, jn_1600, jn_5040, jn_5390, jn_5400, jn_9999, jn_18688, jn_32400, jn_99999, jn_100000, jn_1000000, jn_858993459, jn_1431655765, jn_252645135, jl_0, jl_1, jl_2, jl_3, jl_8, jl_9, jl_10, jl_20, jl_27, jl_47, jl_96, jl_99, jl_100, jl_200, jl_555, jl_2000, jl_10000, jl_12345, jl_65536, jl_99999, jl_131638, jl_240023, jl_298288, jl_383153, jl_1306021, jl_1960084, jl_4147840, jl_8740238, jl_9872299, jl_175252482, jl_291595537, jl_1103515245, jl_2000000000, jl_2147483648, jl_4721686497, jl_7873079139, J_add, J_sub, J_mul, J_neg, JL_add, JL_sub, JL_mul, JL_neg, J_long, JL_int, ↓remI_fold, ↓remL_fold, Int.reduceAdd, Int.reduceSub, Int.reduceMul, Int.reduceNeg, Int.reduceToNat, M_in, Option.bind_some, Classical.not_not, em_t, Bp_eq0, Bp_eq1, Bp_01, Bp_mk, Bp_mk', Bp_0, Bp_0', Bp_1, Bp_1', if_true, if_false, ite_not]
theorem M_isSlot {v : Int} (h : -2147483648 ≤ v ∧ v ≤ 2147483647) : fX5_isSlot N w (J v) = some (Bp (0 ≤ v ∧ v ≤ 3)) := by
  unfold fX5_isSlot
  simp (disch := omega) only [jn_0, jn_1, jn_2, jn_3, jn_4, jn_5, jn_6, jn_8, jn_9, jn_10, jn_11, jn_12, jn_16, jn_20, jn_24, jn_30, jn_31, jn_32, jn_36, jn_48, jn_57, jn_59, jn_60, jn_63, jn_72, jn_73, jn_96, jn_97, jn_100, jn_122, jn_144, jn_200, jn_240, jn_288, jn_512, jn_840, jn_1200, jn_1600, jn_5040, jn_5390, jn_5400, jn_9999, jn_18688, jn_32400, jn_99999, jn_100000, jn_1000000, jn_858993459, jn_1431655765, jn_252645135, jl_0, jl_1, jl_2, jl_3, jl_8, jl_9, jl_10, jl_20, jl_27, jl_47, jl_96, jl_99, jl_100, jl_200, jl_555, jl_2000, jl_10000, jl_12345, jl_65536, jl_99999, jl_131638, jl_240023, jl_298288, jl_383153, jl_1306021, jl_1960084, jl_4147840, jl_8740238, jl_9872299, jl_175252482, jl_291595537, jl_1103515245, jl_2000000000, jl_2147483648, jl_4721686497, jl_7873079139, J_add, J_sub, J_mul, J_neg, JL_add, JL_sub, JL_mul, JL_neg, J_long, JL_int, ↓remI_fold, ↓remL_fold, Int.reduceAdd, Int.reduceSub, Int.reduceMul, Int.reduceNeg, Int.reduceToNat, M_in, Option.bind_some, Classical.not_not, em_t, Bp_eq0, Bp_eq1, Bp_01, Bp_mk, Bp_mk', Bp_0, Bp_0', Bp_1, Bp_1', if_true, if_false, ite_not]
theorem M_isCity (hG : GdM S 0 C) : fX5_isCity N (emM o S w) o = some (Bp (0 < cR C)) := by
  have hR := cR_le C
  unfold fX5_isCity
  simp (disch := omega) only [jn_0, jn_1, jn_2, jn_3, jn_4, jn_5, jn_6, jn_8, jn_9, jn_10, jn_11, jn_12, jn_16, jn_20, jn_24, jn_30, jn_31, jn_32, jn_36, jn_48, jn_57, jn_59, jn_60, jn_63, jn_72, jn_73, jn_96, jn_97, jn_100, jn_122, jn_144, jn_200, jn_240, jn_288, jn_512, jn_840, jn_1200, jn_1600, jn_5040, jn_5390, jn_5400, jn_9999, jn_18688, jn_32400, jn_99999, jn_100000, jn_1000000, jn_858993459, jn_1431655765, jn_252645135, jl_0, jl_1, jl_2, jl_3, jl_8, jl_9, jl_10, jl_20, jl_27, jl_47, jl_96, jl_99, jl_100, jl_200, jl_555, jl_2000, jl_10000, jl_12345, jl_65536, jl_99999, jl_131638, jl_240023, jl_298288, jl_383153, jl_1306021, jl_1960084, jl_4147840, jl_8740238, jl_9872299, jl_175252482, jl_291595537, jl_1103515245, jl_2000000000, jl_2147483648, jl_4721686497, jl_7873079139, J_add, J_sub, J_mul, J_neg, JL_add, JL_sub, JL_mul, JL_neg, J_long, JL_int, ↓remI_fold, ↓remL_fold, Int.reduceAdd, Int.reduceSub, Int.reduceMul, Int.reduceNeg, Int.reduceToNat, J_le, J_lt, J_eq, JL_le, JL_lt, JL_eq, cmp_lt0, cmp_gt0, cmp_le0, cmp_ge0, cmp_eq0, mg_0, mg_1, mg_2, mg_3, mg_4, mg_5, mg_6, mg_7, mg_8, mg_9, mg_10, mg_11, mg_12, mg_13, mg_14, mg_15, mg_16, mg_17, mg_18, mg_19, mg_20, mg_21, mg_22, mg_23, mg_24, mg_25, mg_26, mg_27, mg_28, mg_29, mg_30, mg_31, mg_32, mg_33, mg_34, mg_35, mg_36, mg_37, mg_38, mg_39, mg_40, mg_41, mg_42, mg_43, mg_44, mg_45, mr_1, mr_2, mr_3, mr_4, mr_5, mr_6, mr_7, mr_8, mr_9, mr_10, mr_11, mr_12, mr_13, mr_14, mr_15, mr_16, mr_17, mr_18, mr_19, mr_20, mr_21, mr_22, mr_23, mr_24, mr_25, Option.bind_some, gm_R hG, Classical.not_not, em_t, Bp_eq0, Bp_eq1, Bp_01, Bp_mk, Bp_mk', Bp_0, Bp_0', Bp_1, Bp_1', if_true, if_false, ite_not]
  congr 1; apply Bp_congr; omega
theorem M_isRoof (hG : GdM S 0 C) {v : Int} (h : -2147483648 ≤ v ∧ v ≤ 2147483647) : fX5_isRoof N (emM o S w) o (J v) = some (Bp (0 ≤ v ∧ v < cR C)) := by
  have hR := cR_le C
  unfold fX5_isRoof
  simp (disch := omega) only [jn_0, jn_1, jn_2, jn_3, jn_4, jn_5, jn_6, jn_8, jn_9, jn_10, jn_11, jn_12, jn_16, jn_20, jn_24, jn_30, jn_31, jn_32, jn_36, jn_48, jn_57, jn_59, jn_60, jn_63, jn_72, jn_73, jn_96, jn_97, jn_100, jn_122, jn_144, jn_200, jn_240, jn_288, jn_512, jn_840, jn_1200, jn_1600, jn_5040, jn_5390, jn_5400, jn_9999, jn_18688, jn_32400, jn_99999, jn_100000, jn_1000000, jn_858993459, jn_1431655765, jn_252645135, jl_0, jl_1, jl_2, jl_3, jl_8, jl_9, jl_10, jl_20, jl_27, jl_47, jl_96, jl_99, jl_100, jl_200, jl_555, jl_2000, jl_10000, jl_12345, jl_65536, jl_99999, jl_131638, jl_240023, jl_298288, jl_383153, jl_1306021, jl_1960084, jl_4147840, jl_8740238, jl_9872299, jl_175252482, jl_291595537, jl_1103515245, jl_2000000000, jl_2147483648, jl_4721686497, jl_7873079139, J_add, J_sub, J_mul, J_neg, JL_add, JL_sub, JL_mul, JL_neg, J_long, JL_int, ↓remI_fold, ↓remL_fold, Int.reduceAdd, Int.reduceSub, Int.reduceMul, Int.reduceNeg, Int.reduceToNat, M_in, mg_0, mg_1, mg_2, mg_3, mg_4, mg_5, mg_6, mg_7, mg_8, mg_9, mg_10, mg_11, mg_12, mg_13, mg_14, mg_15, mg_16, mg_17, mg_18, mg_19, mg_20, mg_21, mg_22, mg_23, mg_24, mg_25, mg_26, mg_27, mg_28, mg_29, mg_30, mg_31, mg_32, mg_33, mg_34, mg_35, mg_36, mg_37, mg_38, mg_39, mg_40, mg_41, mg_42, mg_43, mg_44, mg_45, mr_1, mr_2, mr_3, mr_4, mr_5, mr_6, mr_7, mr_8, mr_9, mr_10, mr_11, mr_12, mr_13, mr_14, mr_15, mr_16, mr_17, mr_18, mr_19, mr_20, mr_21, mr_22, mr_23, mr_24, mr_25, Option.bind_some, gm_R hG, Classical.not_not, em_t, Bp_eq0, Bp_eq1, Bp_01, Bp_mk, Bp_mk', Bp_0, Bp_0', Bp_1, Bp_1', if_true, if_false, ite_not]
  congr 1; apply Bp_congr; omega
theorem M_isLetter (hG : GdM S 0 C) {v : Int} (h : -2147483648 ≤ v ∧ v ≤ 2147483647) : fX5_isLetter N (emM o S w) o (J v) = some (Bp (0 ≤ v ∧ v < cN C)) := by
  have hR := cN_le C
  unfold fX5_isLetter
  simp (disch := omega) only [jn_0, jn_1, jn_2, jn_3, jn_4, jn_5, jn_6, jn_8, jn_9, jn_10, jn_11, jn_12, jn_16, jn_20, jn_24, jn_30, jn_31, jn_32, jn_36, jn_48, jn_57, jn_59, jn_60, jn_63, jn_72, jn_73, jn_96, jn_97, jn_100, jn_122, jn_144, jn_200, jn_240, jn_288, jn_512, jn_840, jn_1200, jn_1600, jn_5040, jn_5390, jn_5400, jn_9999, jn_18688, jn_32400, jn_99999, jn_100000, jn_1000000, jn_858993459, jn_1431655765, jn_252645135, jl_0, jl_1, jl_2, jl_3, jl_8, jl_9, jl_10, jl_20, jl_27, jl_47, jl_96, jl_99, jl_100, jl_200, jl_555, jl_2000, jl_10000, jl_12345, jl_65536, jl_99999, jl_131638, jl_240023, jl_298288, jl_383153, jl_1306021, jl_1960084, jl_4147840, jl_8740238, jl_9872299, jl_175252482, jl_291595537, jl_1103515245, jl_2000000000, jl_2147483648, jl_4721686497, jl_7873079139, J_add, J_sub, J_mul, J_neg, JL_add, JL_sub, JL_mul, JL_neg, J_long, JL_int, ↓remI_fold, ↓remL_fold, Int.reduceAdd, Int.reduceSub, Int.reduceMul, Int.reduceNeg, Int.reduceToNat, M_in, mg_0, mg_1, mg_2, mg_3, mg_4, mg_5, mg_6, mg_7, mg_8, mg_9, mg_10, mg_11, mg_12, mg_13, mg_14, mg_15, mg_16, mg_17, mg_18, mg_19, mg_20, mg_21, mg_22, mg_23, mg_24, mg_25, mg_26, mg_27, mg_28, mg_29, mg_30, mg_31, mg_32, mg_33, mg_34, mg_35, mg_36, mg_37, mg_38, mg_39, mg_40, mg_41, mg_42, mg_43, mg_44, mg_45, mr_1, mr_2, mr_3, mr_4, mr_5, mr_6, mr_7, mr_8, mr_9, mr_10, mr_11, mr_12, mr_13, mr_14, mr_15, mr_16, mr_17, mr_18, mr_19, mr_20, mr_21, mr_22, mr_23, mr_24, mr_25, Option.bind_some, gm_N hG, Classical.not_not, em_t, Bp_eq0, Bp_eq1, Bp_01, Bp_mk, Bp_mk', Bp_0, Bp_0', Bp_1, Bp_1', if_true, if_false, ite_not]
  congr 1; apply Bp_congr; omega
theorem tm_em (b p : Int) (hp : 0 < p) : b % p = if 0 ≤ b.tmod p then b.tmod p else b.tmod p + p := by
  have h1 := Int.emod_nonneg b (show p ≠ 0 by omega)
  have h2 := Int.emod_lt_of_pos b hp
  have h3 := Int.tmod_eq_emod (a := b) (b := p)
  split at h3 <;> split <;> omega
theorem M_placeOf (hG : GdM S 0 C) {r : Nat} (hr : r < cR C) {b : Int} (hb : -1000000 ≤ b ∧ b ≤ 1000000) : fX5_placeOf N (emM o S w) o (J r) (J b) = some (J (8 * r + pl C r b)) := by
  have hR := cR_le C
  have hP := cP_bd C r
  have hl := pl_lt C r b
  have hc := pl_cast C r b
  have hm := tm_em b (cP C r) (by omega)
  have hb1 := Int.tmod_lt_of_pos b (show (0 : Int) < cP C r by omega)
  unfold fX5_placeOf
  simp (disch := omega) only [jn_0, jn_1, jn_2, jn_3, jn_4, jn_5, jn_6, jn_8, jn_9, jn_10, jn_11, jn_12, jn_16, jn_20, jn_24, jn_30, jn_31, jn_32, jn_36, jn_48, jn_57, jn_59, jn_60, jn_63, jn_72, jn_73, jn_96, jn_97, jn_100, jn_122, jn_144, jn_200, jn_240, jn_288, jn_512, jn_840, jn_1200, jn_1600, jn_5040, jn_5390, jn_5400, jn_9999, jn_18688, jn_32400, jn_99999, jn_100000, jn_1000000, jn_858993459, jn_1431655765, jn_252645135, jl_0, jl_1, jl_2, jl_3, jl_8, jl_9, jl_10, jl_20, jl_27, jl_47, jl_96, jl_99, jl_100, jl_200, jl_555, jl_2000, jl_10000, jl_12345, jl_65536, jl_99999, jl_131638, jl_240023, jl_298288, jl_383153, jl_1306021, jl_1960084, jl_4147840, jl_8740238, jl_9872299, jl_175252482, jl_291595537, jl_1103515245, jl_2000000000, jl_2147483648, jl_4721686497, jl_7873079139, J_add, J_sub, J_mul, J_neg, JL_add, JL_sub, JL_mul, JL_neg, J_long, JL_int, ↓remI_fold, ↓remL_fold, Int.reduceAdd, Int.reduceSub, Int.reduceMul, Int.reduceNeg, Int.reduceToNat, mg_0, mg_1, mg_2, mg_3, mg_4, mg_5, mg_6, mg_7, mg_8, mg_9, mg_10, mg_11, mg_12, mg_13, mg_14, mg_15, mg_16, mg_17, mg_18, mg_19, mg_20, mg_21, mg_22, mg_23, mg_24, mg_25, mg_26, mg_27, mg_28, mg_29, mg_30, mg_31, mg_32, mg_33, mg_34, mg_35, mg_36, mg_37, mg_38, mg_39, mg_40, mg_41, mg_42, mg_43, mg_44, mg_45, mr_1, mr_2, mr_3, mr_4, mr_5, mr_6, mr_7, mr_8, mr_9, mr_10, mr_11, mr_12, mr_13, mr_14, mr_15, mr_16, mr_17, mr_18, mr_19, mr_20, mr_21, mr_22, mr_23, mr_24, mr_25, Option.bind_some, gm_P hG hr, J_remT, Int.toNat_natCast, J_eq]
  rw [if_neg (by omega)]
  by_cases h0 : 0 ≤ b.tmod (cP C r)
  · rw [if_pos h0] at hm
    rw [if_pos (by rw [J_le (by omega)]; exact h0), hc, hm]
  · rw [if_neg h0] at hm
    have hb2 : -1000000 ≤ b.tmod (cP C r) := by omega
    rw [if_neg (by rw [J_le (by omega)]; exact h0), hc, hm]
theorem M_highOf (hG : GdM S 0 C) {r : Nat} (hr : r < cR C) {b : Int} (hb : -1000000 ≤ b ∧ b ≤ 1000000) : fX5_highOf N (emM o S w) o (J r) (J b) = some (J (hh C r b)) := by
  have hR := cR_le C
  have hP := cP_bd C r
  have hl := pl_lt C r b
  unfold fX5_highOf
  simp (disch := omega) only [mg_0, mg_1, mg_2, mg_3, mg_4, mg_5, mg_6, mg_7, mg_8, mg_9, mg_10, mg_11, mg_12, mg_13, mg_14, mg_15, mg_16, mg_17, mg_18, mg_19, mg_20, mg_21, mg_22, mg_23, mg_24, mg_25, mg_26, mg_27, mg_28, mg_29, mg_30, mg_31, mg_32, mg_33, mg_34, mg_35, mg_36, mg_37, mg_38, mg_39, mg_40, mg_41, mg_42, mg_43, mg_44, mg_45, mr_1, mr_2, mr_3, mr_4, mr_5, mr_6, mr_7, mr_8, mr_9, mr_10, mr_11, mr_12, mr_13, mr_14, mr_15, mr_16, mr_17, mr_18, mr_19, mr_20, mr_21, mr_22, mr_23, mr_24, mr_25, Option.bind_some, M_placeOf hG hr hb]
  rw [show (8 * (r : Int) + (pl C r b : Int)).toNat = 8 * r + pl C r b by omega, gm_H hG hr hl]; rfl
theorem M_toOf (hG : GdM S 0 C) {r : Nat} (hr : r < cR C) {b : Int} (hb : -1000000 ≤ b ∧ b ≤ 1000000) : fX5_toOf N (emM o S w) o (J r) (J b) = some (J (tt C r b)) := by
  have hR := cR_le C
  have hP := cP_bd C r
  have hl := pl_lt C r b
  unfold fX5_toOf
  simp (disch := omega) only [mg_0, mg_1, mg_2, mg_3, mg_4, mg_5, mg_6, mg_7, mg_8, mg_9, mg_10, mg_11, mg_12, mg_13, mg_14, mg_15, mg_16, mg_17, mg_18, mg_19, mg_20, mg_21, mg_22, mg_23, mg_24, mg_25, mg_26, mg_27, mg_28, mg_29, mg_30, mg_31, mg_32, mg_33, mg_34, mg_35, mg_36, mg_37, mg_38, mg_39, mg_40, mg_41, mg_42, mg_43, mg_44, mg_45, mr_1, mr_2, mr_3, mr_4, mr_5, mr_6, mr_7, mr_8, mr_9, mr_10, mr_11, mr_12, mr_13, mr_14, mr_15, mr_16, mr_17, mr_18, mr_19, mr_20, mr_21, mr_22, mr_23, mr_24, mr_25, Option.bind_some, M_placeOf hG hr hb]
  rw [show (8 * (r : Int) + (pl C r b : Int)).toNat = 8 * r + pl C r b by omega, gm_T hG hr hl]; rfl
theorem M_isThrow (hG : GdM S 0 C) {v i : Int} (h : -2147483648 ≤ v ∧ v ≤ 2147483647) (h' : -2147483648 ≤ i ∧ i ≤ 2147483647) : fX5_isThrow N (emM o S w) o (J v) (J i) = some (Bp ((0 ≤ v ∧ v < cR C) ∧ 0 ≤ i ∧ i < cP C v.toNat)) := by
  have hR := cR_le C
  have hP := cP_bd C v.toNat
  unfold fX5_isThrow
  simp (disch := omega) only [jn_0, jn_1, jn_2, jn_3, jn_4, jn_5, jn_6, jn_8, jn_9, jn_10, jn_11, jn_12, jn_16, jn_20, jn_24, jn_30, jn_31, jn_32, jn_36, jn_48, jn_57, jn_59, jn_60, jn_63, jn_72, jn_73, jn_96, jn_97, jn_100, jn_122, jn_144, jn_200, jn_240, jn_288, jn_512, jn_840, jn_1200, jn_1600, jn_5040, jn_5390, jn_5400, jn_9999, jn_18688, jn_32400, jn_99999, jn_100000, jn_1000000, jn_858993459, jn_1431655765, jn_252645135, jl_0, jl_1, jl_2, jl_3, jl_8, jl_9, jl_10, jl_20, jl_27, jl_47, jl_96, jl_99, jl_100, jl_200, jl_555, jl_2000, jl_10000, jl_12345, jl_65536, jl_99999, jl_131638, jl_240023, jl_298288, jl_383153, jl_1306021, jl_1960084, jl_4147840, jl_8740238, jl_9872299, jl_175252482, jl_291595537, jl_1103515245, jl_2000000000, jl_2147483648, jl_4721686497, jl_7873079139, J_add, J_sub, J_mul, J_neg, JL_add, JL_sub, JL_mul, JL_neg, J_long, JL_int, ↓remI_fold, ↓remL_fold, Int.reduceAdd, Int.reduceSub, Int.reduceMul, Int.reduceNeg, Int.reduceToNat, M_isRoof hG, Option.bind_some, Classical.not_not, em_t, Bp_eq0, Bp_eq1, Bp_01, Bp_mk, Bp_mk', Bp_0, Bp_0', Bp_1, Bp_1', if_true, if_false, ite_not]
  by_cases hv : 0 ≤ v ∧ v < cR C
  · have hr : v.toNat < cR C := by omega
    simp (disch := omega) only [hv, if_true, true_and, and_self, jn_0, jn_1, jn_2, jn_3, jn_4, jn_5, jn_6, jn_8, jn_9, jn_10, jn_11, jn_12, jn_16, jn_20, jn_24, jn_30, jn_31, jn_32, jn_36, jn_48, jn_57, jn_59, jn_60, jn_63, jn_72, jn_73, jn_96, jn_97, jn_100, jn_122, jn_144, jn_200, jn_240, jn_288, jn_512, jn_840, jn_1200, jn_1600, jn_5040, jn_5390, jn_5400, jn_9999, jn_18688, jn_32400, jn_99999, jn_100000, jn_1000000, jn_858993459, jn_1431655765, jn_252645135, jl_0, jl_1, jl_2, jl_3, jl_8, jl_9, jl_10, jl_20, jl_27, jl_47, jl_96, jl_99, jl_100, jl_200, jl_555, jl_2000, jl_10000, jl_12345, jl_65536, jl_99999, jl_131638, jl_240023, jl_298288, jl_383153, jl_1306021, jl_1960084, jl_4147840, jl_8740238, jl_9872299, jl_175252482, jl_291595537, jl_1103515245, jl_2000000000, jl_2147483648, jl_4721686497, jl_7873079139, J_add, J_sub, J_mul, J_neg, JL_add, JL_sub, JL_mul, JL_neg, J_long, JL_int, ↓remI_fold, ↓remL_fold, Int.reduceAdd, Int.reduceSub, Int.reduceMul, Int.reduceNeg, Int.reduceToNat, M_in, mg_0, mg_1, mg_2, mg_3, mg_4, mg_5, mg_6, mg_7, mg_8, mg_9, mg_10, mg_11, mg_12, mg_13, mg_14, mg_15, mg_16, mg_17, mg_18, mg_19, mg_20, mg_21, mg_22, mg_23, mg_24, mg_25, mg_26, mg_27, mg_28, mg_29, mg_30, mg_31, mg_32, mg_33, mg_34, mg_35, mg_36, mg_37, mg_38, mg_39, mg_40, mg_41, mg_42, mg_43, mg_44, mg_45, mr_1, mr_2, mr_3, mr_4, mr_5, mr_6, mr_7, mr_8, mr_9, mr_10, mr_11, mr_12, mr_13, mr_14, mr_15, mr_16, mr_17, mr_18, mr_19, mr_20, mr_21, mr_22, mr_23, mr_24, mr_25, Option.bind_some, gm_P hG hr, Classical.not_not, em_t, Bp_eq0, Bp_eq1, Bp_01, Bp_mk, Bp_mk', Bp_0, Bp_0', Bp_1, Bp_1', if_true, if_false, ite_not]
    congr 1; apply Bp_congr; omega
  · rw [if_neg hv, Bp_f (fun h => hv h.1)]
/-- the least multiple is the least common one -/
theorem lcm_least {n p i : Nat} (hn : 0 < n) (h1 : (n * (i + 1)) % p = 0) (h2 : ∀ j, j < i → ¬ (n * (j + 1)) % p = 0) : n * (i + 1) = Nat.lcm n p := by
  have d1 : Nat.lcm n p ∣ n * (i + 1) := Nat.lcm_dvd (Nat.dvd_mul_right _ _) (Nat.dvd_of_mod_eq_zero h1)
  have ⟨k, hk⟩ := Nat.dvd_lcm_left n p
  have l1 := Nat.le_of_dvd (Nat.mul_pos hn (Nat.succ_pos i)) d1
  rw [hk] at l1 ⊢
  have h3 : k ≤ i + 1 := Nat.le_of_mul_le_mul_left l1 hn
  have h4 : (n * k) % p = 0 := by rw [← hk]; exact Nat.mod_eq_zero_of_dvd (Nat.dvd_lcm_right n p)
  have h5 : k ≠ 0 := by
    intro h
    rw [h] at hk
    by_cases hp : p = 0
    · subst hp
      rw [Nat.mod_zero] at h1
      have := Nat.mul_pos hn (show 0 < i + 1 by omega)
      omega
    · have := Nat.lcm_pos hn (Nat.pos_of_ne_zero hp)
      omega
  congr 1
  by_cases h6 : k = i + 1
  · exact h6.symm
  · exfalso
    have := h2 (k - 1) (by omega)
    rw [show k - 1 + 1 = k by omega] at this
    exact this h4
theorem M_round16 (hG : GdM S 0 C) {r : Nat} (hr : r < cR C) (k : Int32 → Option Int32) {m : Nat} (hm : 1 ≤ m ∧ m ≤ 840) {n : Nat} (hn : 9 < n) : fX5_round_16 N (emM o S w) o (J m) (J r) k n (J m) = k (J (Nat.lcm m (cP C r))) := by
  have hR := cR_le C
  have hP := cP_bd C r
  have hf : ∃ i, fi (fun i => decide ((m * (i + 1)) % cP C r = 0)) (cP C r) = some i := by
    cases h : fi (fun i => decide ((m * (i + 1)) % cP C r = 0)) (cP C r) with
    | some i => exact ⟨i, rfl⟩
    | none =>
      exfalso
      have := (fi_none _ _).1 h (cP C r - 1) (by omega)
      simp only [decide_eq_true_iff] at this
      apply this
      rw [show cP C r - 1 + 1 = cP C r by omega]
      exact Nat.mul_mod_left _ _
  have ⟨i, hi⟩ := hf
  have ⟨h1, h2, h3⟩ := (fi_some _ _ _).1 hi
  simp only [decide_eq_true_iff] at h2 h3
  have key := lp_seek (fun n i => fX5_round_16 N (emM o S w) o (J m) (J r) k n (J ((m * (i + 1) : Nat) : Int))) (fun i => k (J ((m * (i + 1) : Nat) : Int))) (cP C r) (fun i => decide ((m * (i + 1)) % cP C r = 0)) ?_ hi n (by omega)
  · simp only [Nat.zero_add, Nat.mul_one] at key
    rw [key, lcm_least (by omega) h2 h3]
  · intro n i hi
    have hb : m * (i + 1) ≤ 840 * 8 := Nat.mul_le_mul hm.2 (by omega)
    show fX5_round_16 _ _ _ _ _ _ _ _ = _
    rw [fX5_round_16]
    simp (disch := omega) only [jn_0, jn_1, jn_2, jn_3, jn_4, jn_5, jn_6, jn_8, jn_9, jn_10, jn_11, jn_12, jn_16, jn_20, jn_24, jn_30, jn_31, jn_32, jn_36, jn_48, jn_57, jn_59, jn_60, jn_63, jn_72, jn_73, jn_96, jn_97, jn_100, jn_122, jn_144, jn_200, jn_240, jn_288, jn_512, jn_840, jn_1200, jn_1600, jn_5040, jn_5390, jn_5400, jn_9999, jn_18688, jn_32400, jn_99999, jn_100000, jn_1000000, jn_858993459, jn_1431655765, jn_252645135, jl_0, jl_1, jl_2, jl_3, jl_8, jl_9, jl_10, jl_20, jl_27, jl_47, jl_96, jl_99, jl_100, jl_200, jl_555, jl_2000, jl_10000, jl_12345, jl_65536, jl_99999, jl_131638, jl_240023, jl_298288, jl_383153, jl_1306021, jl_1960084, jl_4147840, jl_8740238, jl_9872299, jl_175252482, jl_291595537, jl_1103515245, jl_2000000000, jl_2147483648, jl_4721686497, jl_7873079139, J_add, J_sub, J_mul, J_neg, JL_add, JL_sub, JL_mul, JL_neg, J_long, JL_int, ↓remI_fold, ↓remL_fold, Int.reduceAdd, Int.reduceSub, Int.reduceMul, Int.reduceNeg, Int.reduceToNat, mg_0, mg_1, mg_2, mg_3, mg_4, mg_5, mg_6, mg_7, mg_8, mg_9, mg_10, mg_11, mg_12, mg_13, mg_14, mg_15, mg_16, mg_17, mg_18, mg_19, mg_20, mg_21, mg_22, mg_23, mg_24, mg_25, mg_26, mg_27, mg_28, mg_29, mg_30, mg_31, mg_32, mg_33, mg_34, mg_35, mg_36, mg_37, mg_38, mg_39, mg_40, mg_41, mg_42, mg_43, mg_44, mg_45, mr_1, mr_2, mr_3, mr_4, mr_5, mr_6, mr_7, mr_8, mr_9, mr_10, mr_11, mr_12, mr_13, mr_14, mr_15, mr_16, mr_17, mr_18, mr_19, mr_20, mr_21, mr_22, mr_23, mr_24, mr_25, Option.bind_some, gm_P hG hr, Int.toNat_natCast, J_eq, J_rem, decide_eq_true_iff]
    rw [if_neg (by omega)]
    have e : ((m * (i + 1) : Nat) : Int) % (cP C r : Int) = (((m * (i + 1)) % cP C r : Nat) : Int) := by rw [Int.natCast_emod]
    have e2 : ((m * (i + 1) : Nat) : Int) + (m : Int) = ((m * (i + 1 + 1) : Nat) : Int) := by rw [Nat.mul_succ m (i + 1)]; omega
    rw [e, e2]
    by_cases h : (m * (i + 1)) % cP C r = 0
    · rw [if_pos (by rw [h]; rfl), if_pos h]
    · rw [if_neg (by rw [J_eq (by have := Nat.mod_lt (m * (i + 1)) (show cP C r > 0 by omega); generalize m * (i + 1) % cP C r = z at *; omega), cast0]; exact h), if_neg h]
theorem M_round (hG : GdM S 0 C) (hN : 1000 ≤ N) : fX5_round N (emM o S w) o = some (J (rnd C)) := by
  have hR := cR_le C
  unfold fX5_round
  have key := lp_fold (fun n i (s : Nat) => fX5_round_4 N (emM o S w) o (fun y => some y) n (J s) (J (i : Int))) (fun s => some (J s)) (cR C) (fun r n => Nat.lcm n (cP C r)) (fun _ s => 1 ≤ s ∧ s ∣ 840) ?_ ?_ N 1 (by omega) (by decide)
  · exact key.1
  · intro n i s hi hs
    have hs' : s ≤ 840 := Nat.le_of_dvd (by decide) hs.2
    refine ⟨?_, Nat.lcm_pos hs.1 (by have := cP_bd C i; omega), Nat.lcm_dvd hs.2 (cP_840 C i)⟩
    show fX5_round_4 _ _ _ _ _ _ _ = _
    rw [fX5_round_4]
    simp (disch := omega) only [jn_0, jn_1, jn_2, jn_3, jn_4, jn_5, jn_6, jn_8, jn_9, jn_10, jn_11, jn_12, jn_16, jn_20, jn_24, jn_30, jn_31, jn_32, jn_36, jn_48, jn_57, jn_59, jn_60, jn_63, jn_72, jn_73, jn_96, jn_97, jn_100, jn_122, jn_144, jn_200, jn_240, jn_288, jn_512, jn_840, jn_1200, jn_1600, jn_5040, jn_5390, jn_5400, jn_9999, jn_18688, jn_32400, jn_99999, jn_100000, jn_1000000, jn_858993459, jn_1431655765, jn_252645135, jl_0, jl_1, jl_2, jl_3, jl_8, jl_9, jl_10, jl_20, jl_27, jl_47, jl_96, jl_99, jl_100, jl_200, jl_555, jl_2000, jl_10000, jl_12345, jl_65536, jl_99999, jl_131638, jl_240023, jl_298288, jl_383153, jl_1306021, jl_1960084, jl_4147840, jl_8740238, jl_9872299, jl_175252482, jl_291595537, jl_1103515245, jl_2000000000, jl_2147483648, jl_4721686497, jl_7873079139, J_add, J_sub, J_mul, J_neg, JL_add, JL_sub, JL_mul, JL_neg, J_long, JL_int, ↓remI_fold, ↓remL_fold, Int.reduceAdd, Int.reduceSub, Int.reduceMul, Int.reduceNeg, Int.reduceToNat, mg_0, mg_1, mg_2, mg_3, mg_4, mg_5, mg_6, mg_7, mg_8, mg_9, mg_10, mg_11, mg_12, mg_13, mg_14, mg_15, mg_16, mg_17, mg_18, mg_19, mg_20, mg_21, mg_22, mg_23, mg_24, mg_25, mg_26, mg_27, mg_28, mg_29, mg_30, mg_31, mg_32, mg_33, mg_34, mg_35, mg_36, mg_37, mg_38, mg_39, mg_40, mg_41, mg_42, mg_43, mg_44, mg_45, mr_1, mr_2, mr_3, mr_4, mr_5, mr_6, mr_7, mr_8, mr_9, mr_10, mr_11, mr_12, mr_13, mr_14, mr_15, mr_16, mr_17, mr_18, mr_19, mr_20, mr_21, mr_22, mr_23, mr_24, mr_25, Option.bind_some, gm_R hG, J_le]
    rw [if_neg (by omega), M_round16 hG hi _ ⟨hs.1, hs'⟩ (by omega)]
    rfl
  · intro n s _
    show fX5_round_4 _ _ _ _ _ _ _ = _
    rw [fX5_round_4]
    simp (disch := omega) only [jn_0, jn_1, jn_2, jn_3, jn_4, jn_5, jn_6, jn_8, jn_9, jn_10, jn_11, jn_12, jn_16, jn_20, jn_24, jn_30, jn_31, jn_32, jn_36, jn_48, jn_57, jn_59, jn_60, jn_63, jn_72, jn_73, jn_96, jn_97, jn_100, jn_122, jn_144, jn_200, jn_240, jn_288, jn_512, jn_840, jn_1200, jn_1600, jn_5040, jn_5390, jn_5400, jn_9999, jn_18688, jn_32400, jn_99999, jn_100000, jn_1000000, jn_858993459, jn_1431655765, jn_252645135, jl_0, jl_1, jl_2, jl_3, jl_8, jl_9, jl_10, jl_20, jl_27, jl_47, jl_96, jl_99, jl_100, jl_200, jl_555, jl_2000, jl_10000, jl_12345, jl_65536, jl_99999, jl_131638, jl_240023, jl_298288, jl_383153, jl_1306021, jl_1960084, jl_4147840, jl_8740238, jl_9872299, jl_175252482, jl_291595537, jl_1103515245, jl_2000000000, jl_2147483648, jl_4721686497, jl_7873079139, J_add, J_sub, J_mul, J_neg, JL_add, JL_sub, JL_mul, JL_neg, J_long, JL_int, ↓remI_fold, ↓remL_fold, Int.reduceAdd, Int.reduceSub, Int.reduceMul, Int.reduceNeg, Int.reduceToNat, mg_0, mg_1, mg_2, mg_3, mg_4, mg_5, mg_6, mg_7, mg_8, mg_9, mg_10, mg_11, mg_12, mg_13, mg_14, mg_15, mg_16, mg_17, mg_18, mg_19, mg_20, mg_21, mg_22, mg_23, mg_24, mg_25, mg_26, mg_27, mg_28, mg_29, mg_30, mg_31, mg_32, mg_33, mg_34, mg_35, mg_36, mg_37, mg_38, mg_39, mg_40, mg_41, mg_42, mg_43, mg_44, mg_45, mr_1, mr_2, mr_3, mr_4, mr_5, mr_6, mr_7, mr_8, mr_9, mr_10, mr_11, mr_12, mr_13, mr_14, mr_15, mr_16, mr_17, mr_18, mr_19, mr_20, mr_21, mr_22, mr_23, mr_24, mr_25, Option.bind_some, gm_R hG, J_le]
    rw [if_pos (by omega)]
theorem M_cd19 (hG : GdM S 0 C) {q : Nat} (hq : q < cR C) {b : Int} (hb : -900000 ≤ b ∧ b ≤ 900000) {r : Nat} (hr : r ≤ 9) (k : Int32 → Option Int32) {n : Nat} (hn : 9 < n) (s : Int) :
    fX5_comesDown_19 N (emM o S w) o (J r) (J b) (J q) k n (J s) (J 1) = k (J (s + sm (fun h => dn C r b q h) 9)) := by
  have key := lp_sum (fun n i s => fX5_comesDown_19 N (emM o S w) o (J r) (J b) (J q) k n (J s) (J (1 + (i : Int)))) (fun s => k (J s)) 9 (fun h => dn C r b q h) ?_ ?_ n s hn
  · exact key
  · intro n i s hi
    have h1 := hh_le C q (b - (1 + i))
    have h2 := tt_le C q (b - (1 + i))
    show fX5_comesDown_19 _ _ _ _ _ _ _ _ _ _ = fX5_comesDown_19 _ _ _ _ _ _ _ _ _ _
    rw [fX5_comesDown_19]
    simp (disch := omega) only [jn_0, jn_1, jn_2, jn_3, jn_4, jn_5, jn_6, jn_8, jn_9, jn_10, jn_11, jn_12, jn_16, jn_20, jn_24, jn_30, jn_31, jn_32, jn_36, jn_48, jn_57, jn_59, jn_60, jn_63, jn_72, jn_73, jn_96, jn_97, jn_100, jn_122, jn_144, jn_200, jn_240, jn_288, jn_512, jn_840, jn_1200, jn_1600, jn_5040, jn_5390, jn_5400, jn_9999, jn_18688, jn_32400, jn_99999, jn_100000, jn_1000000, jn_858993459, jn_1431655765, jn_252645135, jl_0, jl_1, jl_2, jl_3, jl_8, jl_9, jl_10, jl_20, jl_27, jl_47, jl_96, jl_99, jl_100, jl_200, jl_555, jl_2000, jl_10000, jl_12345, jl_65536, jl_99999, jl_131638, jl_240023, jl_298288, jl_383153, jl_1306021, jl_1960084, jl_4147840, jl_8740238, jl_9872299, jl_175252482, jl_291595537, jl_1103515245, jl_2000000000, jl_2147483648, jl_4721686497, jl_7873079139, J_add, J_sub, J_mul, J_neg, JL_add, JL_sub, JL_mul, JL_neg, J_long, JL_int, ↓remI_fold, ↓remL_fold, Int.reduceAdd, Int.reduceSub, Int.reduceMul, Int.reduceNeg, Int.reduceToNat, J_le, J_lt, J_eq, JL_le, JL_lt, JL_eq, cmp_lt0, cmp_gt0, cmp_le0, cmp_ge0, cmp_eq0, M_highOf hG hq, M_toOf hG hq, Option.bind_some]
    rw [if_neg (by omega)]
    have e : 1 + (i : Int) + 1 = 1 + ((i + 1 : Nat) : Int) := by omega
    rw [e]
    unfold dn
    by_cases e1 : hh C q (b - (1 + i)) = 1 + i
    · rw [if_pos (by omega)]
      by_cases e2 : tt C q (b - (1 + i)) = r
      · rw [if_pos (by omega), if_pos ⟨e1, e2⟩]
      · rw [if_neg (by omega), if_neg (fun h => e2 h.2)]
    · rw [if_neg (by omega), if_neg (fun h => e1 h.1)]
  · intro n s
    show fX5_comesDown_19 _ _ _ _ _ _ _ _ _ _ = _
    rw [fX5_comesDown_19]
    simp (disch := omega) only [jn_0, jn_1, jn_2, jn_3, jn_4, jn_5, jn_6, jn_8, jn_9, jn_10, jn_11, jn_12, jn_16, jn_20, jn_24, jn_30, jn_31, jn_32, jn_36, jn_48, jn_57, jn_59, jn_60, jn_63, jn_72, jn_73, jn_96, jn_97, jn_100, jn_122, jn_144, jn_200, jn_240, jn_288, jn_512, jn_840, jn_1200, jn_1600, jn_5040, jn_5390, jn_5400, jn_9999, jn_18688, jn_32400, jn_99999, jn_100000, jn_1000000, jn_858993459, jn_1431655765, jn_252645135, jl_0, jl_1, jl_2, jl_3, jl_8, jl_9, jl_10, jl_20, jl_27, jl_47, jl_96, jl_99, jl_100, jl_200, jl_555, jl_2000, jl_10000, jl_12345, jl_65536, jl_99999, jl_131638, jl_240023, jl_298288, jl_383153, jl_1306021, jl_1960084, jl_4147840, jl_8740238, jl_9872299, jl_175252482, jl_291595537, jl_1103515245, jl_2000000000, jl_2147483648, jl_4721686497, jl_7873079139, J_add, J_sub, J_mul, J_neg, JL_add, JL_sub, JL_mul, JL_neg, J_long, JL_int, ↓remI_fold, ↓remL_fold, Int.reduceAdd, Int.reduceSub, Int.reduceMul, Int.reduceNeg, Int.reduceToNat, J_le, J_lt, J_eq, JL_le, JL_lt, JL_eq, cmp_lt0, cmp_gt0, cmp_le0, cmp_ge0, cmp_eq0]
    rw [if_pos (by omega)]
theorem M_comesDown (hG : GdM S 0 C) (hN : 1000 ≤ N) {b : Int} (hb : -900000 ≤ b ∧ b ≤ 900000) {r : Nat} (hr : r ≤ 9) : fX5_comesDown N (emM o S w) o (J r) (J b) = some (J (cd C r b)) := by
  have hR := cR_le C
  unfold fX5_comesDown
  have key := lp_sum (fun n i s => fX5_comesDown_5 N (emM o S w) o (J r) (J b) (fun y => some y) n (J s) (J (i : Int))) (fun s => some (J s)) (cR C) (fun q => sm (fun h => dn C r b q h) 9) ?_ ?_ N 0 (by omega)
  · rw [Int.zero_add] at key
    exact key
  · intro n i s hi
    show fX5_comesDown_5 _ _ _ _ _ _ _ _ _ = fX5_comesDown_5 _ _ _ _ _ _ _ _ _
    rw [fX5_comesDown_5]
    simp (disch := omega) only [jn_0, jn_1, jn_2, jn_3, jn_4, jn_5, jn_6, jn_8, jn_9, jn_10, jn_11, jn_12, jn_16, jn_20, jn_24, jn_30, jn_31, jn_32, jn_36, jn_48, jn_57, jn_59, jn_60, jn_63, jn_72, jn_73, jn_96, jn_97, jn_100, jn_122, jn_144, jn_200, jn_240, jn_288, jn_512, jn_840, jn_1200, jn_1600, jn_5040, jn_5390, jn_5400, jn_9999, jn_18688, jn_32400, jn_99999, jn_100000, jn_1000000, jn_858993459, jn_1431655765, jn_252645135, jl_0, jl_1, jl_2, jl_3, jl_8, jl_9, jl_10, jl_20, jl_27, jl_47, jl_96, jl_99, jl_100, jl_200, jl_555, jl_2000, jl_10000, jl_12345, jl_65536, jl_99999, jl_131638, jl_240023, jl_298288, jl_383153, jl_1306021, jl_1960084, jl_4147840, jl_8740238, jl_9872299, jl_175252482, jl_291595537, jl_1103515245, jl_2000000000, jl_2147483648, jl_4721686497, jl_7873079139, J_add, J_sub, J_mul, J_neg, JL_add, JL_sub, JL_mul, JL_neg, J_long, JL_int, ↓remI_fold, ↓remL_fold, Int.reduceAdd, Int.reduceSub, Int.reduceMul, Int.reduceNeg, Int.reduceToNat, mg_0, mg_1, mg_2, mg_3, mg_4, mg_5, mg_6, mg_7, mg_8, mg_9, mg_10, mg_11, mg_12, mg_13, mg_14, mg_15, mg_16, mg_17, mg_18, mg_19, mg_20, mg_21, mg_22, mg_23, mg_24, mg_25, mg_26, mg_27, mg_28, mg_29, mg_30, mg_31, mg_32, mg_33, mg_34, mg_35, mg_36, mg_37, mg_38, mg_39, mg_40, mg_41, mg_42, mg_43, mg_44, mg_45, mr_1, mr_2, mr_3, mr_4, mr_5, mr_6, mr_7, mr_8, mr_9, mr_10, mr_11, mr_12, mr_13, mr_14, mr_15, mr_16, mr_17, mr_18, mr_19, mr_20, mr_21, mr_22, mr_23, mr_24, mr_25, Option.bind_some, gm_R hG, J_le]
    rw [if_neg (by omega), M_cd19 hG hi hb hr _ (by omega)]
    rfl
  · intro n s
    show fX5_comesDown_5 _ _ _ _ _ _ _ _ _ = _
    rw [fX5_comesDown_5]
    simp (disch := omega) only [jn_0, jn_1, jn_2, jn_3, jn_4, jn_5, jn_6, jn_8, jn_9, jn_10, jn_11, jn_12, jn_16, jn_20, jn_24, jn_30, jn_31, jn_32, jn_36, jn_48, jn_57, jn_59, jn_60, jn_63, jn_72, jn_73, jn_96, jn_97, jn_100, jn_122, jn_144, jn_200, jn_240, jn_288, jn_512, jn_840, jn_1200, jn_1600, jn_5040, jn_5390, jn_5400, jn_9999, jn_18688, jn_32400, jn_99999, jn_100000, jn_1000000, jn_858993459, jn_1431655765, jn_252645135, jl_0, jl_1, jl_2, jl_3, jl_8, jl_9, jl_10, jl_20, jl_27, jl_47, jl_96, jl_99, jl_100, jl_200, jl_555, jl_2000, jl_10000, jl_12345, jl_65536, jl_99999, jl_131638, jl_240023, jl_298288, jl_383153, jl_1306021, jl_1960084, jl_4147840, jl_8740238, jl_9872299, jl_175252482, jl_291595537, jl_1103515245, jl_2000000000, jl_2147483648, jl_4721686497, jl_7873079139, J_add, J_sub, J_mul, J_neg, JL_add, JL_sub, JL_mul, JL_neg, J_long, JL_int, ↓remI_fold, ↓remL_fold, Int.reduceAdd, Int.reduceSub, Int.reduceMul, Int.reduceNeg, Int.reduceToNat, mg_0, mg_1, mg_2, mg_3, mg_4, mg_5, mg_6, mg_7, mg_8, mg_9, mg_10, mg_11, mg_12, mg_13, mg_14, mg_15, mg_16, mg_17, mg_18, mg_19, mg_20, mg_21, mg_22, mg_23, mg_24, mg_25, mg_26, mg_27, mg_28, mg_29, mg_30, mg_31, mg_32, mg_33, mg_34, mg_35, mg_36, mg_37, mg_38, mg_39, mg_40, mg_41, mg_42, mg_43, mg_44, mg_45, mr_1, mr_2, mr_3, mr_4, mr_5, mr_6, mr_7, mr_8, mr_9, mr_10, mr_11, mr_12, mr_13, mr_14, mr_15, mr_16, mr_17, mr_18, mr_19, mr_20, mr_21, mr_22, mr_23, mr_24, mr_25, Option.bind_some, gm_R hG, J_le]
    rw [if_pos (by omega)]
theorem M_isClash (hG : GdM S 0 C) (hN : 1000 ≤ N) {b : Int} (hb : -900000 ≤ b ∧ b ≤ 900000) {r : Nat} (hr : r < cR C) : fX5_isClash N (emM o S w) o (J r) (J b) = some (Bp (clash C r b = true)) := by
  have hR := cR_le C
  have h1 := hh_le C r b
  have h2 := cd_bd C r b
  unfold fX5_isClash fX5_isClash_20 clash
  simp (disch := omega) only [jn_0, jn_1, jn_2, jn_3, jn_4, jn_5, jn_6, jn_8, jn_9, jn_10, jn_11, jn_12, jn_16, jn_20, jn_24, jn_30, jn_31, jn_32, jn_36, jn_48, jn_57, jn_59, jn_60, jn_63, jn_72, jn_73, jn_96, jn_97, jn_100, jn_122, jn_144, jn_200, jn_240, jn_288, jn_512, jn_840, jn_1200, jn_1600, jn_5040, jn_5390, jn_5400, jn_9999, jn_18688, jn_32400, jn_99999, jn_100000, jn_1000000, jn_858993459, jn_1431655765, jn_252645135, jl_0, jl_1, jl_2, jl_3, jl_8, jl_9, jl_10, jl_20, jl_27, jl_47, jl_96, jl_99, jl_100, jl_200, jl_555, jl_2000, jl_10000, jl_12345, jl_65536, jl_99999, jl_131638, jl_240023, jl_298288, jl_383153, jl_1306021, jl_1960084, jl_4147840, jl_8740238, jl_9872299, jl_175252482, jl_291595537, jl_1103515245, jl_2000000000, jl_2147483648, jl_4721686497, jl_7873079139, J_add, J_sub, J_mul, J_neg, JL_add, JL_sub, JL_mul, JL_neg, J_long, JL_int, ↓remI_fold, ↓remL_fold, Int.reduceAdd, Int.reduceSub, Int.reduceMul, Int.reduceNeg, Int.reduceToNat, J_le, J_lt, J_eq, JL_le, JL_lt, JL_eq, cmp_lt0, cmp_gt0, cmp_le0, cmp_ge0, cmp_eq0, Classical.not_not, em_t, Bp_eq0, Bp_eq1, Bp_01, Bp_mk, Bp_mk', Bp_0, Bp_0', Bp_1, Bp_1', if_true, if_false, ite_not, M_comesDown hG hN hb, M_highOf hG hr, Option.bind_some, decide_eq_true_iff]
  by_cases h : 0 < hh C r b
  · rw [if_neg (by omega), if_pos h]
  · rw [if_pos (by omega), if_neg h]
theorem M_isUp14 (hG : GdM S 0 C) (hN : 1000 ≤ N) {b : Nat} (hb : b ≤ 900000) (x : Int32) (k1 k2 : Option Int32) {n : Nat} (hn : 6 < n) : fX5_isUp_14 N (emM o S w) o x (J b) k1 k2 n (J 0) = if clB C b = true then k1 else k2 := by
  have hR := cR_le C
  have key := lp_find (fun n i => fX5_isUp_14 N (emM o S w) o x (J b) k1 k2 n (J (i : Int))) (fun _ => k1) k2 (cR C) (fun r => clash C r b) ?_ ?_ n (by omega)
  · refine Eq.trans key ?_
    unfold clB
    cases fi (fun r => clash C r b) (cR C) <;> rfl
  · intro n i hi
    show fX5_isUp_14 _ _ _ _ _ _ _ _ _ = _
    rw [fX5_isUp_14]
    simp (disch := omega) only [jn_0, jn_1, jn_2, jn_3, jn_4, jn_5, jn_6, jn_8, jn_9, jn_10, jn_11, jn_12, jn_16, jn_20, jn_24, jn_30, jn_31, jn_32, jn_36, jn_48, jn_57, jn_59, jn_60, jn_63, jn_72, jn_73, jn_96, jn_97, jn_100, jn_122, jn_144, jn_200, jn_240, jn_288, jn_512, jn_840, jn_1200, jn_1600, jn_5040, jn_5390, jn_5400, jn_9999, jn_18688, jn_32400, jn_99999, jn_100000, jn_1000000, jn_858993459, jn_1431655765, jn_252645135, jl_0, jl_1, jl_2, jl_3, jl_8, jl_9, jl_10, jl_20, jl_27, jl_47, jl_96, jl_99, jl_100, jl_200, jl_555, jl_2000, jl_10000, jl_12345, jl_65536, jl_99999, jl_131638, jl_240023, jl_298288, jl_383153, jl_1306021, jl_1960084, jl_4147840, jl_8740238, jl_9872299, jl_175252482, jl_291595537, jl_1103515245, jl_2000000000, jl_2147483648, jl_4721686497, jl_7873079139, J_add, J_sub, J_mul, J_neg, JL_add, JL_sub, JL_mul, JL_neg, J_long, JL_int, ↓remI_fold, ↓remL_fold, Int.reduceAdd, Int.reduceSub, Int.reduceMul, Int.reduceNeg, Int.reduceToNat, Classical.not_not, em_t, Bp_eq0, Bp_eq1, Bp_01, Bp_mk, Bp_mk', Bp_0, Bp_0', Bp_1, Bp_1', if_true, if_false, ite_not, mg_0, mg_1, mg_2, mg_3, mg_4, mg_5, mg_6, mg_7, mg_8, mg_9, mg_10, mg_11, mg_12, mg_13, mg_14, mg_15, mg_16, mg_17, mg_18, mg_19, mg_20, mg_21, mg_22, mg_23, mg_24, mg_25, mg_26, mg_27, mg_28, mg_29, mg_30, mg_31, mg_32, mg_33, mg_34, mg_35, mg_36, mg_37, mg_38, mg_39, mg_40, mg_41, mg_42, mg_43, mg_44, mg_45, mr_1, mr_2, mr_3, mr_4, mr_5, mr_6, mr_7, mr_8, mr_9, mr_10, mr_11, mr_12, mr_13, mr_14, mr_15, mr_16, mr_17, mr_18, mr_19, mr_20, mr_21, mr_22, mr_23, mr_24, mr_25, Option.bind_some, gm_R hG, J_le, M_isClash hG hN _ hi]
    rw [if_neg (by omega)]
    rfl
  · intro n
    show fX5_isUp_14 _ _ _ _ _ _ _ _ _ = _
    rw [fX5_isUp_14]
    simp (disch := omega) only [jn_0, jn_1, jn_2, jn_3, jn_4, jn_5, jn_6, jn_8, jn_9, jn_10, jn_11, jn_12, jn_16, jn_20, jn_24, jn_30, jn_31, jn_32, jn_36, jn_48, jn_57, jn_59, jn_60, jn_63, jn_72, jn_73, jn_96, jn_97, jn_100, jn_122, jn_144, jn_200, jn_240, jn_288, jn_512, jn_840, jn_1200, jn_1600, jn_5040, jn_5390, jn_5400, jn_9999, jn_18688, jn_32400, jn_99999, jn_100000, jn_1000000, jn_858993459, jn_1431655765, jn_252645135, jl_0, jl_1, jl_2, jl_3, jl_8, jl_9, jl_10, jl_20, jl_27, jl_47, jl_96, jl_99, jl_100, jl_200, jl_555, jl_2000, jl_10000, jl_12345, jl_65536, jl_99999, jl_131638, jl_240023, jl_298288, jl_383153, jl_1306021, jl_1960084, jl_4147840, jl_8740238, jl_9872299, jl_175252482, jl_291595537, jl_1103515245, jl_2000000000, jl_2147483648, jl_4721686497, jl_7873079139, J_add, J_sub, J_mul, J_neg, JL_add, JL_sub, JL_mul, JL_neg, J_long, JL_int, ↓remI_fold, ↓remL_fold, Int.reduceAdd, Int.reduceSub, Int.reduceMul, Int.reduceNeg, Int.reduceToNat, mg_0, mg_1, mg_2, mg_3, mg_4, mg_5, mg_6, mg_7, mg_8, mg_9, mg_10, mg_11, mg_12, mg_13, mg_14, mg_15, mg_16, mg_17, mg_18, mg_19, mg_20, mg_21, mg_22, mg_23, mg_24, mg_25, mg_26, mg_27, mg_28, mg_29, mg_30, mg_31, mg_32, mg_33, mg_34, mg_35, mg_36, mg_37, mg_38, mg_39, mg_40, mg_41, mg_42, mg_43, mg_44, mg_45, mr_1, mr_2, mr_3, mr_4, mr_5, mr_6, mr_7, mr_8, mr_9, mr_10, mr_11, mr_12, mr_13, mr_14, mr_15, mr_16, mr_17, mr_18, mr_19, mr_20, mr_21, mr_22, mr_23, mr_24, mr_25, Option.bind_some, gm_R hG, J_le]
    rw [if_pos (by omega)]
theorem M_isUp (hG : GdM S 0 C) (hN : 1000 ≤ N) : fX5_isUp N (emM o S w) o = some (Bp (kp C = true)) := by
  have hp := rnd_bd C
  unfold fX5_isUp
  rw [M_round hG hN, Option.bind_some]
  have key := lp_find (fun n i => fX5_isUp_7 N (emM o S w) o (J (rnd C)) (some (J 0)) (some (J 1)) n (J (i : Int))) (fun _ => some (J 0)) (some (J 1)) (rnd C) (clB C) ?_ ?_ N (by omega)
  · refine Eq.trans key ?_
    unfold kp
    cases fi (clB C) (rnd C) <;> rfl
  · intro n i hi
    show fX5_isUp_7 _ _ _ _ _ _ _ _ = _
    rw [fX5_isUp_7]
    simp (disch := omega) only [jn_0, jn_1, jn_2, jn_3, jn_4, jn_5, jn_6, jn_8, jn_9, jn_10, jn_11, jn_12, jn_16, jn_20, jn_24, jn_30, jn_31, jn_32, jn_36, jn_48, jn_57, jn_59, jn_60, jn_63, jn_72, jn_73, jn_96, jn_97, jn_100, jn_122, jn_144, jn_200, jn_240, jn_288, jn_512, jn_840, jn_1200, jn_1600, jn_5040, jn_5390, jn_5400, jn_9999, jn_18688, jn_32400, jn_99999, jn_100000, jn_1000000, jn_858993459, jn_1431655765, jn_252645135, jl_0, jl_1, jl_2, jl_3, jl_8, jl_9, jl_10, jl_20, jl_27, jl_47, jl_96, jl_99, jl_100, jl_200, jl_555, jl_2000, jl_10000, jl_12345, jl_65536, jl_99999, jl_131638, jl_240023, jl_298288, jl_383153, jl_1306021, jl_1960084, jl_4147840, jl_8740238, jl_9872299, jl_175252482, jl_291595537, jl_1103515245, jl_2000000000, jl_2147483648, jl_4721686497, jl_7873079139, J_add, J_sub, J_mul, J_neg, JL_add, JL_sub, JL_mul, JL_neg, J_long, JL_int, ↓remI_fold, ↓remL_fold, Int.reduceAdd, Int.reduceSub, Int.reduceMul, Int.reduceNeg, Int.reduceToNat, J_le, Option.bind_some]
    rw [if_neg (by omega), M_isUp14 hG hN (by omega) _ _ _ (by omega)]
    rfl
  · intro n
    show fX5_isUp_7 _ _ _ _ _ _ _ _ = _
    rw [fX5_isUp_7]
    simp (disch := omega) only [J_le]
    rw [if_pos (by omega)]
theorem M_keeps (hG : GdM S 0 C) (hN : 1000 ≤ N) : fX5_keeps N (emM o S w) o = some (J (if 0 < cR C then (if kp C = true then 1 else 0) else -2), emM o (mSI S 0 (J 0)) w) := by
  have hG' : GdM (mSI S 0 (J 0)) 0 C := hG
  unfold fX5_keeps
  simp (disch := omega) only [jn_0, jn_1, jn_2, jn_3, jn_4, jn_5, jn_6, jn_8, jn_9, jn_10, jn_11, jn_12, jn_16, jn_20, jn_24, jn_30, jn_31, jn_32, jn_36, jn_48, jn_57, jn_59, jn_60, jn_63, jn_72, jn_73, jn_96, jn_97, jn_100, jn_122, jn_144, jn_200, jn_240, jn_288, jn_512, jn_840, jn_1200, jn_1600, jn_5040, jn_5390, jn_5400, jn_9999, jn_18688, jn_32400, jn_99999, jn_100000, jn_1000000, jn_858993459, jn_1431655765, jn_252645135, jl_0, jl_1, jl_2, jl_3, jl_8, jl_9, jl_10, jl_20, jl_27, jl_47, jl_96, jl_99, jl_100, jl_200, jl_555, jl_2000, jl_10000, jl_12345, jl_65536, jl_99999, jl_131638, jl_240023, jl_298288, jl_383153, jl_1306021, jl_1960084, jl_4147840, jl_8740238, jl_9872299, jl_175252482, jl_291595537, jl_1103515245, jl_2000000000, jl_2147483648, jl_4721686497, jl_7873079139, J_add, J_sub, J_mul, J_neg, JL_add, JL_sub, JL_mul, JL_neg, J_long, JL_int, ↓remI_fold, ↓remL_fold, Int.reduceAdd, Int.reduceSub, Int.reduceMul, Int.reduceNeg, Int.reduceToNat, Classical.not_not, em_t, Bp_eq0, Bp_eq1, Bp_01, Bp_mk, Bp_mk', Bp_0, Bp_0', Bp_1, Bp_1', if_true, if_false, ite_not, mp_0, mp_6, mp_7, mp_8, mp_9, mp_10, mp_11, mp_12, mp_13, mp_14, mp_15, mp_26, mp_30, mp_31, mp_35, mp_36, mp_37, mp_41, mp_43, mp_44, mp_45, Option.bind_some, M_isCity hG', M_isUp hG' hN]
  by_cases h : 0 < cR C
  · rw [if_pos h, if_pos h]
    by_cases h' : kp C = true
    · rw [if_pos h', if_pos h']
    · rw [if_neg h', if_neg h']
  · rw [if_neg h, if_neg h]
end
