/-! count, fault -/
set_option maxRecDepth 100000
def sp_count (C : Cy) (tl : Int) (sl : Nat → Bool) (x : Int) : Int := if x = 0 then cR C else if x = 1 then cN C else if x = 2 then prs C else if x = 3 then cL C else if x = 4 then tl else if x = 5 then (if 0 < cR C then cG C else 0) else if x = 6 then (if 0 < cR C then cO C else 0) else if x = 7 then thw C else if x = 8 then sm (fun v => ind (sl v = true)) 4 else -1
section
variable {N o : Nat} {S : MS} {w : Wd} {C : Cy}
theorem M_ct91 (hG : GdM S 0 C) (hN : 1000000 ≤ N) {a : Nat} (ha : a < cR C) (k : Int32 → Option (Int32 × Wd)) {n : Nat} (hn : 6 < n) (s : Int) : fX5_count_91 N (emM o S w) o (J a) k n (J s) (J ((a + 1 : Nat) : Int)) = k (J (s + sm (fun j => ind (isX C a (a + 1 + j) = true)) (cR C - (a + 1)))) := by
  have hR := cR_le C
  refine lp_sum (fun n i q => fX5_count_91 N (emM o S w) o (J a) k n (J q) (J ((a + 1 + i : Nat) : Int))) (fun q => k (J q)) (cR C - (a + 1)) (fun j => ind (isX C a (a + 1 + j) = true)) ?_ ?_ n s (by omega)
  · intro n i q hi
    rw [fX5_count_91, mg_17, Option.bind_some, jn_0, mr_7 o _ w (by omega), Option.bind_some, show (0 : Int).toNat = 0 from rfl, gm_R hG, if_neg (by rw [J_le (by omega)]; omega), M_isPair hG hN (by omega) (by omega), Option.bind_some]
    by_cases h1 : isX C a (a + 1 + i) = true
    · rw [if_neg (by rw [Bp_eq0]; simp [h1])]
      simp only [jn_0, jn_1, jn_2, jn_3, jn_4, jn_5, jn_6, jn_8, jn_9, jn_10, jn_11, jn_12, jn_16, jn_20, jn_24, jn_30, jn_31, jn_32, jn_36, jn_48, jn_57, jn_59, jn_60, jn_63, jn_72, jn_73, jn_96, jn_97, jn_100, jn_122, jn_144, jn_200, jn_240, jn_288, jn_512, jn_840, jn_1200, jn_1600, jn_5040, jn_5390, jn_5400, jn_9999, jn_18688, jn_32400, jn_99999, jn_100000, jn_1000000, jn_858993459, jn_1431655765, jn_252645135, jl_0, jl_1, jl_2, jl_3, jl_8, jl_9, jl_10, jl_20, jl_27, jl_47, jl_96, jl_99, jl_100, jl_200, jl_555, jl_2000, jl_10000, jl_12345, jl_65536, jl_99999, jl_131638, jl_240023, jl_298288, jl_383153, jl_1306021, jl_1960084, jl_4147840, jl_8740238, jl_9872299, jl_175252482, jl_291595537, jl_1103515245, jl_2000000000, jl_2147483648, jl_4721686497, jl_7873079139, J_add, J_sub, J_mul, J_neg, JL_add, JL_sub, JL_mul, JL_neg, J_long, JL_int, ↓remI_fold, ↓remL_fold, Int.reduceAdd, Int.reduceSub, Int.reduceMul, Int.reduceNeg, Int.reduceToNat, Option.bind_some]
      rw [show ((a + 1 + i : Nat) : Int) + 1 = ((a + 1 + (i + 1) : Nat) : Int) by omega]
      unfold ind; rw [if_pos h1]
    · rw [if_pos (by rw [Bp_eq0]; simp [h1])]
      simp only [jn_0, jn_1, jn_2, jn_3, jn_4, jn_5, jn_6, jn_8, jn_9, jn_10, jn_11, jn_12, jn_16, jn_20, jn_24, jn_30, jn_31, jn_32, jn_36, jn_48, jn_57, jn_59, jn_60, jn_63, jn_72, jn_73, jn_96, jn_97, jn_100, jn_122, jn_144, jn_200, jn_240, jn_288, jn_512, jn_840, jn_1200, jn_1600, jn_5040, jn_5390, jn_5400, jn_9999, jn_18688, jn_32400, jn_99999, jn_100000, jn_1000000, jn_858993459, jn_1431655765, jn_252645135, jl_0, jl_1, jl_2, jl_3, jl_8, jl_9, jl_10, jl_20, jl_27, jl_47, jl_96, jl_99, jl_100, jl_200, jl_555, jl_2000, jl_10000, jl_12345, jl_65536, jl_99999, jl_131638, jl_240023, jl_298288, jl_383153, jl_1306021, jl_1960084, jl_4147840, jl_8740238, jl_9872299, jl_175252482, jl_291595537, jl_1103515245, jl_2000000000, jl_2147483648, jl_4721686497, jl_7873079139, J_add, J_sub, J_mul, J_neg, JL_add, JL_sub, JL_mul, JL_neg, J_long, JL_int, ↓remI_fold, ↓remL_fold, Int.reduceAdd, Int.reduceSub, Int.reduceMul, Int.reduceNeg, Int.reduceToNat, Option.bind_some]
      rw [show ((a + 1 + i : Nat) : Int) + 1 = ((a + 1 + (i + 1) : Nat) : Int) by omega]
      unfold ind; rw [if_neg h1]
  · intro n q
    rw [fX5_count_91, mg_17, Option.bind_some, jn_0, mr_7 o _ w (by omega), Option.bind_some, show (0 : Int).toNat = 0 from rfl, gm_R hG, if_pos (by rw [J_le (by omega)]; omega)]
theorem M_ct76 (hG : GdM S 0 C) (hN : 1000000 ≤ N) (k : Int32 → Option (Int32 × Wd)) : fX5_count_76 N (emM o S w) o k N (J 0) (J 0) = k (J (prs C)) := by
  have hR := cR_le C
  have key := lp_sum (fun n i q => fX5_count_76 N (emM o S w) o k n (J q) (J (i : Int))) (fun q => k (J q)) (cR C) (fun a => sm (fun j => ind (isX C a (a + 1 + j) = true)) (cR C - (a + 1))) ?_ ?_ N 0 (by omega)
  · rw [Int.zero_add] at key; exact key
  · intro n i q hi
    rw [fX5_count_76, mg_17, Option.bind_some, jn_0, mr_7 o _ w (by omega), Option.bind_some, show (0 : Int).toNat = 0 from rfl, gm_R hG, if_neg (by rw [J_le (by omega)]; omega)]
    simp only [jn_0, jn_1, jn_2, jn_3, jn_4, jn_5, jn_6, jn_8, jn_9, jn_10, jn_11, jn_12, jn_16, jn_20, jn_24, jn_30, jn_31, jn_32, jn_36, jn_48, jn_57, jn_59, jn_60, jn_63, jn_72, jn_73, jn_96, jn_97, jn_100, jn_122, jn_144, jn_200, jn_240, jn_288, jn_512, jn_840, jn_1200, jn_1600, jn_5040, jn_5390, jn_5400, jn_9999, jn_18688, jn_32400, jn_99999, jn_100000, jn_1000000, jn_858993459, jn_1431655765, jn_252645135, jl_0, jl_1, jl_2, jl_3, jl_8, jl_9, jl_10, jl_20, jl_27, jl_47, jl_96, jl_99, jl_100, jl_200, jl_555, jl_2000, jl_10000, jl_12345, jl_65536, jl_99999, jl_131638, jl_240023, jl_298288, jl_383153, jl_1306021, jl_1960084, jl_4147840, jl_8740238, jl_9872299, jl_175252482, jl_291595537, jl_1103515245, jl_2000000000, jl_2147483648, jl_4721686497, jl_7873079139, J_add, J_sub, J_mul, J_neg, JL_add, JL_sub, JL_mul, JL_neg, J_long, JL_int, ↓remI_fold, ↓remL_fold, Int.reduceAdd, Int.reduceSub, Int.reduceMul, Int.reduceNeg, Int.reduceToNat, Option.bind_some, castS]
    exact M_ct91 hG hN hi _ (by omega) q
  · intro n q
    rw [fX5_count_76, mg_17, Option.bind_some, jn_0, mr_7 o _ w (by omega), Option.bind_some, show (0 : Int).toNat = 0 from rfl, gm_R hG, if_pos (by rw [J_le (by omega)]; omega)]
theorem M_ct184 (hG : GdM S 0 C) (hN : 1000000 ≤ N) (k : Int32 → Option (Int32 × Wd)) : fX5_count_184 N (emM o S w) o k N (J 0) (J 0) = k (J (thw C)) := by
  have hR := cR_le C
  refine lp_fold' (fun n i (s : Nat) => fX5_count_184 N (emM o S w) o k n (J s) (J (i : Int))) (fun s => k (J s)) (cR C) (fun r s => if 0 < fH C r then s ||| 1 <<< r else s) ?_ ?_ N 0 (by omega)
  · intro n i s hi
    have h9 : fH C i ≤ 9 := by
      unfold fH
      split
      · exact cH_le C i _
      · omega
    rw [fX5_count_184, mg_17, Option.bind_some, jn_0, mr_7 o _ w (by omega), Option.bind_some, show (0 : Int).toNat = 0 from rfl, gm_R hG, if_neg (by rw [J_le (by omega)]; omega), M_firstHigh hG hN hi, Option.bind_some]
    have r2 : J 1 <<< (J (i : Int) &&& J 31) = J ((1 <<< i : Nat) : Int) := by rw [J_shlz (by omega), Int.toNat_natCast]
    by_cases h1 : 0 < fH C i
    · rw [if_neg (by rw [J_le (by omega)]; omega), if_pos h1]
      simp only [jn_0, jn_1, jn_2, jn_3, jn_4, jn_5, jn_6, jn_8, jn_9, jn_10, jn_11, jn_12, jn_16, jn_20, jn_24, jn_30, jn_31, jn_32, jn_36, jn_48, jn_57, jn_59, jn_60, jn_63, jn_72, jn_73, jn_96, jn_97, jn_100, jn_122, jn_144, jn_200, jn_240, jn_288, jn_512, jn_840, jn_1200, jn_1600, jn_5040, jn_5390, jn_5400, jn_9999, jn_18688, jn_32400, jn_99999, jn_100000, jn_1000000, jn_858993459, jn_1431655765, jn_252645135, jl_0, jl_1, jl_2, jl_3, jl_8, jl_9, jl_10, jl_20, jl_27, jl_47, jl_96, jl_99, jl_100, jl_200, jl_555, jl_2000, jl_10000, jl_12345, jl_65536, jl_99999, jl_131638, jl_240023, jl_298288, jl_383153, jl_1306021, jl_1960084, jl_4147840, jl_8740238, jl_9872299, jl_175252482, jl_291595537, jl_1103515245, jl_2000000000, jl_2147483648, jl_4721686497, jl_7873079139, J_add, J_sub, J_mul, J_neg, JL_add, JL_sub, JL_mul, JL_neg, J_long, JL_int, ↓remI_fold, ↓remL_fold, Int.reduceAdd, Int.reduceSub, Int.reduceMul, Int.reduceNeg, Int.reduceToNat, r2, J_or, Option.bind_some, castS]
    · rw [if_pos (by rw [J_le (by omega)]; omega), if_neg h1]
      simp only [jn_0, jn_1, jn_2, jn_3, jn_4, jn_5, jn_6, jn_8, jn_9, jn_10, jn_11, jn_12, jn_16, jn_20, jn_24, jn_30, jn_31, jn_32, jn_36, jn_48, jn_57, jn_59, jn_60, jn_63, jn_72, jn_73, jn_96, jn_97, jn_100, jn_122, jn_144, jn_200, jn_240, jn_288, jn_512, jn_840, jn_1200, jn_1600, jn_5040, jn_5390, jn_5400, jn_9999, jn_18688, jn_32400, jn_99999, jn_100000, jn_1000000, jn_858993459, jn_1431655765, jn_252645135, jl_0, jl_1, jl_2, jl_3, jl_8, jl_9, jl_10, jl_20, jl_27, jl_47, jl_96, jl_99, jl_100, jl_200, jl_555, jl_2000, jl_10000, jl_12345, jl_65536, jl_99999, jl_131638, jl_240023, jl_298288, jl_383153, jl_1306021, jl_1960084, jl_4147840, jl_8740238, jl_9872299, jl_175252482, jl_291595537, jl_1103515245, jl_2000000000, jl_2147483648, jl_4721686497, jl_7873079139, J_add, J_sub, J_mul, J_neg, JL_add, JL_sub, JL_mul, JL_neg, J_long, JL_int, ↓remI_fold, ↓remL_fold, Int.reduceAdd, Int.reduceSub, Int.reduceMul, Int.reduceNeg, Int.reduceToNat, Option.bind_some, castS]
      rw [show J (s : Int) ||| J 0 = J (s : Int) from (J_or s 0).trans (by rw [Nat.or_zero])]
  · intro n s
    rw [fX5_count_184, mg_17, Option.bind_some, jn_0, mr_7 o _ w (by omega), Option.bind_some, show (0 : Int).toNat = 0 from rfl, gm_R hG, if_pos (by rw [J_le (by omega)]; omega)]
theorem M_ct222 {sl : Nat → Bool} (h4 : ∀ v, v < 4 → (ma S 1 v = J (-1) ↔ sl v = false)) (k : Int32 → Option (Int32 × Wd)) (hN : 1000000 ≤ N) : fX5_count_222 N (emM o S w) o k N (J 0) (J 0) = k (J (sm (fun v => ind (sl v = true)) 4)) := by
  have key := lp_sum (fun n i q => fX5_count_222 N (emM o S w) o k n (J q) (J (i : Int))) (fun q => k (J q)) 4 (fun v => ind (sl v = true)) ?_ ?_ N 0 (by omega)
  · rw [Int.zero_add] at key; exact key
  · intro n i q hi
    have h := h4 i hi
    rw [fX5_count_222, jn_4, if_neg (by rw [J_le (by omega)]; omega), mg_1, Option.bind_some, mr_1 o _ w (by omega), Option.bind_some, Int.toNat_natCast]
    by_cases h1 : sl i = true
    · rw [if_neg (show ¬ ma S 1 i = -1 by intro e; have := h.1 e; rw [h1] at this; exact absurd this (by decide))]
      simp only [jn_0, jn_1, jn_2, jn_3, jn_4, jn_5, jn_6, jn_8, jn_9, jn_10, jn_11, jn_12, jn_16, jn_20, jn_24, jn_30, jn_31, jn_32, jn_36, jn_48, jn_57, jn_59, jn_60, jn_63, jn_72, jn_73, jn_96, jn_97, jn_100, jn_122, jn_144, jn_200, jn_240, jn_288, jn_512, jn_840, jn_1200, jn_1600, jn_5040, jn_5390, jn_5400, jn_9999, jn_18688, jn_32400, jn_99999, jn_100000, jn_1000000, jn_858993459, jn_1431655765, jn_252645135, jl_0, jl_1, jl_2, jl_3, jl_8, jl_9, jl_10, jl_20, jl_27, jl_47, jl_96, jl_99, jl_100, jl_200, jl_555, jl_2000, jl_10000, jl_12345, jl_65536, jl_99999, jl_131638, jl_240023, jl_298288, jl_383153, jl_1306021, jl_1960084, jl_4147840, jl_8740238, jl_9872299, jl_175252482, jl_291595537, jl_1103515245, jl_2000000000, jl_2147483648, jl_4721686497, jl_7873079139, J_add, J_sub, J_mul, J_neg, JL_add, JL_sub, JL_mul, JL_neg, J_long, JL_int, ↓remI_fold, ↓remL_fold, Int.reduceAdd, Int.reduceSub, Int.reduceMul, Int.reduceNeg, Int.reduceToNat, Option.bind_some, castS]
      unfold ind; rw [if_pos h1]
    · rw [if_pos (show ma S 1 i = -1 from h.2 (by simpa using h1))]
      simp only [jn_0, jn_1, jn_2, jn_3, jn_4, jn_5, jn_6, jn_8, jn_9, jn_10, jn_11, jn_12, jn_16, jn_20, jn_24, jn_30, jn_31, jn_32, jn_36, jn_48, jn_57, jn_59, jn_60, jn_63, jn_72, jn_73, jn_96, jn_97, jn_100, jn_122, jn_144, jn_200, jn_240, jn_288, jn_512, jn_840, jn_1200, jn_1600, jn_5040, jn_5390, jn_5400, jn_9999, jn_18688, jn_32400, jn_99999, jn_100000, jn_1000000, jn_858993459, jn_1431655765, jn_252645135, jl_0, jl_1, jl_2, jl_3, jl_8, jl_9, jl_10, jl_20, jl_27, jl_47, jl_96, jl_99, jl_100, jl_200, jl_555, jl_2000, jl_10000, jl_12345, jl_65536, jl_99999, jl_131638, jl_240023, jl_298288, jl_383153, jl_1306021, jl_1960084, jl_4147840, jl_8740238, jl_9872299, jl_175252482, jl_291595537, jl_1103515245, jl_2000000000, jl_2147483648, jl_4721686497, jl_7873079139, J_add, J_sub, J_mul, J_neg, JL_add, JL_sub, JL_mul, JL_neg, J_long, JL_int, ↓remI_fold, ↓remL_fold, Int.reduceAdd, Int.reduceSub, Int.reduceMul, Int.reduceNeg, Int.reduceToNat, Option.bind_some, castS]
      unfold ind; rw [if_neg h1]
  · intro n q
    rw [fX5_count_222, jn_4, if_pos (by rw [J_le (by omega)]; omega)]
theorem M_count (hG : GdM S 0 C) (hN : 1000000 ≤ N) {tl : Int} (ht : mi S 6 = J tl) {sl : Nat → Bool} (h4 : ∀ v, v < 4 → (ma S 1 v = J (-1) ↔ sl v = false)) {x : Int} (hx : -2147483648 ≤ x ∧ x ≤ 2147483647) : fX5_count N (emM o S w) o (J x) = some (J (sp_count C tl sl x), emM o (mSI S 0 (J 0)) w) := by
  have hG' : GdM (mSI S 0 (J 0)) 0 C := hG
  have h4' : ∀ v, v < 4 → (ma (mSI S 0 (J 0)) 1 v = J (-1) ↔ sl v = false) := h4
  have ht' : mi (mSI S 0 (J 0)) 6 = J tl := ht
  unfold fX5_count sp_count
  rw [jn_0, mp_0, Option.bind_some]
  have c (m : Int) (hm : 0 ≤ m ∧ m ≤ 8) : (J x = J m) = (x = m) := J_eq (by omega)
  by_cases h0 : x = 0
  · rw [if_pos (show J x = J 0 by rw [h0]), if_pos h0, mg_17, Option.bind_some, mr_7 o _ w (by omega), Option.bind_some]
    exact congrArg (fun z => some (z, _)) (gm_R hG')
  rw [if_neg (show ¬ J x = J 0 by rw [c 0 (by omega)]; exact h0), if_neg h0]
  by_cases h1 : x = 1
  · rw [if_pos (show J x = 1 by rw [h1]; rfl), if_pos h1, mg_22, Option.bind_some, jn_1, mr_12 o _ w (by omega), Option.bind_some]
    exact congrArg (fun z => some (z, _)) (gm_N hG')
  rw [if_neg (show ¬ J x = 1 by rw [jn_1, c 1 (by omega)]; exact h1), if_neg h1]
  by_cases h2 : x = 2
  · rw [if_pos (show J x = 2 by rw [h2]; rfl), if_pos h2]
    exact M_ct76 hG' hN _
  rw [if_neg (show ¬ J x = 2 by rw [jn_2, c 2 (by omega)]; exact h2), if_neg h2]
  by_cases h3 : x = 3
  · rw [if_pos (show J x = 3 by rw [h3]; rfl), if_pos h3, mg_16, Option.bind_some, mr_6 o _ w (by omega), Option.bind_some]
    exact congrArg (fun z => some (z, _)) (gm_L hG')
  rw [if_neg (show ¬ J x = 3 by rw [jn_3, c 3 (by omega)]; exact h3), if_neg h3]
  by_cases h5 : x = 4
  · rw [if_pos (show J x = 4 by rw [h5]; rfl), if_pos h5, mg_6, Option.bind_some, ht']
  rw [if_neg (show ¬ J x = 4 by rw [jn_4, c 4 (by omega)]; exact h5), if_neg h5]
  by_cases h6 : x = 5
  · rw [if_pos (show J x = 5 by rw [h6]; rfl), if_pos h6, M_isCity hG', Option.bind_some]
    by_cases hR : 0 < cR C
    · rw [if_neg (by rw [Bp_eq0]; omega), if_pos hR, mg_25, Option.bind_some, mr_15 o _ w (by omega), Option.bind_some]
      exact congrArg (fun z => some (z, _)) (gm_G hG' hR)
    · rw [if_pos (by rw [Bp_eq0]; exact hR), if_neg hR]
  rw [if_neg (show ¬ J x = 5 by rw [jn_5, c 5 (by omega)]; exact h6), if_neg h6]
  by_cases h7 : x = 6
  · rw [if_pos (show J x = 6 by rw [h7]; rfl), if_pos h7, M_isCity hG', Option.bind_some]
    by_cases hR : 0 < cR C
    · rw [if_neg (by rw [Bp_eq0]; omega), if_pos hR, mg_25, Option.bind_some, jn_1, mr_15 o _ w (by omega), Option.bind_some]
      exact congrArg (fun z => some (z, _)) (gm_O hG' hR)
    · rw [if_pos (by rw [Bp_eq0]; exact hR), if_neg hR]
  rw [if_neg (show ¬ J x = 6 by rw [jn_6, c 6 (by omega)]; exact h7), if_neg h7]
  by_cases h8 : x = 7
  · rw [if_pos (show J x = 7 by rw [h8]; rfl), if_pos h8]
    exact M_ct184 hG' hN _
  rw [if_neg (show ¬ J x = 7 by rw [show (7 : Int32) = J 7 from rfl, c 7 (by omega)]; exact h8), if_neg h8]
  by_cases h9 : x = 8
  · rw [if_pos (show J x = 8 by rw [h9]; rfl), if_pos h9]
    exact M_ct222 h4' _ hN
  rw [if_neg (show ¬ J x = 8 by rw [jn_8, c 8 (by omega)]; exact h9), if_neg h9]
  rfl
end
theorem fH_wg {C : Cy} {r : Nat} : (0 < sm (wg C r) 8) ↔ 0 < fH C r := by
  have hP := cP_bd C r
  have wn : ∀ b, 0 ≤ wg C r b := fun b => by
    unfold wg
    have h1 : (0 : Int) ≤ (hh C r b : Int) * (hh C r b : Int) := Int.mul_nonneg (by omega) (by omega)
    rw [Int.mul_assoc]
    split <;> omega
  constructor
  · intro h
    have ⟨b, hb, hw⟩ := sm_pos _ _ h
    have hpos : 0 < hh C r b := by
      rcases Nat.eq_zero_or_pos (hh C r b) with h0 | h0
      · unfold wg at hw
        rw [h0] at hw
        simp at hw
      · exact h0
    unfold fH
    cases hf : fi (fun i => decide (0 < cH C r i)) (cP C r) with
    | some i =>
      have ⟨_, h2, _⟩ := (fi_some _ _ _).1 hf
      simpa using h2
    | none =>
      exfalso
      have := (fi_none _ _).1 hf (pl C r b) (pl_lt C r b)
      simp only [decide_eq_true_iff] at this
      exact this hpos
  · intro h
    unfold fH at h
    cases hf : fi (fun i => decide (0 < cH C r i)) (cP C r) with
    | none => rw [hf] at h; simp at h
    | some i =>
      have ⟨h1, h2, _⟩ := (fi_some _ _ _).1 hf
      simp only [decide_eq_true_iff] at h2
      have hpl : pl C r (i : Int) = i := by
        unfold pl
        rw [Int.emod_eq_of_lt (by omega) (by omega), Int.toNat_natCast]
      have hhi : hh C r (i : Int) = cH C r i := by unfold hh; rw [hpl]
      have hge := sm_ge (wg C r) 8 i (fun j _ => wn j) (by omega)
      have hw : 0 < wg C r i := by
        unfold wg
        rw [hhi, Int.mul_assoc]
        have h3 : (0 : Int) < (cH C r i : Int) * (cH C r i : Int) := Int.mul_pos (by omega) (by omega)
        split <;> omega
      omega
section
variable {N o c : Nat} {S : XS} {w : Wd} {C : Cy} {th : Nat → Nat}
theorem X_pr19 (hg : gR w [0] o 0 = some c) (h : Hc w c th C) (hN : 1000000 ≤ N) {a : Nat} (ha : a < cR C) (k : Int32 → Option Int32) {n : Nat} (hn : 6 < n) (s : Int) : fX0_pairs_19 N w o (J a) k n (J s) (J ((a + 1 : Nat) : Int)) = k (J (s + sm (fun j => ind (isX C a (a + 1 + j) = true)) (cR C - (a + 1)))) := by
  have hR := cR_le C
  refine lp_sum (fun n i q => fX0_pairs_19 N w o (J a) k n (J q) (J ((a + 1 + i : Nat) : Int))) (fun q => k (J q)) (cR C - (a + 1)) (fun j => ind (isX C a (a + 1 + j) = true)) ?_ ?_ n s (by omega)
  · intro n i q hi
    rw [fX0_pairs_19, hg, Option.bind_some, hc_0 h, Option.bind_some, if_neg (by rw [J_le (by omega)]; omega), X_isCross hg h hN (by omega) (by omega), Option.bind_some]
    by_cases h1 : isX C a (a + 1 + i) = true
    · rw [if_neg (by rw [jn_0, Bp_eq0]; simp [h1])]
      simp only [jn_0, jn_1, jn_2, jn_3, jn_4, jn_5, jn_6, jn_8, jn_9, jn_10, jn_11, jn_12, jn_16, jn_20, jn_24, jn_30, jn_31, jn_32, jn_36, jn_48, jn_57, jn_59, jn_60, jn_63, jn_72, jn_73, jn_96, jn_97, jn_100, jn_122, jn_144, jn_200, jn_240, jn_288, jn_512, jn_840, jn_1200, jn_1600, jn_5040, jn_5390, jn_5400, jn_9999, jn_18688, jn_32400, jn_99999, jn_100000, jn_1000000, jn_858993459, jn_1431655765, jn_252645135, jl_0, jl_1, jl_2, jl_3, jl_8, jl_9, jl_10, jl_20, jl_27, jl_47, jl_96, jl_99, jl_100, jl_200, jl_555, jl_2000, jl_10000, jl_12345, jl_65536, jl_99999, jl_131638, jl_240023, jl_298288, jl_383153, jl_1306021, jl_1960084, jl_4147840, jl_8740238, jl_9872299, jl_175252482, jl_291595537, jl_1103515245, jl_2000000000, jl_2147483648, jl_4721686497, jl_7873079139, J_add, J_sub, J_mul, J_neg, JL_add, JL_sub, JL_mul, JL_neg, J_long, JL_int, ↓remI_fold, ↓remL_fold, Int.reduceAdd, Int.reduceSub, Int.reduceMul, Int.reduceNeg, Int.reduceToNat, Option.bind_some]
      rw [show ((a + 1 + i : Nat) : Int) + 1 = ((a + 1 + (i + 1) : Nat) : Int) by omega]
      unfold ind; rw [if_pos h1]
    · rw [if_pos (by rw [jn_0, Bp_eq0]; simp [h1])]
      simp only [jn_0, jn_1, jn_2, jn_3, jn_4, jn_5, jn_6, jn_8, jn_9, jn_10, jn_11, jn_12, jn_16, jn_20, jn_24, jn_30, jn_31, jn_32, jn_36, jn_48, jn_57, jn_59, jn_60, jn_63, jn_72, jn_73, jn_96, jn_97, jn_100, jn_122, jn_144, jn_200, jn_240, jn_288, jn_512, jn_840, jn_1200, jn_1600, jn_5040, jn_5390, jn_5400, jn_9999, jn_18688, jn_32400, jn_99999, jn_100000, jn_1000000, jn_858993459, jn_1431655765, jn_252645135, jl_0, jl_1, jl_2, jl_3, jl_8, jl_9, jl_10, jl_20, jl_27, jl_47, jl_96, jl_99, jl_100, jl_200, jl_555, jl_2000, jl_10000, jl_12345, jl_65536, jl_99999, jl_131638, jl_240023, jl_298288, jl_383153, jl_1306021, jl_1960084, jl_4147840, jl_8740238, jl_9872299, jl_175252482, jl_291595537, jl_1103515245, jl_2000000000, jl_2147483648, jl_4721686497, jl_7873079139, J_add, J_sub, J_mul, J_neg, JL_add, JL_sub, JL_mul, JL_neg, J_long, JL_int, ↓remI_fold, ↓remL_fold, Int.reduceAdd, Int.reduceSub, Int.reduceMul, Int.reduceNeg, Int.reduceToNat, Option.bind_some]
      rw [show ((a + 1 + i : Nat) : Int) + 1 = ((a + 1 + (i + 1) : Nat) : Int) by omega]
      unfold ind; rw [if_neg h1]
  · intro n q
    rw [fX0_pairs_19, hg, Option.bind_some, hc_0 h, Option.bind_some, if_pos (by rw [J_le (by omega)]; omega)]
theorem X_pairs (hg : gR w [0] o 0 = some c) (h : Hc w c th C) (hN : 1000000 ≤ N) : fX0_pairs N w o = some (J (prs C)) := by
  have hR := cR_le C
  unfold fX0_pairs
  have key := lp_sum (fun n i q => fX0_pairs_4 N w o (fun y13 => some y13) n (J q) (J (i : Int))) (fun q => some (J q)) (cR C) (fun a => sm (fun j => ind (isX C a (a + 1 + j) = true)) (cR C - (a + 1))) ?_ ?_ N 0 (by omega)
  · rw [Int.zero_add] at key; exact key
  · intro n i q hi
    rw [fX0_pairs_4, hg, Option.bind_some, hc_0 h, Option.bind_some, if_neg (by rw [J_le (by omega)]; omega)]
    simp only [jn_0, jn_1, jn_2, jn_3, jn_4, jn_5, jn_6, jn_8, jn_9, jn_10, jn_11, jn_12, jn_16, jn_20, jn_24, jn_30, jn_31, jn_32, jn_36, jn_48, jn_57, jn_59, jn_60, jn_63, jn_72, jn_73, jn_96, jn_97, jn_100, jn_122, jn_144, jn_200, jn_240, jn_288, jn_512, jn_840, jn_1200, jn_1600, jn_5040, jn_5390, jn_5400, jn_9999, jn_18688, jn_32400, jn_99999, jn_100000, jn_1000000, jn_858993459, jn_1431655765, jn_252645135, jl_0, jl_1, jl_2, jl_3, jl_8, jl_9, jl_10, jl_20, jl_27, jl_47, jl_96, jl_99, jl_100, jl_200, jl_555, jl_2000, jl_10000, jl_12345, jl_65536, jl_99999, jl_131638, jl_240023, jl_298288, jl_383153, jl_1306021, jl_1960084, jl_4147840, jl_8740238, jl_9872299, jl_175252482, jl_291595537, jl_1103515245, jl_2000000000, jl_2147483648, jl_4721686497, jl_7873079139, J_add, J_sub, J_mul, J_neg, JL_add, JL_sub, JL_mul, JL_neg, J_long, JL_int, ↓remI_fold, ↓remL_fold, Int.reduceAdd, Int.reduceSub, Int.reduceMul, Int.reduceNeg, Int.reduceToNat, Option.bind_some, castS]
    exact X_pr19 hg h hN hi _ (by omega) q
  · intro n q
    rw [fX0_pairs_4, hg, Option.bind_some, hc_0 h, Option.bind_some, if_pos (by rw [J_le (by omega)]; omega)]
theorem X_ct115 (hg : gR w [0] o 0 = some c) (h : Hc w c th C) (ho : OkC C) (hN : 1000000 ≤ N) (k : Int32 → Option Int32) : fX0_count_115 N w o k N (J 0) (J 0) = k (J (thw C)) := by
  have hR := cR_le C
  refine lp_fold' (fun n i (s : Nat) => fX0_count_115 N w o k n (J s) (J (i : Int))) (fun s => k (J s)) (cR C) (fun r s => if 0 < fH C r then s ||| 1 <<< r else s) ?_ ?_ N 0 (by omega)
  · intro n i s hi
    have hw := X_wages hg h ho hN (v := (i : Int)) (m := 8) (by omega) (by omega)
    have e : sp_wages C (i : Int) 8 = sm (wg C i) 8 := by
      unfold sp_wages
      rw [if_pos ⟨by omega, by omega⟩, if_pos ⟨by omega, by omega⟩, Int.toNat_natCast]
      rfl
    rw [e] at hw
    have hb := sm_bd (wg C i) 8 0 162 (fun b _ => by
      have h9 := hh_le C i b
      unfold wg
      have h1 : (0 : Int) ≤ (hh C i b : Int) * (hh C i b : Int) := Int.mul_nonneg (by omega) (by omega)
      have h2 : (hh C i b : Int) * (hh C i b : Int) ≤ 9 * 9 := Int.mul_le_mul (by omega) (by omega) (by omega) (by omega)
      rw [Int.mul_assoc]
      split <;> omega)
    have ec : (lg_cmp (JL (sm (wg C i) 8)) (JL 0) ≤ J 0) = (sm (wg C i) 8 ≤ 0) := cmp_le0 (by omega)
    rw [fX0_count_115, hg, Option.bind_some, hc_0 h, Option.bind_some, if_neg (by rw [J_le (by omega)]; omega), jn_8, hw, Option.bind_some]
    have r2 : J 1 <<< (J (i : Int) &&& J 31) = J ((1 <<< i : Nat) : Int) := by rw [J_shlz (by omega), Int.toNat_natCast]
    have hiff := fH_wg (C := C) (r := i)
    by_cases h1 : 0 < fH C i
    · rw [if_neg (show ¬ lg_cmp (JL (sm (wg C i) 8)) 0 ≤ 0 by rw [jl_0, jn_0, ec]; have := hiff.2 h1; omega), if_pos h1]
      simp only [jn_0, jn_1, jn_2, jn_3, jn_4, jn_5, jn_6, jn_8, jn_9, jn_10, jn_11, jn_12, jn_16, jn_20, jn_24, jn_30, jn_31, jn_32, jn_36, jn_48, jn_57, jn_59, jn_60, jn_63, jn_72, jn_73, jn_96, jn_97, jn_100, jn_122, jn_144, jn_200, jn_240, jn_288, jn_512, jn_840, jn_1200, jn_1600, jn_5040, jn_5390, jn_5400, jn_9999, jn_18688, jn_32400, jn_99999, jn_100000, jn_1000000, jn_858993459, jn_1431655765, jn_252645135, jl_0, jl_1, jl_2, jl_3, jl_8, jl_9, jl_10, jl_20, jl_27, jl_47, jl_96, jl_99, jl_100, jl_200, jl_555, jl_2000, jl_10000, jl_12345, jl_65536, jl_99999, jl_131638, jl_240023, jl_298288, jl_383153, jl_1306021, jl_1960084, jl_4147840, jl_8740238, jl_9872299, jl_175252482, jl_291595537, jl_1103515245, jl_2000000000, jl_2147483648, jl_4721686497, jl_7873079139, J_add, J_sub, J_mul, J_neg, JL_add, JL_sub, JL_mul, JL_neg, J_long, JL_int, ↓remI_fold, ↓remL_fold, Int.reduceAdd, Int.reduceSub, Int.reduceMul, Int.reduceNeg, Int.reduceToNat, r2, J_or, Option.bind_some, castS]
    · rw [if_pos (show lg_cmp (JL (sm (wg C i) 8)) 0 ≤ 0 by rw [jl_0, jn_0, ec]; have := fun z => h1 (hiff.1 z); omega), if_neg h1]
      simp only [jn_0, jn_1, jn_2, jn_3, jn_4, jn_5, jn_6, jn_8, jn_9, jn_10, jn_11, jn_12, jn_16, jn_20, jn_24, jn_30, jn_31, jn_32, jn_36, jn_48, jn_57, jn_59, jn_60, jn_63, jn_72, jn_73, jn_96, jn_97, jn_100, jn_122, jn_144, jn_200, jn_240, jn_288, jn_512, jn_840, jn_1200, jn_1600, jn_5040, jn_5390, jn_5400, jn_9999, jn_18688, jn_32400, jn_99999, jn_100000, jn_1000000, jn_858993459, jn_1431655765, jn_252645135, jl_0, jl_1, jl_2, jl_3, jl_8, jl_9, jl_10, jl_20, jl_27, jl_47, jl_96, jl_99, jl_100, jl_200, jl_555, jl_2000, jl_10000, jl_12345, jl_65536, jl_99999, jl_131638, jl_240023, jl_298288, jl_383153, jl_1306021, jl_1960084, jl_4147840, jl_8740238, jl_9872299, jl_175252482, jl_291595537, jl_1103515245, jl_2000000000, jl_2147483648, jl_4721686497, jl_7873079139, J_add, J_sub, J_mul, J_neg, JL_add, JL_sub, JL_mul, JL_neg, J_long, JL_int, ↓remI_fold, ↓remL_fold, Int.reduceAdd, Int.reduceSub, Int.reduceMul, Int.reduceNeg, Int.reduceToNat, Option.bind_some, castS]
      rw [show J (s : Int) ||| J 0 = J (s : Int) from (J_or s 0).trans (by rw [Nat.or_zero])]
  · intro n s
    rw [fX0_count_115, hg, Option.bind_some, hc_0 h, Option.bind_some, if_pos (by rw [J_le (by omega)]; omega)]
/-- which slots hold a city -/
def SlX (w : Wd) (o : Nat) (sl : Nat → Bool) : Prop := ∃ q, gR w [0] o 22 = some q ∧ ∀ v : Nat, v < 4 → ∃ a y, aR 6 w q (J v) = some a ∧ gN w [4] a 0 = some y ∧ (y = none ↔ sl v = false)
theorem X_ct158 {sl : Nat → Bool} (h4 : SlX w o sl) (k : Int32 → Option Int32) (hN : 1000000 ≤ N) : fX0_count_158 N w o k N (J 0) (J 0) = k (J (sm (fun v => ind (sl v = true)) 4)) := by
  have ⟨q0, hq, h4⟩ := h4
  have key := lp_sum (fun n i q => fX0_count_158 N w o k n (J q) (J (i : Int))) (fun q => k (J q)) 4 (fun v => ind (sl v = true)) ?_ ?_ N 0 (by omega)
  · rw [Int.zero_add] at key; exact key
  · intro n i q hi
    have ⟨a, y, e1, e2, h⟩ := h4 i hi
    rw [fX0_count_158, jn_4, if_neg (by rw [J_le (by omega)]; omega), hq, Option.bind_some, e1, Option.bind_some, e2, Option.bind_some]
    by_cases h1 : sl i = true
    · rw [if_neg (show ¬ y = none by intro e; have := h.1 e; rw [h1] at this; exact absurd this (by decide))]
      simp only [jn_0, jn_1, jn_2, jn_3, jn_4, jn_5, jn_6, jn_8, jn_9, jn_10, jn_11, jn_12, jn_16, jn_20, jn_24, jn_30, jn_31, jn_32, jn_36, jn_48, jn_57, jn_59, jn_60, jn_63, jn_72, jn_73, jn_96, jn_97, jn_100, jn_122, jn_144, jn_200, jn_240, jn_288, jn_512, jn_840, jn_1200, jn_1600, jn_5040, jn_5390, jn_5400, jn_9999, jn_18688, jn_32400, jn_99999, jn_100000, jn_1000000, jn_858993459, jn_1431655765, jn_252645135, jl_0, jl_1, jl_2, jl_3, jl_8, jl_9, jl_10, jl_20, jl_27, jl_47, jl_96, jl_99, jl_100, jl_200, jl_555, jl_2000, jl_10000, jl_12345, jl_65536, jl_99999, jl_131638, jl_240023, jl_298288, jl_383153, jl_1306021, jl_1960084, jl_4147840, jl_8740238, jl_9872299, jl_175252482, jl_291595537, jl_1103515245, jl_2000000000, jl_2147483648, jl_4721686497, jl_7873079139, J_add, J_sub, J_mul, J_neg, JL_add, JL_sub, JL_mul, JL_neg, J_long, JL_int, ↓remI_fold, ↓remL_fold, Int.reduceAdd, Int.reduceSub, Int.reduceMul, Int.reduceNeg, Int.reduceToNat, Option.bind_some, castS]
      unfold ind; rw [if_pos h1]
    · rw [if_pos (show y = none from h.2 (by simpa using h1))]
      simp only [jn_0, jn_1, jn_2, jn_3, jn_4, jn_5, jn_6, jn_8, jn_9, jn_10, jn_11, jn_12, jn_16, jn_20, jn_24, jn_30, jn_31, jn_32, jn_36, jn_48, jn_57, jn_59, jn_60, jn_63, jn_72, jn_73, jn_96, jn_97, jn_100, jn_122, jn_144, jn_200, jn_240, jn_288, jn_512, jn_840, jn_1200, jn_1600, jn_5040, jn_5390, jn_5400, jn_9999, jn_18688, jn_32400, jn_99999, jn_100000, jn_1000000, jn_858993459, jn_1431655765, jn_252645135, jl_0, jl_1, jl_2, jl_3, jl_8, jl_9, jl_10, jl_20, jl_27, jl_47, jl_96, jl_99, jl_100, jl_200, jl_555, jl_2000, jl_10000, jl_12345, jl_65536, jl_99999, jl_131638, jl_240023, jl_298288, jl_383153, jl_1306021, jl_1960084, jl_4147840, jl_8740238, jl_9872299, jl_175252482, jl_291595537, jl_1103515245, jl_2000000000, jl_2147483648, jl_4721686497, jl_7873079139, J_add, J_sub, J_mul, J_neg, JL_add, JL_sub, JL_mul, JL_neg, J_long, JL_int, ↓remI_fold, ↓remL_fold, Int.reduceAdd, Int.reduceSub, Int.reduceMul, Int.reduceNeg, Int.reduceToNat, Option.bind_some, castS]
      unfold ind; rw [if_neg h1]
  · intro n q
    rw [fX0_count_158, jn_4, if_pos (by rw [J_le (by omega)]; omega)]
theorem X_count (hg : gR w [0] o 0 = some c) (h : Hc w c th C) (ho : OkC C) (hN : 1000000 ≤ N) {tl : Int} (ht : gI w [0] o 2 = some (J tl)) {sl : Nat → Bool} (h4 : SlX w o sl) {x : Int} (hx : -2147483648 ≤ x ∧ x ≤ 2147483647) : fX0_count N w o (J x) = some (J (sp_count C tl sl x)) := by
  unfold fX0_count sp_count
  have c (m : Int) (hm : 0 ≤ m ∧ m ≤ 8) : (J x = J m) = (x = m) := J_eq (by omega)
  by_cases h0 : x = 0
  · rw [if_pos (show J x = 0 by rw [h0]; rfl), if_pos h0, hg, Option.bind_some, hc_0 h, Option.bind_some]
  rw [if_neg (show ¬ J x = 0 by rw [jn_0, c 0 (by omega)]; exact h0), if_neg h0]
  by_cases h1 : x = 1
  · rw [if_pos (show J x = 1 by rw [h1]; rfl), if_pos h1, hg, Option.bind_some, hc_2 h, Option.bind_some]
  rw [if_neg (show ¬ J x = 1 by rw [jn_1, c 1 (by omega)]; exact h1), if_neg h1]
  by_cases h2 : x = 2
  · rw [if_pos (show J x = 2 by rw [h2]; rfl), if_pos h2, X_pairs hg h hN, Option.bind_some]
  rw [if_neg (show ¬ J x = 2 by rw [jn_2, c 2 (by omega)]; exact h2), if_neg h2]
  by_cases h3 : x = 3
  · rw [if_pos (show J x = 3 by rw [h3]; rfl), if_pos h3, hg, Option.bind_some, hc_3 h, Option.bind_some]
  rw [if_neg (show ¬ J x = 3 by rw [jn_3, c 3 (by omega)]; exact h3), if_neg h3]
  by_cases h5 : x = 4
  · rw [if_pos (show J x = 4 by rw [h5]; rfl), if_pos h5, ht, Option.bind_some]
  rw [if_neg (show ¬ J x = 4 by rw [jn_4, c 4 (by omega)]; exact h5), if_neg h5]
  by_cases h6 : x = 5
  · rw [if_pos (show J x = 5 by rw [h6]; rfl), if_pos h6, X_isCity hg h, Option.bind_some]
    by_cases hR : 0 < cR C
    · rw [if_neg (by rw [jn_0, Bp_eq0]; omega), if_pos hR, hg, Option.bind_some, hc_4 h, Option.bind_some]
    · rw [if_pos (by rw [jn_0, Bp_eq0]; exact hR), if_neg hR]; rfl
  rw [if_neg (show ¬ J x = 5 by rw [jn_5, c 5 (by omega)]; exact h6), if_neg h6]
  by_cases h7 : x = 6
  · rw [if_pos (show J x = 6 by rw [h7]; rfl), if_pos h7, hg, Option.bind_some, hc_5 h, Option.bind_some]
    by_cases hR : 0 < cR C
    · rw [if_pos hR]
    · rw [if_neg hR, ho.2.2 (by omega)]; rfl
  rw [if_neg (show ¬ J x = 6 by rw [jn_6, c 6 (by omega)]; exact h7), if_neg h7]
  by_cases h8 : x = 7
  · rw [if_pos (show J x = 7 by rw [h8]; rfl), if_pos h8]
    exact X_ct115 hg h ho hN _
  rw [if_neg (show ¬ J x = 7 by rw [show (7 : Int32) = J 7 from rfl, c 7 (by omega)]; exact h8), if_neg h8]
  by_cases h9 : x = 8
  · rw [if_pos (show J x = 8 by rw [h9]; rfl), if_pos h9]
    exact X_ct158 h4 _ hN
  rw [if_neg (show ¬ J x = 8 by rw [jn_8, c 8 (by omega)]; exact h9), if_neg h9]
  rfl
theorem X_fault {p q : Int32} (hp : gI w [0] o 3 = some p) (hq : gI w [0] o 4 = some q) {x : Int} (hx : -2147483648 ≤ x ∧ x ≤ 2147483647) : fX0_fault N w o (J x) = some (if x = 0 then p else if x = 1 then q else J (-1)) := by
  unfold fX0_fault
  by_cases h0 : x = 0
  · rw [if_pos (show J x = 0 by rw [h0]; rfl), if_pos h0, hp, Option.bind_some]
  rw [if_neg (show ¬ J x = 0 by rw [jn_0, J_eq (by omega)]; exact h0), if_neg h0]
  by_cases h1 : x = 1
  · rw [if_pos (show J x = 1 by rw [h1]; rfl), if_pos h1, hq, Option.bind_some]
  rw [if_neg (show ¬ J x = 1 by rw [jn_1, J_eq (by omega)]; exact h1), if_neg h1]
  rfl
end
