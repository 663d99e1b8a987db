/-! the reference: rows of one alone -/
set_option maxRecDepth 100000
section
variable {N o : Nat} {S : MS} {w : Wd} {C : Cy}
theorem J_shrz {a : Int} {k : Int} (h : (0 ≤ a ∧ a ≤ 2147483647) ∧ 0 ≤ k ∧ k < 32) : J a >>> (J k &&& J 31) = J ((a.toNat >>> k.toNat : Nat) : Int) := by
  obtain ⟨n, hn⟩ : ∃ n : Nat, a = n := ⟨a.toNat, by omega⟩
  obtain ⟨m, hm⟩ : ∃ n : Nat, k = n := ⟨k.toNat, by omega⟩
  subst hn hm
  exact J_shr n m (by omega) (by omega)
theorem J_shlz {k : Int} (h : 0 ≤ k ∧ k < 32) : J 1 <<< (J k &&& J 31) = J ((1 <<< k.toNat : Nat) : Int) := by
  obtain ⟨m, hm⟩ : ∃ n : Nat, k = n := ⟨k.toNat, by omega⟩
  subst hm
  exact J_shl 1 m (by omega)
theorem shr1_bit (s h : Nat) : (s >>> h) % 2 = 1 ↔ s.testBit h = true := by
  rw [Nat.testBit_eq_decide_div_mod_eq, Nat.shiftRight_eq_div_pow]; simp
theorem M_behind {s h : Nat} (hs : s < 512) (hh9 : h < 10) : fX5_behind N w (J s) (J h) = some (J (if okS s h = true then (nxS s h : Int) else -1)) := by
  have h2 := Nat.shiftRight_le s h
  have h3 := nxS_b ⟨s, hs⟩ ⟨h, hh9⟩
  simp only at h3
  unfold fX5_behind okS nxS
  unfold nxS at h3
  simp (disch := omega) only [jn_0, jn_1, jn_2, jn_3, jn_4, jn_5, jn_6, jn_8, jn_9, jn_10, jn_11, jn_12, jn_16, jn_20, jn_24, jn_30, jn_31, jn_32, jn_36, jn_48, jn_57, jn_59, jn_60, jn_63, jn_72, jn_73, jn_96, jn_97, jn_100, jn_122, jn_144, jn_200, jn_240, jn_288, jn_512, jn_840, jn_1200, jn_1600, jn_5040, jn_5390, jn_5400, jn_9999, jn_18688, jn_32400, jn_99999, jn_100000, jn_1000000, jn_858993459, jn_1431655765, jn_252645135, jl_0, jl_1, jl_2, jl_3, jl_8, jl_9, jl_10, jl_20, jl_27, jl_47, jl_96, jl_99, jl_100, jl_200, jl_555, jl_2000, jl_10000, jl_12345, jl_65536, jl_99999, jl_131638, jl_240023, jl_298288, jl_383153, jl_1306021, jl_1960084, jl_4147840, jl_8740238, jl_9872299, jl_175252482, jl_291595537, jl_1103515245, jl_2000000000, jl_2147483648, jl_4721686497, jl_7873079139, J_add, J_sub, J_mul, J_neg, JL_add, JL_sub, JL_mul, JL_neg, J_long, JL_int, ↓remI_fold, ↓remL_fold, Int.reduceAdd, Int.reduceSub, Int.reduceMul, Int.reduceNeg, Int.reduceToNat, J_and1, J_shrz, J_eq, Int.toNat_natCast, Int.reduceToNat]
  by_cases h4 : s % 2 = 0
  · rw [if_pos (by omega)]
    simp only [if_pos h4, decide_eq_true_iff]
    by_cases h5 : h = 0
    · rw [if_pos (by omega), if_pos h5, if_pos h5]
    · rw [if_neg (by omega), if_neg h5]
  · rw [if_neg (by omega)]
    simp only [if_neg h4, decide_eq_true_iff]
    by_cases h5 : h = 0
    · rw [if_pos (by omega), if_neg (by omega)]
    · rw [if_neg (by omega)]
      simp (disch := omega) only [J_shlz, J_or, if_neg h5]
      rw [if_neg h5] at h3
      rw [h3 (by omega), show ((h : Int) - 1).toNat = h - 1 by omega]
      by_cases h6 : s.testBit h = true
      · have := (shr1_bit s h).2 h6
        have hz : ((s >>> h : Nat) : Int) % 2 = 1 := by omega
        rw [J_and1 (Int.natCast_nonneg _), hz, if_pos rfl, if_neg (by rw [h6]; simp)]
      · have : ¬ (s >>> h) % 2 = 1 := fun e => h6 ((shr1_bit s h).1 e)
        have hz : ((s >>> h : Nat) : Int) % 2 = 0 := by omega
        rw [J_and1 (Int.natCast_nonneg _), hz, if_neg (by rw [J_eq (by omega)]; omega), if_pos ⟨by omega, by simpa using h6⟩]
theorem M_bitsOf (hN : 1000000 ≤ N) {s : Nat} (hs : s < 512) : fX5_bitsOf N w (J s) = some (J (popc s)) := by
  unfold fX5_bitsOf
  have key : ∀ (n s : Nat) (a : Int), s < 512 → s < n → fX5_bitsOf_4 N w (fun y3 => some y3) n (J a) (J s) = some (J (a + popc s)) := by
    intro n
    induction n with
    | zero => intro s a _ h; omega
    | succ n ih =>
      intro s a hs hn
      rw [fX5_bitsOf_4]
      simp (disch := omega) only [jn_0, jn_1, jn_2, jn_3, jn_4, jn_5, jn_6, jn_8, jn_9, jn_10, jn_11, jn_12, jn_16, jn_20, jn_24, jn_30, jn_31, jn_32, jn_36, jn_48, jn_57, jn_59, jn_60, jn_63, jn_72, jn_73, jn_96, jn_97, jn_100, jn_122, jn_144, jn_200, jn_240, jn_288, jn_512, jn_840, jn_1200, jn_1600, jn_5040, jn_5390, jn_5400, jn_9999, jn_18688, jn_32400, jn_99999, jn_100000, jn_1000000, jn_858993459, jn_1431655765, jn_252645135, jl_0, jl_1, jl_2, jl_3, jl_8, jl_9, jl_10, jl_20, jl_27, jl_47, jl_96, jl_99, jl_100, jl_200, jl_555, jl_2000, jl_10000, jl_12345, jl_65536, jl_99999, jl_131638, jl_240023, jl_298288, jl_383153, jl_1306021, jl_1960084, jl_4147840, jl_8740238, jl_9872299, jl_175252482, jl_291595537, jl_1103515245, jl_2000000000, jl_2147483648, jl_4721686497, jl_7873079139, J_add, J_sub, J_mul, J_neg, JL_add, JL_sub, JL_mul, JL_neg, J_long, JL_int, ↓remI_fold, ↓remL_fold, Int.reduceAdd, Int.reduceSub, Int.reduceMul, Int.reduceNeg, Int.reduceToNat, J_eq, Option.bind_some]
      by_cases h0 : s = 0
      · subst h0
        rw [if_pos (by omega), show popc 0 = 0 by decide]; simp
      · have ⟨e1, e2⟩ := popc_step ⟨s, hs⟩ h0
        simp only at e1 e2
        rw [if_neg (by omega), show (s : Int) - 1 = ((s - 1 : Nat) : Int) by omega, J_and, ih _ _ (by omega) (by omega), e1]
        congr 2; omega
  have := key N s 0 hs (by omega)
  rw [Int.zero_add] at this
  exact this
theorem M_so52 (hG : GdM S 0 C) {r : Nat} (hr : r < cR C) {t : Int} (ht : -900000 ≤ t ∧ t ≤ 900000) (k : Int32 → Option Int32) {n : Nat} (hn : 9 < n) : fX5_isSolo_52 N (emM o S w) o (J r) (J t) k n (J 0) (J 1) = k (J (cnt C r t)) := by
  have key := lp_sum (fun n i s => fX5_isSolo_52 N (emM o S w) o (J r) (J t) k n (J s) (J (1 + (i : Int)))) (fun s => k (J s)) (9) (fun h => ind (hh C r (t - (1 + h)) = 1 + h)) ?_ ?_ n 0 (by omega)
  · rw [Int.zero_add] at key
    exact key
  · intro n i s hi
    try dsimp only
    have h9 := hh_le C r (t - (1 + i))
    rw [fX5_isSolo_52]
    simp (disch := omega) only [jn_0, jn_1, jn_2, jn_3, jn_4, jn_5, jn_6, jn_8, jn_9, jn_10, jn_11, jn_12, jn_16, jn_20, jn_24, jn_30, jn_31, jn_32, jn_36, jn_48, jn_57, jn_59, jn_60, jn_63, jn_72, jn_73, jn_96, jn_97, jn_100, jn_122, jn_144, jn_200, jn_240, jn_288, jn_512, jn_840, jn_1200, jn_1600, jn_5040, jn_5390, jn_5400, jn_9999, jn_18688, jn_32400, jn_99999, jn_100000, jn_1000000, jn_858993459, jn_1431655765, jn_252645135, jl_0, jl_1, jl_2, jl_3, jl_8, jl_9, jl_10, jl_20, jl_27, jl_47, jl_96, jl_99, jl_100, jl_200, jl_555, jl_2000, jl_10000, jl_12345, jl_65536, jl_99999, jl_131638, jl_240023, jl_298288, jl_383153, jl_1306021, jl_1960084, jl_4147840, jl_8740238, jl_9872299, jl_175252482, jl_291595537, jl_1103515245, jl_2000000000, jl_2147483648, jl_4721686497, jl_7873079139, J_add, J_sub, J_mul, J_neg, JL_add, JL_sub, JL_mul, JL_neg, J_long, JL_int, ↓remI_fold, ↓remL_fold, Int.reduceAdd, Int.reduceSub, Int.reduceMul, Int.reduceNeg, Int.reduceToNat, J_lt, J_eq, Option.bind_some, M_highOf hG hr]
    rw [if_neg (by omega), show 1 + (i : Int) + 1 = 1 + ((i + 1 : Nat) : Int) by omega]
    unfold ind
    by_cases h1 : hh C r (t - (1 + i)) = 1 + i
    · rw [if_pos (by omega), if_pos h1]
    · rw [if_neg (by omega), if_neg h1]
  · intro n s
    try dsimp only
    rw [fX5_isSolo_52]
    simp (disch := omega) only [jn_0, jn_1, jn_2, jn_3, jn_4, jn_5, jn_6, jn_8, jn_9, jn_10, jn_11, jn_12, jn_16, jn_20, jn_24, jn_30, jn_31, jn_32, jn_36, jn_48, jn_57, jn_59, jn_60, jn_63, jn_72, jn_73, jn_96, jn_97, jn_100, jn_122, jn_144, jn_200, jn_240, jn_288, jn_512, jn_840, jn_1200, jn_1600, jn_5040, jn_5390, jn_5400, jn_9999, jn_18688, jn_32400, jn_99999, jn_100000, jn_1000000, jn_858993459, jn_1431655765, jn_252645135, jl_0, jl_1, jl_2, jl_3, jl_8, jl_9, jl_10, jl_20, jl_27, jl_47, jl_96, jl_99, jl_100, jl_200, jl_555, jl_2000, jl_10000, jl_12345, jl_65536, jl_99999, jl_131638, jl_240023, jl_298288, jl_383153, jl_1306021, jl_1960084, jl_4147840, jl_8740238, jl_9872299, jl_175252482, jl_291595537, jl_1103515245, jl_2000000000, jl_2147483648, jl_4721686497, jl_7873079139, J_add, J_sub, J_mul, J_neg, JL_add, JL_sub, JL_mul, JL_neg, J_long, JL_int, ↓remI_fold, ↓remL_fold, Int.reduceAdd, Int.reduceSub, Int.reduceMul, Int.reduceNeg, Int.reduceToNat, J_lt, J_eq, Option.bind_some]
    rw [if_pos (by omega)]
theorem cnt_bd (C : Cy) (r : Nat) (t : Int) : 0 ≤ cnt C r t ∧ cnt C r t ≤ 9 := by
  have := sm_bd (fun h => ind (hh C r (t - (1 + h)) = 1 + h)) 9 0 1 (fun h _ => by unfold ind; split <;> omega)
  unfold cnt; omega
theorem M_isSolo (hG : GdM S 0 C) (hN : 1000000 ≤ N) {r : Nat} (hr : r < cR C) : fX5_isSolo N (emM o S w) o (J r) = some (Bp (solo C r = true)) := by
  have hR := cR_le C
  have hP := cP_bd C r
  unfold fX5_isSolo
  have inner : fX5_isSolo_37 N (emM o S w) o (J r) (some (J 0)) (some (J 1)) N (J 0) = some (Bp (sol2 C r = true)) := by
    have key := lp_find (fun n i => fX5_isSolo_37 N (emM o S w) o (J r) (some (J 0)) (some (J 1)) n (J (i : Int))) (fun _ => some (J 0)) (some (J 1)) (cP C r) (fun t => decide (cnt C r t ≠ if 0 < hh C r t then 1 else 0)) ?_ ?_ N (by omega)
    · refine Eq.trans key ?_
      unfold sol2
      cases fi (fun t => decide (cnt C r t ≠ if 0 < hh C r t then 1 else 0)) (cP C r) <;> rfl
    · intro n i hi
      try dsimp only
      have h9 := hh_le C r i
      have hc := cnt_bd C r i
      rw [fX5_isSolo_37]
      simp (disch := omega) only [jn_0, jn_1, jn_2, jn_3, jn_4, jn_5, jn_6, jn_8, jn_9, jn_10, jn_11, jn_12, jn_16, jn_20, jn_24, jn_30, jn_31, jn_32, jn_36, jn_48, jn_57, jn_59, jn_60, jn_63, jn_72, jn_73, jn_96, jn_97, jn_100, jn_122, jn_144, jn_200, jn_240, jn_288, jn_512, jn_840, jn_1200, jn_1600, jn_5040, jn_5390, jn_5400, jn_9999, jn_18688, jn_32400, jn_99999, jn_100000, jn_1000000, jn_858993459, jn_1431655765, jn_252645135, jl_0, jl_1, jl_2, jl_3, jl_8, jl_9, jl_10, jl_20, jl_27, jl_47, jl_96, jl_99, jl_100, jl_200, jl_555, jl_2000, jl_10000, jl_12345, jl_65536, jl_99999, jl_131638, jl_240023, jl_298288, jl_383153, jl_1306021, jl_1960084, jl_4147840, jl_8740238, jl_9872299, jl_175252482, jl_291595537, jl_1103515245, jl_2000000000, jl_2147483648, jl_4721686497, jl_7873079139, J_add, J_sub, J_mul, J_neg, JL_add, JL_sub, JL_mul, JL_neg, J_long, JL_int, ↓remI_fold, ↓remL_fold, Int.reduceAdd, Int.reduceSub, Int.reduceMul, Int.reduceNeg, Int.reduceToNat, mg_0, mg_1, mg_2, mg_3, mg_4, mg_5, mg_6, mg_7, mg_8, mg_9, mg_10, mg_11, mg_12, mg_13, mg_14, mg_15, mg_16, mg_17, mg_18, mg_19, mg_20, mg_21, mg_22, mg_23, mg_24, mg_25, mg_26, mg_27, mg_28, mg_29, mg_30, mg_31, mg_32, mg_33, mg_34, mg_35, mg_36, mg_37, mg_38, mg_39, mg_40, mg_41, mg_42, mg_43, mg_44, mg_45, mr_1, mr_2, mr_3, mr_4, mr_5, mr_6, mr_7, mr_8, mr_9, mr_10, mr_11, mr_12, mr_13, mr_14, mr_15, mr_16, mr_17, mr_18, mr_19, mr_20, mr_21, mr_22, mr_23, mr_24, mr_25, Int.toNat_natCast, gm_P hG hr, J_le, Option.bind_some]
      rw [if_neg (by omega), M_so52 hG hr (by omega) _ (by omega)]
      simp (disch := omega) only [jn_0, jn_1, jn_2, jn_3, jn_4, jn_5, jn_6, jn_8, jn_9, jn_10, jn_11, jn_12, jn_16, jn_20, jn_24, jn_30, jn_31, jn_32, jn_36, jn_48, jn_57, jn_59, jn_60, jn_63, jn_72, jn_73, jn_96, jn_97, jn_100, jn_122, jn_144, jn_200, jn_240, jn_288, jn_512, jn_840, jn_1200, jn_1600, jn_5040, jn_5390, jn_5400, jn_9999, jn_18688, jn_32400, jn_99999, jn_100000, jn_1000000, jn_858993459, jn_1431655765, jn_252645135, jl_0, jl_1, jl_2, jl_3, jl_8, jl_9, jl_10, jl_20, jl_27, jl_47, jl_96, jl_99, jl_100, jl_200, jl_555, jl_2000, jl_10000, jl_12345, jl_65536, jl_99999, jl_131638, jl_240023, jl_298288, jl_383153, jl_1306021, jl_1960084, jl_4147840, jl_8740238, jl_9872299, jl_175252482, jl_291595537, jl_1103515245, jl_2000000000, jl_2147483648, jl_4721686497, jl_7873079139, J_add, J_sub, J_mul, J_neg, JL_add, JL_sub, JL_mul, JL_neg, J_long, JL_int, ↓remI_fold, ↓remL_fold, Int.reduceAdd, Int.reduceSub, Int.reduceMul, Int.reduceNeg, Int.reduceToNat, fX5_isSolo_102, M_highOf hG hr, J_le, J_eq, castS, Option.bind_some, decide_eq_true_iff]
      by_cases h1 : 0 < hh C r i
      · rw [if_neg (by omega)]
        simp only [if_pos h1]
        by_cases h2 : cnt C r i = 1
        · rw [if_pos h2, if_neg (fun h => h h2)]
        · rw [if_neg h2, if_pos h2]
      · rw [if_pos (by omega)]
        simp only [if_neg h1]
        by_cases h2 : cnt C r i = 0
        · rw [if_pos h2, if_neg (fun h => h h2)]
        · rw [if_neg h2, if_pos h2]
    · intro n
      try dsimp only
      rw [fX5_isSolo_37]
      simp (disch := omega) only [jn_0, jn_1, jn_2, jn_3, jn_4, jn_5, jn_6, jn_8, jn_9, jn_10, jn_11, jn_12, jn_16, jn_20, jn_24, jn_30, jn_31, jn_32, jn_36, jn_48, jn_57, jn_59, jn_60, jn_63, jn_72, jn_73, jn_96, jn_97, jn_100, jn_122, jn_144, jn_200, jn_240, jn_288, jn_512, jn_840, jn_1200, jn_1600, jn_5040, jn_5390, jn_5400, jn_9999, jn_18688, jn_32400, jn_99999, jn_100000, jn_1000000, jn_858993459, jn_1431655765, jn_252645135, jl_0, jl_1, jl_2, jl_3, jl_8, jl_9, jl_10, jl_20, jl_27, jl_47, jl_96, jl_99, jl_100, jl_200, jl_555, jl_2000, jl_10000, jl_12345, jl_65536, jl_99999, jl_131638, jl_240023, jl_298288, jl_383153, jl_1306021, jl_1960084, jl_4147840, jl_8740238, jl_9872299, jl_175252482, jl_291595537, jl_1103515245, jl_2000000000, jl_2147483648, jl_4721686497, jl_7873079139, J_add, J_sub, J_mul, J_neg, JL_add, JL_sub, JL_mul, JL_neg, J_long, JL_int, ↓remI_fold, ↓remL_fold, Int.reduceAdd, Int.reduceSub, Int.reduceMul, Int.reduceNeg, Int.reduceToNat, mg_0, mg_1, mg_2, mg_3, mg_4, mg_5, mg_6, mg_7, mg_8, mg_9, mg_10, mg_11, mg_12, mg_13, mg_14, mg_15, mg_16, mg_17, mg_18, mg_19, mg_20, mg_21, mg_22, mg_23, mg_24, mg_25, mg_26, mg_27, mg_28, mg_29, mg_30, mg_31, mg_32, mg_33, mg_34, mg_35, mg_36, mg_37, mg_38, mg_39, mg_40, mg_41, mg_42, mg_43, mg_44, mg_45, mr_1, mr_2, mr_3, mr_4, mr_5, mr_6, mr_7, mr_8, mr_9, mr_10, mr_11, mr_12, mr_13, mr_14, mr_15, mr_16, mr_17, mr_18, mr_19, mr_20, mr_21, mr_22, mr_23, mr_24, mr_25, Int.toNat_natCast, gm_P hG hr, J_le, Option.bind_some]
      rw [if_pos (by omega)]
  simp only [jn_0, jn_1, jn_2, jn_3, jn_4, jn_5, jn_6, jn_8, jn_9, jn_10, jn_11, jn_12, jn_16, jn_20, jn_24, jn_30, jn_31, jn_32, jn_36, jn_48, jn_57, jn_59, jn_60, jn_63, jn_72, jn_73, jn_96, jn_97, jn_100, jn_122, jn_144, jn_200, jn_240, jn_288, jn_512, jn_840, jn_1200, jn_1600, jn_5040, jn_5390, jn_5400, jn_9999, jn_18688, jn_32400, jn_99999, jn_100000, jn_1000000, jn_858993459, jn_1431655765, jn_252645135, jl_0, jl_1, jl_2, jl_3, jl_8, jl_9, jl_10, jl_20, jl_27, jl_47, jl_96, jl_99, jl_100, jl_200, jl_555, jl_2000, jl_10000, jl_12345, jl_65536, jl_99999, jl_131638, jl_240023, jl_298288, jl_383153, jl_1306021, jl_1960084, jl_4147840, jl_8740238, jl_9872299, jl_175252482, jl_291595537, jl_1103515245, jl_2000000000, jl_2147483648, jl_4721686497, jl_7873079139, J_add, J_sub, J_mul, J_neg, JL_add, JL_sub, JL_mul, JL_neg, J_long, JL_int, ↓remI_fold, ↓remL_fold, Int.reduceAdd, Int.reduceSub, Int.reduceMul, Int.reduceNeg, Int.reduceToNat]
  rw [inner]
  have key := lp_find (fun n i => fX5_isSolo_2 N (emM o S w) o (J r) (some (J 0)) (some (Bp (sol2 C r = true))) n (J (i : Int))) (fun _ => some (J 0)) (some (Bp (sol2 C r = true))) (cP C r) (fun i => decide (cT C r i ≠ r)) ?_ ?_ N (by omega)
  · refine Eq.trans key ?_
    unfold solo sol1
    cases fi (fun i => decide (cT C r i ≠ r)) (cP C r) with
    | none => simp
    | some i => simp [Bp]
  · intro n i hi
    try dsimp only
    have h5 := cT_le C r i
    rw [fX5_isSolo_2]
    simp (disch := omega) only [jn_0, jn_1, jn_2, jn_3, jn_4, jn_5, jn_6, jn_8, jn_9, jn_10, jn_11, jn_12, jn_16, jn_20, jn_24, jn_30, jn_31, jn_32, jn_36, jn_48, jn_57, jn_59, jn_60, jn_63, jn_72, jn_73, jn_96, jn_97, jn_100, jn_122, jn_144, jn_200, jn_240, jn_288, jn_512, jn_840, jn_1200, jn_1600, jn_5040, jn_5390, jn_5400, jn_9999, jn_18688, jn_32400, jn_99999, jn_100000, jn_1000000, jn_858993459, jn_1431655765, jn_252645135, jl_0, jl_1, jl_2, jl_3, jl_8, jl_9, jl_10, jl_20, jl_27, jl_47, jl_96, jl_99, jl_100, jl_200, jl_555, jl_2000, jl_10000, jl_12345, jl_65536, jl_99999, jl_131638, jl_240023, jl_298288, jl_383153, jl_1306021, jl_1960084, jl_4147840, jl_8740238, jl_9872299, jl_175252482, jl_291595537, jl_1103515245, jl_2000000000, jl_2147483648, jl_4721686497, jl_7873079139, J_add, J_sub, J_mul, J_neg, JL_add, JL_sub, JL_mul, JL_neg, J_long, JL_int, ↓remI_fold, ↓remL_fold, Int.reduceAdd, Int.reduceSub, Int.reduceMul, Int.reduceNeg, Int.reduceToNat, mg_0, mg_1, mg_2, mg_3, mg_4, mg_5, mg_6, mg_7, mg_8, mg_9, mg_10, mg_11, mg_12, mg_13, mg_14, mg_15, mg_16, mg_17, mg_18, mg_19, mg_20, mg_21, mg_22, mg_23, mg_24, mg_25, mg_26, mg_27, mg_28, mg_29, mg_30, mg_31, mg_32, mg_33, mg_34, mg_35, mg_36, mg_37, mg_38, mg_39, mg_40, mg_41, mg_42, mg_43, mg_44, mg_45, mr_1, mr_2, mr_3, mr_4, mr_5, mr_6, mr_7, mr_8, mr_9, mr_10, mr_11, mr_12, mr_13, mr_14, mr_15, mr_16, mr_17, mr_18, mr_19, mr_20, mr_21, mr_22, mr_23, mr_24, mr_25, Int.toNat_natCast, gm_P hG hr, J_le, castS, Option.bind_some]
    rw [if_neg (by omega), show (8 * (r : Int) + i).toNat = 8 * r + i by omega, gm_T hG hr hi]
    simp (disch := omega) only [J_eq, castE, decide_eq_true_iff]
    by_cases h1 : cT C r i = r
    · rw [if_pos h1, if_neg (fun h => h h1)]
    · rw [if_neg h1, if_pos h1]
  · intro n
    try dsimp only
    rw [fX5_isSolo_2]
    simp (disch := omega) only [jn_0, jn_1, jn_2, jn_3, jn_4, jn_5, jn_6, jn_8, jn_9, jn_10, jn_11, jn_12, jn_16, jn_20, jn_24, jn_30, jn_31, jn_32, jn_36, jn_48, jn_57, jn_59, jn_60, jn_63, jn_72, jn_73, jn_96, jn_97, jn_100, jn_122, jn_144, jn_200, jn_240, jn_288, jn_512, jn_840, jn_1200, jn_1600, jn_5040, jn_5390, jn_5400, jn_9999, jn_18688, jn_32400, jn_99999, jn_100000, jn_1000000, jn_858993459, jn_1431655765, jn_252645135, jl_0, jl_1, jl_2, jl_3, jl_8, jl_9, jl_10, jl_20, jl_27, jl_47, jl_96, jl_99, jl_100, jl_200, jl_555, jl_2000, jl_10000, jl_12345, jl_65536, jl_99999, jl_131638, jl_240023, jl_298288, jl_383153, jl_1306021, jl_1960084, jl_4147840, jl_8740238, jl_9872299, jl_175252482, jl_291595537, jl_1103515245, jl_2000000000, jl_2147483648, jl_4721686497, jl_7873079139, J_add, J_sub, J_mul, J_neg, JL_add, JL_sub, JL_mul, JL_neg, J_long, JL_int, ↓remI_fold, ↓remL_fold, Int.reduceAdd, Int.reduceSub, Int.reduceMul, Int.reduceNeg, Int.reduceToNat, mg_0, mg_1, mg_2, mg_3, mg_4, mg_5, mg_6, mg_7, mg_8, mg_9, mg_10, mg_11, mg_12, mg_13, mg_14, mg_15, mg_16, mg_17, mg_18, mg_19, mg_20, mg_21, mg_22, mg_23, mg_24, mg_25, mg_26, mg_27, mg_28, mg_29, mg_30, mg_31, mg_32, mg_33, mg_34, mg_35, mg_36, mg_37, mg_38, mg_39, mg_40, mg_41, mg_42, mg_43, mg_44, mg_45, mr_1, mr_2, mr_3, mr_4, mr_5, mr_6, mr_7, mr_8, mr_9, mr_10, mr_11, mr_12, mr_13, mr_14, mr_15, mr_16, mr_17, mr_18, mr_19, mr_20, mr_21, mr_22, mr_23, mr_24, mr_25, Int.toNat_natCast, gm_P hG hr, J_le, castS, Option.bind_some]
    rw [if_pos (by omega)]
theorem M_stateOf (hG : GdM S 0 C) (hN : 1000000 ≤ N) {r : Nat} (hr : r < cR C) {z : Int} (hz : 0 ≤ z ∧ z ≤ 900000) : fX5_stateOf N (emM o S w) o (J r) (J z) = some (J (st C r z)) := by
  unfold fX5_stateOf
  simp only [jn_0, jn_1, jn_2, jn_3, jn_4, jn_5, jn_6, jn_8, jn_9, jn_10, jn_11, jn_12, jn_16, jn_20, jn_24, jn_30, jn_31, jn_32, jn_36, jn_48, jn_57, jn_59, jn_60, jn_63, jn_72, jn_73, jn_96, jn_97, jn_100, jn_122, jn_144, jn_200, jn_240, jn_288, jn_512, jn_840, jn_1200, jn_1600, jn_5040, jn_5390, jn_5400, jn_9999, jn_18688, jn_32400, jn_99999, jn_100000, jn_1000000, jn_858993459, jn_1431655765, jn_252645135, jl_0, jl_1, jl_2, jl_3, jl_8, jl_9, jl_10, jl_20, jl_27, jl_47, jl_96, jl_99, jl_100, jl_200, jl_555, jl_2000, jl_10000, jl_12345, jl_65536, jl_99999, jl_131638, jl_240023, jl_298288, jl_383153, jl_1306021, jl_1960084, jl_4147840, jl_8740238, jl_9872299, jl_175252482, jl_291595537, jl_1103515245, jl_2000000000, jl_2147483648, jl_4721686497, jl_7873079139, J_add, J_sub, J_mul, J_neg, JL_add, JL_sub, JL_mul, JL_neg, J_long, JL_int, ↓remI_fold, ↓remL_fold, Int.reduceAdd, Int.reduceSub, Int.reduceMul, Int.reduceNeg, Int.reduceToNat, Option.bind_some]
  have key := lp_fold' (fun n i (s : Nat) => fX5_stateOf_8 N (emM o S w) o (J r) (J z) (fun y9 => some y9) n (J s) (J (z - 9 + (i : Int)))) (fun s => some (J s)) (9) (fun i s => st1 C r z (z - 9 + i) s) ?_ ?_ N 0 (by omega)
  · rw [show z - 9 + ((0 : Nat) : Int) = z - 9 by omega] at key
    exact key
  · intro n i s hi
    try dsimp only
    have h9 := hh_le C r (z - 9 + i)
    rw [fX5_stateOf_8]
    simp (disch := omega) only [jn_0, jn_1, jn_2, jn_3, jn_4, jn_5, jn_6, jn_8, jn_9, jn_10, jn_11, jn_12, jn_16, jn_20, jn_24, jn_30, jn_31, jn_32, jn_36, jn_48, jn_57, jn_59, jn_60, jn_63, jn_72, jn_73, jn_96, jn_97, jn_100, jn_122, jn_144, jn_200, jn_240, jn_288, jn_512, jn_840, jn_1200, jn_1600, jn_5040, jn_5390, jn_5400, jn_9999, jn_18688, jn_32400, jn_99999, jn_100000, jn_1000000, jn_858993459, jn_1431655765, jn_252645135, jl_0, jl_1, jl_2, jl_3, jl_8, jl_9, jl_10, jl_20, jl_27, jl_47, jl_96, jl_99, jl_100, jl_200, jl_555, jl_2000, jl_10000, jl_12345, jl_65536, jl_99999, jl_131638, jl_240023, jl_298288, jl_383153, jl_1306021, jl_1960084, jl_4147840, jl_8740238, jl_9872299, jl_175252482, jl_291595537, jl_1103515245, jl_2000000000, jl_2147483648, jl_4721686497, jl_7873079139, J_add, J_sub, J_mul, J_neg, JL_add, JL_sub, JL_mul, JL_neg, J_long, JL_int, ↓remI_fold, ↓remL_fold, Int.reduceAdd, Int.reduceSub, Int.reduceMul, Int.reduceNeg, Int.reduceToNat, J_le, J_lt, Option.bind_some, M_highOf hG hr]
    rw [if_neg (by omega), show z - 9 + (i : Int) + 1 = z - 9 + ((i + 1 : Nat) : Int) by omega]
    unfold st1
    by_cases h1 : 0 < hh C r (z - 9 + i)
    · rw [if_neg (by omega)]
      by_cases h2 : z ≤ z - 9 + i + hh C r (z - 9 + i)
      · rw [if_neg (by omega), if_pos ⟨h1, h2⟩, J_shlz (by omega), J_or]
      · rw [if_pos (by omega), if_neg (fun h => h2 h.2)]
    · rw [if_pos (by omega), if_neg (fun h => h1 h.1)]
  · intro n s
    try dsimp only
    rw [fX5_stateOf_8]
    simp (disch := omega) only [jn_0, jn_1, jn_2, jn_3, jn_4, jn_5, jn_6, jn_8, jn_9, jn_10, jn_11, jn_12, jn_16, jn_20, jn_24, jn_30, jn_31, jn_32, jn_36, jn_48, jn_57, jn_59, jn_60, jn_63, jn_72, jn_73, jn_96, jn_97, jn_100, jn_122, jn_144, jn_200, jn_240, jn_288, jn_512, jn_840, jn_1200, jn_1600, jn_5040, jn_5390, jn_5400, jn_9999, jn_18688, jn_32400, jn_99999, jn_100000, jn_1000000, jn_858993459, jn_1431655765, jn_252645135, jl_0, jl_1, jl_2, jl_3, jl_8, jl_9, jl_10, jl_20, jl_27, jl_47, jl_96, jl_99, jl_100, jl_200, jl_555, jl_2000, jl_10000, jl_12345, jl_65536, jl_99999, jl_131638, jl_240023, jl_298288, jl_383153, jl_1306021, jl_1960084, jl_4147840, jl_8740238, jl_9872299, jl_175252482, jl_291595537, jl_1103515245, jl_2000000000, jl_2147483648, jl_4721686497, jl_7873079139, J_add, J_sub, J_mul, J_neg, JL_add, JL_sub, JL_mul, JL_neg, J_long, JL_int, ↓remI_fold, ↓remL_fold, Int.reduceAdd, Int.reduceSub, Int.reduceMul, Int.reduceNeg, Int.reduceToNat, J_le, J_lt, Option.bind_some]
    rw [if_pos (by omega)]
theorem FrM_R (S : MS) (a : Nat) (f : Nat → Int32) (h : 17 ≤ a) : FrM S (mSR S a f) := by
  refine ⟨fun b h1 h2 => ?_, rfl, rfl, rfl, rfl⟩
  rw [ma_R, if_neg (by omega)]
theorem M_lay2 {g : Nat} (hg : g < 512) (k : Wd → Option Wd) {n : Nat} (hn : 512 < n) (A : Nat → Int) : fX5_laysChange_2 N o (J g) k n (J 0) (emM o (mSR S 23 (fun s => J (A s))) w) = k (emM o (mSR S 23 (fun s => J (if s < 512 then (if s = g then 0 else 1000000) else A s))) w) := by
  have key := lp_cnt (fun n i => fX5_laysChange_2 N o (J g) k n (J (i : Int)) (emM o (mSR S 23 (fun s => J (if s < i then (if s = g then 0 else 1000000) else A s))) w)) (k (emM o (mSR S 23 (fun s => J (if s < 512 then (if s = g then 0 else 1000000) else A s))) w)) (512) ?_ ?_ n (by omega)
  · exact key
  · intro n i hi
    try dsimp only
    rw [fX5_laysChange_2]
    simp (disch := omega) only [jn_0, jn_1, jn_2, jn_3, jn_4, jn_5, jn_6, jn_8, jn_9, jn_10, jn_11, jn_12, jn_16, jn_20, jn_24, jn_30, jn_31, jn_32, jn_36, jn_48, jn_57, jn_59, jn_60, jn_63, jn_72, jn_73, jn_96, jn_97, jn_100, jn_122, jn_144, jn_200, jn_240, jn_288, jn_512, jn_840, jn_1200, jn_1600, jn_5040, jn_5390, jn_5400, jn_9999, jn_18688, jn_32400, jn_99999, jn_100000, jn_1000000, jn_858993459, jn_1431655765, jn_252645135, jl_0, jl_1, jl_2, jl_3, jl_8, jl_9, jl_10, jl_20, jl_27, jl_47, jl_96, jl_99, jl_100, jl_200, jl_555, jl_2000, jl_10000, jl_12345, jl_65536, jl_99999, jl_131638, jl_240023, jl_298288, jl_383153, jl_1306021, jl_1960084, jl_4147840, jl_8740238, jl_9872299, jl_175252482, jl_291595537, jl_1103515245, jl_2000000000, jl_2147483648, jl_4721686497, jl_7873079139, J_add, J_sub, J_mul, J_neg, JL_add, JL_sub, JL_mul, JL_neg, J_long, JL_int, ↓remI_fold, ↓remL_fold, Int.reduceAdd, Int.reduceSub, Int.reduceMul, Int.reduceNeg, Int.reduceToNat, J_le, J_eq, castE, castS, mg_0, mg_1, mg_2, mg_3, mg_4, mg_5, mg_6, mg_7, mg_8, mg_9, mg_10, mg_11, mg_12, mg_13, mg_14, mg_15, mg_16, mg_17, mg_18, mg_19, mg_20, mg_21, mg_22, mg_23, mg_24, mg_25, mg_26, mg_27, mg_28, mg_29, mg_30, mg_31, mg_32, mg_33, mg_34, mg_35, mg_36, mg_37, mg_38, mg_39, mg_40, mg_41, mg_42, mg_43, mg_44, mg_45, mw_1, mw_2, mw_3, mw_4, mw_5, mw_6, mw_7, mw_8, mw_9, mw_10, mw_11, mw_12, mw_13, mw_14, mw_15, mw_16, mw_17, mw_18, mw_19, mw_20, mw_21, mw_22, mw_23, mw_24, mw_25, Int.toNat_natCast, mSA_R, Option.bind_some]
    rw [if_neg (by omega)]
    have e : ∀ v : Int, (if i = g then (0 : Int) else 1000000) = v → upd (fun s => J (if s < i then (if s = g then 0 else 1000000) else A s)) i (J v) = fun s => J (if s < i + 1 then (if s = g then 0 else 1000000) else A s) := by
      intro v hv
      rw [upd_J]
      funext s
      congr 1
      by_cases h1 : s = i
      · subst h1; rw [if_pos rfl, if_pos (by omega), hv]
      · rw [if_neg h1]
        by_cases h2 : s < i
        · rw [if_pos h2, if_pos (show s < i + 1 by omega)]
        · rw [if_neg h2, if_neg (show ¬ s < i + 1 by omega)]
    by_cases h : i = g
    · rw [if_pos h, e 0 (if_pos h)]
    · rw [if_neg h, e 1000000 (if_neg h)]
  · intro n
    try dsimp only
    rw [fX5_laysChange_2]
    simp (disch := omega) only [jn_0, jn_1, jn_2, jn_3, jn_4, jn_5, jn_6, jn_8, jn_9, jn_10, jn_11, jn_12, jn_16, jn_20, jn_24, jn_30, jn_31, jn_32, jn_36, jn_48, jn_57, jn_59, jn_60, jn_63, jn_72, jn_73, jn_96, jn_97, jn_100, jn_122, jn_144, jn_200, jn_240, jn_288, jn_512, jn_840, jn_1200, jn_1600, jn_5040, jn_5390, jn_5400, jn_9999, jn_18688, jn_32400, jn_99999, jn_100000, jn_1000000, jn_858993459, jn_1431655765, jn_252645135, jl_0, jl_1, jl_2, jl_3, jl_8, jl_9, jl_10, jl_20, jl_27, jl_47, jl_96, jl_99, jl_100, jl_200, jl_555, jl_2000, jl_10000, jl_12345, jl_65536, jl_99999, jl_131638, jl_240023, jl_298288, jl_383153, jl_1306021, jl_1960084, jl_4147840, jl_8740238, jl_9872299, jl_175252482, jl_291595537, jl_1103515245, jl_2000000000, jl_2147483648, jl_4721686497, jl_7873079139, J_add, J_sub, J_mul, J_neg, JL_add, JL_sub, JL_mul, JL_neg, J_long, JL_int, ↓remI_fold, ↓remL_fold, Int.reduceAdd, Int.reduceSub, Int.reduceMul, Int.reduceNeg, Int.reduceToNat, J_le, J_eq, castE, castS, mg_0, mg_1, mg_2, mg_3, mg_4, mg_5, mg_6, mg_7, mg_8, mg_9, mg_10, mg_11, mg_12, mg_13, mg_14, mg_15, mg_16, mg_17, mg_18, mg_19, mg_20, mg_21, mg_22, mg_23, mg_24, mg_25, mg_26, mg_27, mg_28, mg_29, mg_30, mg_31, mg_32, mg_33, mg_34, mg_35, mg_36, mg_37, mg_38, mg_39, mg_40, mg_41, mg_42, mg_43, mg_44, mg_45, mw_1, mw_2, mw_3, mw_4, mw_5, mw_6, mw_7, mw_8, mw_9, mw_10, mw_11, mw_12, mw_13, mw_14, mw_15, mw_16, mw_17, mw_18, mw_19, mw_20, mw_21, mw_22, mw_23, mw_24, mw_25, Int.toNat_natCast, mSA_R, Option.bind_some]
    rw [if_pos (by omega)]
/-- one throw that brings a state nearer -/
def rlx (s h : Nat) (p : Int × (Nat → Int)) : Int × (Nat → Int) := if okS s h = true ∧ p.2 (nxS s h) + 1 < p.2 s then (1, fun q => if q = s then p.2 (nxS s h) + 1 else p.2 q) else p
def rlxS (s : Nat) (p : Int × (Nat → Int)) : Int × (Nat → Int) := fo (fun h p => rlx s h p) 10 p
def rlxA (p : Int × (Nat → Int)) : Int × (Nat → Int) := fo (fun s p => rlxS s p) 512 p
def Bdd (A : Nat → Int) : Prop := ∀ s, s < 512 → 0 ≤ A s ∧ A s ≤ 1000000
theorem rlx_bd {s h : Nat} (hs : s < 512) (hh9 : h < 10) {p : Int × (Nat → Int)} (hb : Bdd p.2) : Bdd (rlx s h p).2 := by
  unfold rlx
  split
  · intro q hq
    have h1 := hb q hq
    have h2 := hb s hs
    have h3 := hb (nxS s h) (nxS_lt ⟨s, hs⟩ ⟨h, hh9⟩)
    simp only
    split <;> omega
  · exact hb
theorem rlxS_bd {s : Nat} (hs : s < 512) {p : Int × (Nat → Int)} (hb : Bdd p.2) : Bdd (rlxS s p).2 :=
  fo_inv (fun h p => rlx s h p) (fun _ p => Bdd p.2) 10 p hb (fun _ _ hi hp => rlx_bd hs hi hp)
theorem rlxA_bd {p : Int × (Nat → Int)} (hb : Bdd p.2) : Bdd (rlxA p).2 :=
  fo_inv (fun s p => rlxS s p) (fun _ p => Bdd p.2) 512 p hb (fun _ _ hi hp => rlxS_bd hi hp)
theorem M_lay52 {x : Nat} (hx : x < 512) (k : Int32 → Wd → Option Wd) {n : Nat} (hn : 10 < n) (p : Int × (Nat → Int)) (hb : Bdd p.2) : fX5_laysChange_52 N o (J x) k n (J p.1) (J 0) (emM o (mSR S 23 (fun q => J (p.2 q))) w) = k (J (rlxS x p).1) (emM o (mSR S 23 (fun q => J ((rlxS x p).2 q))) w) := by
  have key := lp_fold (fun n i (p : Int × (Nat → Int)) => fX5_laysChange_52 N o (J x) k n (J p.1) (J (i : Int)) (emM o (mSR S 23 (fun q => J (p.2 q))) w)) (fun p => k (J p.1) (emM o (mSR S 23 (fun q => J (p.2 q))) w)) (10) (fun h p => rlx x h p) (fun _ p => Bdd p.2) ?_ ?_ n p (by omega) hb
  · exact key.1
  · intro n i s hi hI
    try dsimp only
    refine ⟨?_, ?_⟩
    rotate_left
    exact rlx_bd hx hi hI
    rw [fX5_laysChange_52]
    simp (disch := omega) only [jn_0, jn_1, jn_2, jn_3, jn_4, jn_5, jn_6, jn_8, jn_9, jn_10, jn_11, jn_12, jn_16, jn_20, jn_24, jn_30, jn_31, jn_32, jn_36, jn_48, jn_57, jn_59, jn_60, jn_63, jn_72, jn_73, jn_96, jn_97, jn_100, jn_122, jn_144, jn_200, jn_240, jn_288, jn_512, jn_840, jn_1200, jn_1600, jn_5040, jn_5390, jn_5400, jn_9999, jn_18688, jn_32400, jn_99999, jn_100000, jn_1000000, jn_858993459, jn_1431655765, jn_252645135, jl_0, jl_1, jl_2, jl_3, jl_8, jl_9, jl_10, jl_20, jl_27, jl_47, jl_96, jl_99, jl_100, jl_200, jl_555, jl_2000, jl_10000, jl_12345, jl_65536, jl_99999, jl_131638, jl_240023, jl_298288, jl_383153, jl_1306021, jl_1960084, jl_4147840, jl_8740238, jl_9872299, jl_175252482, jl_291595537, jl_1103515245, jl_2000000000, jl_2147483648, jl_4721686497, jl_7873079139, J_add, J_sub, J_mul, J_neg, JL_add, JL_sub, JL_mul, JL_neg, J_long, JL_int, ↓remI_fold, ↓remL_fold, Int.reduceAdd, Int.reduceSub, Int.reduceMul, Int.reduceNeg, Int.reduceToNat, J_lt, castS, Option.bind_some]
    rw [if_neg (by omega), M_behind hx hi, Option.bind_some]
    have h2 := hI x hx
    have hl : nxS x i < 512 := nxS_lt ⟨x, hx⟩ ⟨i, hi⟩
    have h3 := hI (nxS x i) hl
    unfold rlx
    by_cases h4 : okS x i = true
    · rw [if_pos h4, if_neg (by rw [J_eq (by omega)]; omega)]
      simp (disch := omega) only [jn_0, jn_1, jn_2, jn_3, jn_4, jn_5, jn_6, jn_8, jn_9, jn_10, jn_11, jn_12, jn_16, jn_20, jn_24, jn_30, jn_31, jn_32, jn_36, jn_48, jn_57, jn_59, jn_60, jn_63, jn_72, jn_73, jn_96, jn_97, jn_100, jn_122, jn_144, jn_200, jn_240, jn_288, jn_512, jn_840, jn_1200, jn_1600, jn_5040, jn_5390, jn_5400, jn_9999, jn_18688, jn_32400, jn_99999, jn_100000, jn_1000000, jn_858993459, jn_1431655765, jn_252645135, jl_0, jl_1, jl_2, jl_3, jl_8, jl_9, jl_10, jl_20, jl_27, jl_47, jl_96, jl_99, jl_100, jl_200, jl_555, jl_2000, jl_10000, jl_12345, jl_65536, jl_99999, jl_131638, jl_240023, jl_298288, jl_383153, jl_1306021, jl_1960084, jl_4147840, jl_8740238, jl_9872299, jl_175252482, jl_291595537, jl_1103515245, jl_2000000000, jl_2147483648, jl_4721686497, jl_7873079139, J_add, J_sub, J_mul, J_neg, JL_add, JL_sub, JL_mul, JL_neg, J_long, JL_int, ↓remI_fold, ↓remL_fold, Int.reduceAdd, Int.reduceSub, Int.reduceMul, Int.reduceNeg, Int.reduceToNat, mg_0, mg_1, mg_2, mg_3, mg_4, mg_5, mg_6, mg_7, mg_8, mg_9, mg_10, mg_11, mg_12, mg_13, mg_14, mg_15, mg_16, mg_17, mg_18, mg_19, mg_20, mg_21, mg_22, mg_23, mg_24, mg_25, mg_26, mg_27, mg_28, mg_29, mg_30, mg_31, mg_32, mg_33, mg_34, mg_35, mg_36, mg_37, mg_38, mg_39, mg_40, mg_41, mg_42, mg_43, mg_44, mg_45, mr_1, mr_2, mr_3, mr_4, mr_5, mr_6, mr_7, mr_8, mr_9, mr_10, mr_11, mr_12, mr_13, mr_14, mr_15, mr_16, mr_17, mr_18, mr_19, mr_20, mr_21, mr_22, mr_23, mr_24, mr_25, mw_1, mw_2, mw_3, mw_4, mw_5, mw_6, mw_7, mw_8, mw_9, mw_10, mw_11, mw_12, mw_13, mw_14, mw_15, mw_16, mw_17, mw_18, mw_19, mw_20, mw_21, mw_22, mw_23, mw_24, mw_25, mi_R, ml_R, ma_R, mb_R, mi_Q, ml_Q, ma_Q, mb_Q, mi_I, mi_L, mi_A, mi_B, ml_I, ml_L, ml_A, ml_B, ma_I, ma_L, ma_A, ma_B, mb_I, mb_L, mb_A, mb_B, Nat.reduceEqDiff, eq_self, if_true, if_false, reduceIte, Int.toNat_natCast, mSA_R, upd_J, J_lt, Option.bind_some]
      by_cases h5 : s.2 (nxS x i) + 1 < s.2 x
      · rw [if_pos h5, if_pos ⟨h4, h5⟩]
      · rw [if_neg h5, if_neg (fun h => h5 h.2)]
    · rw [if_neg h4, if_pos rfl, if_neg (fun h => h4 h.1)]
  · intro n s hI
    try dsimp only
    rw [fX5_laysChange_52]
    simp (disch := omega) only [jn_0, jn_1, jn_2, jn_3, jn_4, jn_5, jn_6, jn_8, jn_9, jn_10, jn_11, jn_12, jn_16, jn_20, jn_24, jn_30, jn_31, jn_32, jn_36, jn_48, jn_57, jn_59, jn_60, jn_63, jn_72, jn_73, jn_96, jn_97, jn_100, jn_122, jn_144, jn_200, jn_240, jn_288, jn_512, jn_840, jn_1200, jn_1600, jn_5040, jn_5390, jn_5400, jn_9999, jn_18688, jn_32400, jn_99999, jn_100000, jn_1000000, jn_858993459, jn_1431655765, jn_252645135, jl_0, jl_1, jl_2, jl_3, jl_8, jl_9, jl_10, jl_20, jl_27, jl_47, jl_96, jl_99, jl_100, jl_200, jl_555, jl_2000, jl_10000, jl_12345, jl_65536, jl_99999, jl_131638, jl_240023, jl_298288, jl_383153, jl_1306021, jl_1960084, jl_4147840, jl_8740238, jl_9872299, jl_175252482, jl_291595537, jl_1103515245, jl_2000000000, jl_2147483648, jl_4721686497, jl_7873079139, J_add, J_sub, J_mul, J_neg, JL_add, JL_sub, JL_mul, JL_neg, J_long, JL_int, ↓remI_fold, ↓remL_fold, Int.reduceAdd, Int.reduceSub, Int.reduceMul, Int.reduceNeg, Int.reduceToNat, J_lt, castS, Option.bind_some]
    rw [if_pos (by omega)]
theorem M_lay42 (k : Int32 → Wd → Option Wd) {n : Nat} (hn : 512 < n) (hN : 1000000 ≤ N) (p : Int × (Nat → Int)) (hb : Bdd p.2) : fX5_laysChange_42 N o k n (J p.1) (J 0) (emM o (mSR S 23 (fun q => J (p.2 q))) w) = k (J (rlxA p).1) (emM o (mSR S 23 (fun q => J ((rlxA p).2 q))) w) := by
  have key := lp_fold (fun n i (p : Int × (Nat → Int)) => fX5_laysChange_42 N o k n (J p.1) (J (i : Int)) (emM o (mSR S 23 (fun q => J (p.2 q))) w)) (fun p => k (J p.1) (emM o (mSR S 23 (fun q => J (p.2 q))) w)) (512) (fun x p => rlxS x p) (fun _ p => Bdd p.2) ?_ ?_ n p (by omega) hb
  · exact key.1
  · intro n i s hi hI
    try dsimp only
    refine ⟨?_, ?_⟩
    rotate_left
    exact rlxS_bd hi hI
    rw [fX5_laysChange_42]
    simp (disch := omega) only [jn_0, jn_1, jn_2, jn_3, jn_4, jn_5, jn_6, jn_8, jn_9, jn_10, jn_11, jn_12, jn_16, jn_20, jn_24, jn_30, jn_31, jn_32, jn_36, jn_48, jn_57, jn_59, jn_60, jn_63, jn_72, jn_73, jn_96, jn_97, jn_100, jn_122, jn_144, jn_200, jn_240, jn_288, jn_512, jn_840, jn_1200, jn_1600, jn_5040, jn_5390, jn_5400, jn_9999, jn_18688, jn_32400, jn_99999, jn_100000, jn_1000000, jn_858993459, jn_1431655765, jn_252645135, jl_0, jl_1, jl_2, jl_3, jl_8, jl_9, jl_10, jl_20, jl_27, jl_47, jl_96, jl_99, jl_100, jl_200, jl_555, jl_2000, jl_10000, jl_12345, jl_65536, jl_99999, jl_131638, jl_240023, jl_298288, jl_383153, jl_1306021, jl_1960084, jl_4147840, jl_8740238, jl_9872299, jl_175252482, jl_291595537, jl_1103515245, jl_2000000000, jl_2147483648, jl_4721686497, jl_7873079139, J_add, J_sub, J_mul, J_neg, JL_add, JL_sub, JL_mul, JL_neg, J_long, JL_int, ↓remI_fold, ↓remL_fold, Int.reduceAdd, Int.reduceSub, Int.reduceMul, Int.reduceNeg, Int.reduceToNat, J_le, castS, Option.bind_some]
    rw [if_neg (by omega), M_lay52 hi _ (by omega) _ hI]
  · intro n s hI
    try dsimp only
    rw [fX5_laysChange_42]
    simp (disch := omega) only [jn_0, jn_1, jn_2, jn_3, jn_4, jn_5, jn_6, jn_8, jn_9, jn_10, jn_11, jn_12, jn_16, jn_20, jn_24, jn_30, jn_31, jn_32, jn_36, jn_48, jn_57, jn_59, jn_60, jn_63, jn_72, jn_73, jn_96, jn_97, jn_100, jn_122, jn_144, jn_200, jn_240, jn_288, jn_512, jn_840, jn_1200, jn_1600, jn_5040, jn_5390, jn_5400, jn_9999, jn_18688, jn_32400, jn_99999, jn_100000, jn_1000000, jn_858993459, jn_1431655765, jn_252645135, jl_0, jl_1, jl_2, jl_3, jl_8, jl_9, jl_10, jl_20, jl_27, jl_47, jl_96, jl_99, jl_100, jl_200, jl_555, jl_2000, jl_10000, jl_12345, jl_65536, jl_99999, jl_131638, jl_240023, jl_298288, jl_383153, jl_1306021, jl_1960084, jl_4147840, jl_8740238, jl_9872299, jl_175252482, jl_291595537, jl_1103515245, jl_2000000000, jl_2147483648, jl_4721686497, jl_7873079139, J_add, J_sub, J_mul, J_neg, JL_add, JL_sub, JL_mul, JL_neg, J_long, JL_int, ↓remI_fold, ↓remL_fold, Int.reduceAdd, Int.reduceSub, Int.reduceMul, Int.reduceNeg, Int.reduceToNat, J_le, castS, Option.bind_some]
    rw [if_pos (by omega)]
/-! what laying out does, whatever the order -/
/-- finite values are real ways -/
def Real1 (g : Nat) (A : Nat → Int) : Prop := A g = 0 ∧ ∀ s, s < 512 → A s = 1000000 ∨ (0 ≤ A s ∧ A s < 1000000 ∧ rch g (A s).toNat s = true)
theorem rch_go {g s h d : Nat} (hh9 : h < 10) (h1 : okS s h = true) (h2 : rch g d (nxS s h) = true) : rch g (d + 1) s = true := by
  simp only [rch, Bool.or_eq_true]
  right
  rw [Option.isSome_iff_ne_none]
  intro hn
  have := (fi_none _ _).1 hn h hh9
  rw [Bool.and_eq_true] at this
  exact this ⟨h1, h2⟩
theorem rlx_real {g s h : Nat} (hs : s < 512) (hh9 : h < 10) {p : Int × (Nat → Int)} (hp : Real1 g p.2) : Real1 g (rlx s h p).2 := by
  unfold rlx
  split
  · rename_i hc
    have hl : nxS s h < 512 := nxS_lt ⟨s, hs⟩ ⟨h, hh9⟩
    have h3 := hp.2 (nxS s h) hl
    have h4 := hp.2 s hs
    refine ⟨?_, fun q hq => ?_⟩
    · simp only
      by_cases hg : g = s
      · subst hg
        exfalso
        have := hp.1
        omega
      · rw [if_neg hg]; exact hp.1
    · simp only
      by_cases hqs : q = s
      · rw [if_pos hqs]
        right
        rcases h3 with h3 | ⟨a, b, c⟩
        · omega
        · refine ⟨by omega, by omega, ?_⟩
          rw [hqs, show (p.2 (nxS s h) + 1).toNat = (p.2 (nxS s h)).toNat + 1 by omega]
          exact rch_go hh9 hc.1 c
      · rw [if_neg hqs]; exact hp.2 q hq
  · exact hp
theorem rlxA_real {g : Nat} {p : Int × (Nat → Int)} (hp : Real1 g p.2) : Real1 g (rlxA p).2 :=
  fo_inv (fun s p => rlxS s p) (fun _ p => Real1 g p.2) 512 p hp (fun s p hi hp => fo_inv (fun h p => rlx s h p) (fun _ p => Real1 g p.2) 10 p hp (fun _ _ hh9 hp => rlx_real hi hh9 hp))
/-- if nothing came nearer, nothing changed and nothing can come nearer -/
theorem rlxA_zero {p : Int × (Nat → Int)} (h0 : (rlxA p).1 = 0) : (rlxA p).2 = p.2 ∧ ∀ s h, s < 512 → h < 10 → okS s h = true → p.2 s ≤ p.2 (nxS s h) + 1 := by
  have inner : ∀ (s m : Nat) (p : Int × (Nat → Int)), (fo (fun h p => rlx s h p) m p).1 = 0 → fo (fun h p => rlx s h p) m p = p ∧ ∀ h, h < m → okS s h = true → p.2 s ≤ p.2 (nxS s h) + 1 := by
    intro s m p
    induction m with
    | zero => intro _; exact ⟨rfl, fun h hh => by omega⟩
    | succ m ih =>
      intro h1
      have e : fo (fun h p => rlx s h p) (m + 1) p = rlx s m (fo (fun h p => rlx s h p) m p) := rfl
      rw [e] at h1 ⊢
      generalize fo (fun h p => rlx s h p) m p = q at h1 ih ⊢
      by_cases hc : okS s m = true ∧ q.2 (nxS s m) + 1 < q.2 s
      · exfalso
        unfold rlx at h1
        rw [if_pos hc] at h1
        simp at h1
      · have er : rlx s m q = q := by unfold rlx; rw [if_neg hc]
        rw [er] at h1 ⊢
        have ⟨a, b⟩ := ih h1
        refine ⟨a, fun h hh hok => ?_⟩
        rcases Nat.lt_succ_iff_lt_or_eq.1 hh with h2 | h2
        · exact b h h2 hok
        · subst h2
          rw [a] at hc
          have : ¬ (p.2 (nxS s h) + 1 < p.2 s) := fun h3 => hc ⟨hok, h3⟩
          omega
  have outer : ∀ (m : Nat) (p : Int × (Nat → Int)), (fo (fun s p => rlxS s p) m p).1 = 0 → fo (fun s p => rlxS s p) m p = p ∧ ∀ s h, s < m → h < 10 → okS s h = true → p.2 s ≤ p.2 (nxS s h) + 1 := by
    intro m p
    induction m with
    | zero => intro _; exact ⟨rfl, fun s h hs => by omega⟩
    | succ m ih =>
      intro h1
      have h2 := inner m 10 (fo (fun s p => rlxS s p) m p) h1
      have h3 : (fo (fun s p => rlxS s p) m p).1 = 0 := by
        have : fo (fun s p => rlxS s p) (m + 1) p = fo (fun s p => rlxS s p) m p := h2.1
        rw [← this]; exact h1
      have ⟨a, b⟩ := ih h3
      refine ⟨h2.1.trans a, fun s h hs hh9 hok => ?_⟩
      rcases Nat.lt_succ_iff_lt_or_eq.1 hs with h4 | h4
      · exact b s h h4 hh9 hok
      · subst h4
        have := h2.2 h hh9 hok
        rw [a] at this
        exact this
  have ⟨a, b⟩ := outer 512 p h0
  exact ⟨congrArg Prod.snd a, b⟩
/-- each that came nearer takes away from what they are together -/
theorem sm_upd (A : Nat → Int) (i : Nat) (v : Int) (m : Nat) (hi : i < m) : sm (fun q => if q = i then v else A q) m = sm A m - A i + v := by
  induction m with
  | zero => omega
  | succ m ih =>
    simp only [sm]
    by_cases h : i = m
    · subst h
      rw [if_pos rfl]
      have : sm (fun q => if q = i then v else A q) i = sm A i := sm_congr (fun q hq => by rw [if_neg (by omega)])
      rw [this]; omega
    · rw [ih (by omega), if_neg (by omega)]; omega
theorem rlx_sum {s h : Nat} (hs : s < 512) {p : Int × (Nat → Int)} (hp : p.1 = 0 ∨ p.1 = 1) : sm (rlx s h p).2 512 ≤ sm p.2 512 ∧ ((rlx s h p).1 = 0 ∨ (rlx s h p).1 = 1) ∧ ((rlx s h p).1 = 1 → p.1 = 1 ∨ sm (rlx s h p).2 512 < sm p.2 512) := by
  unfold rlx
  split
  · rename_i hc
    have e : sm (fun q => if q = s then p.2 (nxS s h) + 1 else p.2 q) 512 = sm p.2 512 - p.2 s + (p.2 (nxS s h) + 1) := sm_upd _ _ _ _ hs
    simp only
    rw [e]
    exact ⟨by omega, Or.inr trivial, fun _ => Or.inr (by omega)⟩
  · exact ⟨Int.le_refl _, hp, fun h => Or.inl h⟩
theorem rlxA_sum {p : Int × (Nat → Int)} (hp : p.1 = 0) : ((rlxA p).1 = 0 ∨ (rlxA p).1 = 1) ∧ ((rlxA p).1 = 1 → sm (rlxA p).2 512 < sm p.2 512) := by
  have key := fo_inv (fun s p => rlxS s p) (fun _ q => (sm q.2 512 ≤ sm p.2 512) ∧ (q.1 = 0 ∨ q.1 = 1) ∧ (q.1 = 1 → sm q.2 512 < sm p.2 512)) 512 p ⟨Int.le_refl _, Or.inl hp, fun h => by omega⟩ (fun s q hs hq =>
    fo_inv (fun h q => rlx s h q) (fun _ q => (sm q.2 512 ≤ sm p.2 512) ∧ (q.1 = 0 ∨ q.1 = 1) ∧ (q.1 = 1 → sm q.2 512 < sm p.2 512)) 10 q hq (fun h q _ hq => by
      have ⟨a, b, c⟩ := rlx_sum (h := h) hs hq.2.1
      refine ⟨by omega, b, fun h1 => ?_⟩
      rcases c h1 with c | c
      · have := hq.2.2 c; omega
      · omega))
  exact key.2
theorem M_lay34 (hN : 1000000000 ≤ N) {g : Nat} (k : Wd → Option Wd) : ∀ (n : Nat) (A : Nat → Int), Bdd A → Real1 g A → (sm A 512).toNat + 1 < n → ∃ B, fX5_laysChange_34 N o k n (J 1) (emM o (mSR S 23 (fun q => J (A q))) w) = k (emM o (mSR S 23 (fun q => J (B q))) w) ∧ Dst g B := by
  intro n
  induction n with
  | zero => intro A _ _ h; omega
  | succ n ih =>
    intro A hb hr hn
    rw [fX5_laysChange_34]
    simp (disch := omega) only [jn_0, jn_1, jn_2, jn_3, jn_4, jn_5, jn_6, jn_8, jn_9, jn_10, jn_11, jn_12, jn_16, jn_20, jn_24, jn_30, jn_31, jn_32, jn_36, jn_48, jn_57, jn_59, jn_60, jn_63, jn_72, jn_73, jn_96, jn_97, jn_100, jn_122, jn_144, jn_200, jn_240, jn_288, jn_512, jn_840, jn_1200, jn_1600, jn_5040, jn_5390, jn_5400, jn_9999, jn_18688, jn_32400, jn_99999, jn_100000, jn_1000000, jn_858993459, jn_1431655765, jn_252645135, jl_0, jl_1, jl_2, jl_3, jl_8, jl_9, jl_10, jl_20, jl_27, jl_47, jl_96, jl_99, jl_100, jl_200, jl_555, jl_2000, jl_10000, jl_12345, jl_65536, jl_99999, jl_131638, jl_240023, jl_298288, jl_383153, jl_1306021, jl_1960084, jl_4147840, jl_8740238, jl_9872299, jl_175252482, jl_291595537, jl_1103515245, jl_2000000000, jl_2147483648, jl_4721686497, jl_7873079139, J_add, J_sub, J_mul, J_neg, JL_add, JL_sub, JL_mul, JL_neg, J_long, JL_int, ↓remI_fold, ↓remL_fold, Int.reduceAdd, Int.reduceSub, Int.reduceMul, Int.reduceNeg, Int.reduceToNat, J_eq]
    rw [if_neg (by omega)]
    have e := M_lay42 (N := N) (o := o) (S := S) (w := w) (fun y22 w23 => fX5_laysChange_34 N o k n y22 w23) (n := N) (by omega) (by omega) (0, A) hb
    have ⟨s1, s2⟩ := rlxA_sum (p := (0, A)) rfl
    rw [show J ((0, A) : Int × (Nat → Int)).1 = J 0 from rfl, show ((0, A) : Int × (Nat → Int)).2 = A from rfl] at e
    rw [e]
    rcases s1 with s1 | s1
    · have ⟨z1, z2⟩ := rlxA_zero s1
      rw [s1]
      cases n with
      | zero => omega
      | succ n =>
        refine ⟨A, ?_, hr.1, hr.2, z2⟩
        rw [fX5_laysChange_34, jn_0, if_pos rfl, z1]
    · rw [s1]
      have hlt := s2 s1
      have hnn : 0 ≤ sm (rlxA (0, A)).2 512 := sm_nn _ _ (fun i hi => (rlxA_bd (p := (0, A)) hb i hi).1)
      exact ih _ (rlxA_bd (p := (0, A)) hb) (rlxA_real (p := (0, A)) hr) (by simp only at hlt; omega)
theorem M_laysChange (hN : 1000000000 ≤ N) {g : Nat} (hg : g < 512) : ∃ B, fX5_laysChange N (emM o S w) o (J g) = some (emM o (mSR S 23 (fun q => J (B q))) w) ∧ Dst g B := by
  have e0 : S = mSR S 23 (fun s => J ((ma S 23 s).toInt)) := by
    rw [fun_J]; exact (mSR_id S 23).symm
  unfold fX5_laysChange
  simp only [jn_0, jn_1, jn_2, jn_3, jn_4, jn_5, jn_6, jn_8, jn_9, jn_10, jn_11, jn_12, jn_16, jn_20, jn_24, jn_30, jn_31, jn_32, jn_36, jn_48, jn_57, jn_59, jn_60, jn_63, jn_72, jn_73, jn_96, jn_97, jn_100, jn_122, jn_144, jn_200, jn_240, jn_288, jn_512, jn_840, jn_1200, jn_1600, jn_5040, jn_5390, jn_5400, jn_9999, jn_18688, jn_32400, jn_99999, jn_100000, jn_1000000, jn_858993459, jn_1431655765, jn_252645135, jl_0, jl_1, jl_2, jl_3, jl_8, jl_9, jl_10, jl_20, jl_27, jl_47, jl_96, jl_99, jl_100, jl_200, jl_555, jl_2000, jl_10000, jl_12345, jl_65536, jl_99999, jl_131638, jl_240023, jl_298288, jl_383153, jl_1306021, jl_1960084, jl_4147840, jl_8740238, jl_9872299, jl_175252482, jl_291595537, jl_1103515245, jl_2000000000, jl_2147483648, jl_4721686497, jl_7873079139, J_add, J_sub, J_mul, J_neg, JL_add, JL_sub, JL_mul, JL_neg, J_long, JL_int, ↓remI_fold, ↓remL_fold, Int.reduceAdd, Int.reduceSub, Int.reduceMul, Int.reduceNeg, Int.reduceToNat]
  have e1 := M_lay2 (N := N) (o := o) (S := S) (w := w) hg (fun w6 => fX5_laysChange_34 N o (fun w24 => some w24) N (J 1) w6) (n := N) (by omega) (fun s => (ma S 23 s).toInt)
  rw [← e0] at e1
  rw [e1]
  have hA : Bdd (fun s => if s < 512 then (if s = g then 0 else 1000000) else (ma S 23 s).toInt) := by
    intro s hs
    simp only [if_pos hs]
    split <;> omega
  have hR : Real1 g (fun s => if s < 512 then (if s = g then 0 else 1000000) else (ma S 23 s).toInt) := by
    refine ⟨by simp only [if_pos hg, if_true], fun s hs => ?_⟩
    simp only [if_pos hs]
    by_cases h : s = g
    · rw [if_pos h]; right; exact ⟨by omega, by omega, by simp [rch, h]⟩
    · rw [if_neg h]; left; rfl
  have hs := sm_bd (fun s => if s < 512 then (if s = g then (0 : Int) else 1000000) else (ma S 23 s).toInt) 512 0 1000000 hA
  exact M_lay34 (N := N) hN (fun w24 => some w24) N _ hA hR (by omega)
end
