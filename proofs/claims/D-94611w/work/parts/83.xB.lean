/-! the component: questions about rows, 2 -/
set_option maxRecDepth 100000
section
variable {N o c : Nat} {w : Wd} {C : Cy} {th : Nat → Nat}
theorem X_isCross (hg : gR w [0] o 0 = some c) (h : Hc w c th C) (hN : 1000000 ≤ N) {a b : Nat} (ha : a ≤ 9) (hb : b ≤ 9) : fX0_isCross N w o (J a) (J b) = some (Bp (isX C a b = true)) := by
  have hX := cX_le C
  unfold fX0_isCross
  have key := lp_find (fun n i => fX0_isCross_2 N w o (J a) (J b) (some (J 1)) (some (J 0)) n (J (i : Int))) (fun _ => some (J 1)) (some (J 0)) (cX C) (fun k => decide (cLo C k = a ∧ cHi C k = b)) ?_ ?_ N (by omega)
  · refine Eq.trans key ?_
    unfold isX
    cases fi (fun k => decide (cLo C k = a ∧ cHi C k = b)) (cX C) <;> rfl
  · intro n i hi
    try dsimp only
    have h1 := cLo_le C i
    have h2 := cHi_le C i
    rw [fX0_isCross_2]
    simp (disch := omega) only [jn_0, jn_1, jn_2, jn_3, jn_4, jn_5, jn_6, jn_8, jn_9, jn_10, jn_11, jn_12, jn_16, jn_20, jn_24, jn_30, jn_31, jn_32, jn_36, jn_48, jn_57, jn_59, jn_60, jn_63, jn_72, jn_73, jn_96, jn_97, jn_100, jn_122, jn_144, jn_200, jn_240, jn_288, jn_512, jn_840, jn_1200, jn_1600, jn_5040, jn_5390, jn_5400, jn_9999, jn_18688, jn_32400, jn_99999, jn_100000, jn_1000000, jn_858993459, jn_1431655765, jn_252645135, jl_0, jl_1, jl_2, jl_3, jl_8, jl_9, jl_10, jl_20, jl_27, jl_47, jl_96, jl_99, jl_100, jl_200, jl_555, jl_2000, jl_10000, jl_12345, jl_65536, jl_99999, jl_131638, jl_240023, jl_298288, jl_383153, jl_1306021, jl_1960084, jl_4147840, jl_8740238, jl_9872299, jl_175252482, jl_291595537, jl_1103515245, jl_2000000000, jl_2147483648, jl_4721686497, jl_7873079139, J_add, J_sub, J_mul, J_neg, JL_add, JL_sub, JL_mul, JL_neg, J_long, JL_int, ↓remI_fold, ↓remL_fold, Int.reduceAdd, Int.reduceSub, Int.reduceMul, Int.reduceNeg, Int.reduceToNat, hg, hc_0 h, hc_1 h, hc_2 h, hc_3 h, hc_4 h, hc_5 h, hc_7 h, hc_8 h, hc_9 h, hc_10 h, hc_11 h, hc_12 h, hc_k h, hc_at h, Int.toNat_natCast, hc_lo h, hc_hi h, J_le, J_eq, castS, castE, decide_eq_true_iff, Option.bind_some]
    rw [if_neg (by omega)]
    by_cases h3 : cLo C i = a
    · rw [if_pos h3]
      by_cases h4 : cHi C i = b
      · rw [if_pos h4, if_pos ⟨h3, h4⟩]
      · rw [if_neg h4, if_neg (fun h => h4 h.2)]
    · rw [if_neg h3, if_neg (fun h => h3 h.1)]
  · intro n
    try dsimp only
    rw [fX0_isCross_2]
    simp (disch := omega) only [jn_0, jn_1, jn_2, jn_3, jn_4, jn_5, jn_6, jn_8, jn_9, jn_10, jn_11, jn_12, jn_16, jn_20, jn_24, jn_30, jn_31, jn_32, jn_36, jn_48, jn_57, jn_59, jn_60, jn_63, jn_72, jn_73, jn_96, jn_97, jn_100, jn_122, jn_144, jn_200, jn_240, jn_288, jn_512, jn_840, jn_1200, jn_1600, jn_5040, jn_5390, jn_5400, jn_9999, jn_18688, jn_32400, jn_99999, jn_100000, jn_1000000, jn_858993459, jn_1431655765, jn_252645135, jl_0, jl_1, jl_2, jl_3, jl_8, jl_9, jl_10, jl_20, jl_27, jl_47, jl_96, jl_99, jl_100, jl_200, jl_555, jl_2000, jl_10000, jl_12345, jl_65536, jl_99999, jl_131638, jl_240023, jl_298288, jl_383153, jl_1306021, jl_1960084, jl_4147840, jl_8740238, jl_9872299, jl_175252482, jl_291595537, jl_1103515245, jl_2000000000, jl_2147483648, jl_4721686497, jl_7873079139, J_add, J_sub, J_mul, J_neg, JL_add, JL_sub, JL_mul, JL_neg, J_long, JL_int, ↓remI_fold, ↓remL_fold, Int.reduceAdd, Int.reduceSub, Int.reduceMul, Int.reduceNeg, Int.reduceToNat, hg, hc_0 h, hc_1 h, hc_2 h, hc_3 h, hc_4 h, hc_5 h, hc_7 h, hc_8 h, hc_9 h, hc_10 h, hc_11 h, hc_12 h, hc_k h, hc_at h, Int.toNat_natCast, hc_lo h, hc_hi h, J_le, J_eq, castS, castE, decide_eq_true_iff, Option.bind_some]
    rw [if_pos (by omega)]
theorem X_cr65 (hg : gR w [0] o 0 = some c) (h : Hc w c th C) (ho : OkC C) (hN : 1000000 ≤ N) {t a : Nat} (ht : t ≤ 840) (ha : a < cR C) (x y : Int32) (k : Int32 → Int32 → Option Int32) {n : Nat} (hn : 6 < n) (s : Int × Int) (hs : -1 ≤ s.2 ∧ s.2 ≤ 100000) : fX0_crossings_65 N w o x y (J t) (J a) k n (J s.1) (J s.2) (J ((a + 1 : Nat) : Int)) = k (J (crA C t a s).1) (J (crA C t a s).2) ∧ -1 ≤ (crA C t a s).2 ∧ (crA C t a s).2 ≤ 100000 := by
  have hR := cR_le C
  have key := lp_fold (fun n i (s : Int × Int) => fX0_crossings_65 N w o x y (J t) (J a) k n (J s.1) (J s.2) (J ((a + 1 + i : Nat) : Int))) (fun s => k (J s.1) (J s.2)) (cR C - (a + 1)) (fun j s => crS C t a (a + 1 + j) s) (fun _ s => -1 ≤ s.2 ∧ s.2 ≤ 100000) ?_ ?_ n s (by omega) hs
  · exact key
  · intro n i s hi hI
    try dsimp only
    have hi' : a + 1 + i < cR C := by omega
    have h5 := tt_le C a t
    have h6 := tt_le C (a + 1 + i) t
    refine ⟨?_, ?_⟩
    rotate_left
    unfold crS
    split
    · simp only; split <;> omega
    · exact hI
    rw [fX0_crossings_65]
    simp (disch := omega) only [jn_0, jn_1, jn_2, jn_3, jn_4, jn_5, jn_6, jn_8, jn_9, jn_10, jn_11, jn_12, jn_16, jn_20, jn_24, jn_30, jn_31, jn_32, jn_36, jn_48, jn_57, jn_59, jn_60, jn_63, jn_72, jn_73, jn_96, jn_97, jn_100, jn_122, jn_144, jn_200, jn_240, jn_288, jn_512, jn_840, jn_1200, jn_1600, jn_5040, jn_5390, jn_5400, jn_9999, jn_18688, jn_32400, jn_99999, jn_100000, jn_1000000, jn_858993459, jn_1431655765, jn_252645135, jl_0, jl_1, jl_2, jl_3, jl_8, jl_9, jl_10, jl_20, jl_27, jl_47, jl_96, jl_99, jl_100, jl_200, jl_555, jl_2000, jl_10000, jl_12345, jl_65536, jl_99999, jl_131638, jl_240023, jl_298288, jl_383153, jl_1306021, jl_1960084, jl_4147840, jl_8740238, jl_9872299, jl_175252482, jl_291595537, jl_1103515245, jl_2000000000, jl_2147483648, jl_4721686497, jl_7873079139, J_add, J_sub, J_mul, J_neg, JL_add, JL_sub, JL_mul, JL_neg, J_long, JL_int, ↓remI_fold, ↓remL_fold, Int.reduceAdd, Int.reduceSub, Int.reduceMul, Int.reduceNeg, Int.reduceToNat, Classical.not_not, em_t, Bp_eq0, Bp_eq1, Bp_01, Bp_mk, Bp_mk', Bp_0, Bp_0', Bp_1, Bp_1', if_true, if_false, ite_not, hg, hc_0 h, hc_1 h, hc_2 h, hc_3 h, hc_4 h, hc_5 h, hc_7 h, hc_8 h, hc_9 h, hc_10 h, hc_11 h, hc_12 h, hc_k h, hc_at h, Int.toNat_natCast, J_le, J_eq, Option.bind_some, X_isCross hg h hN (show a ≤ 9 by omega) (show a + 1 + i ≤ 9 by omega), X_throwsTo hg h ha (show a + 1 + i ≤ 9 by omega), X_throwsTo hg h hi' (show a ≤ 9 by omega)]
    rw [if_neg (by omega), show ((a + 1 + i : Nat) : Int) + 1 = ((a + 1 + (i + 1) : Nat) : Int) by omega]
    unfold crS
    by_cases h1 : isX C a (a + 1 + i) = true
    · rw [if_pos h1]
      by_cases h2 : tt C a t = a + 1 + i
      · have h2' : 0 < hh C a t := by
          rcases Nat.eq_zero_or_pos (hh C a t) with h0 | h0
          · have := tt_self ho ha h0
            omega
          · exact h0
        rw [if_pos ⟨h2', h2⟩]
        by_cases h3 : tt C (a + 1 + i) t = a
        · have h3' : 0 < hh C (a + 1 + i) t := by
            rcases Nat.eq_zero_or_pos (hh C (a + 1 + i) t) with h0 | h0
            · have := tt_self ho hi' h0
              omega
            · exact h0
          rw [if_pos ⟨h3', h3⟩, if_pos (show isX C a (a + 1 + i) = true ∧ tt C a t = a + 1 + i ∧ tt C (a + 1 + i) t = a from ⟨h1, h2, h3⟩)]
          by_cases h4 : s.2 = -1
          · simp only [if_pos h4]
          · simp only [if_neg h4]
        · rw [if_neg (fun h => h3 h.2), if_neg (fun h => h3 h.2.2)]
      · rw [if_neg (fun h => h2 h.2), if_neg (fun h => h2 h.2.1)]
    · rw [if_neg h1, if_neg (fun h => h1 h.1)]
  · intro n s hI
    try dsimp only
    rw [fX0_crossings_65]
    simp (disch := omega) only [jn_0, jn_1, jn_2, jn_3, jn_4, jn_5, jn_6, jn_8, jn_9, jn_10, jn_11, jn_12, jn_16, jn_20, jn_24, jn_30, jn_31, jn_32, jn_36, jn_48, jn_57, jn_59, jn_60, jn_63, jn_72, jn_73, jn_96, jn_97, jn_100, jn_122, jn_144, jn_200, jn_240, jn_288, jn_512, jn_840, jn_1200, jn_1600, jn_5040, jn_5390, jn_5400, jn_9999, jn_18688, jn_32400, jn_99999, jn_100000, jn_1000000, jn_858993459, jn_1431655765, jn_252645135, jl_0, jl_1, jl_2, jl_3, jl_8, jl_9, jl_10, jl_20, jl_27, jl_47, jl_96, jl_99, jl_100, jl_200, jl_555, jl_2000, jl_10000, jl_12345, jl_65536, jl_99999, jl_131638, jl_240023, jl_298288, jl_383153, jl_1306021, jl_1960084, jl_4147840, jl_8740238, jl_9872299, jl_175252482, jl_291595537, jl_1103515245, jl_2000000000, jl_2147483648, jl_4721686497, jl_7873079139, J_add, J_sub, J_mul, J_neg, JL_add, JL_sub, JL_mul, JL_neg, J_long, JL_int, ↓remI_fold, ↓remL_fold, Int.reduceAdd, Int.reduceSub, Int.reduceMul, Int.reduceNeg, Int.reduceToNat, Classical.not_not, em_t, Bp_eq0, Bp_eq1, Bp_01, Bp_mk, Bp_mk', Bp_0, Bp_0', Bp_1, Bp_1', if_true, if_false, ite_not, hg, hc_0 h, hc_1 h, hc_2 h, hc_3 h, hc_4 h, hc_5 h, hc_7 h, hc_8 h, hc_9 h, hc_10 h, hc_11 h, hc_12 h, hc_k h, hc_at h, Int.toNat_natCast, J_le, J_eq, Option.bind_some]
    rw [if_pos (by omega)]
theorem X_cr47 (hg : gR w [0] o 0 = some c) (h : Hc w c th C) (ho : OkC C) (hN : 1000000 ≤ N) {t : Nat} (ht : t ≤ 840) (x y : Int32) (k : Int32 → Int32 → Option Int32) {n : Nat} (hn : 6 < n) (s : Int × Int) (hs : -1 ≤ s.2 ∧ s.2 ≤ 100000) : fX0_crossings_47 N w o x y (J t) k n (J s.1) (J s.2) (J 0) = k (J (crT C t s).1) (J (crT C t s).2) ∧ -1 ≤ (crT C t s).2 ∧ (crT C t s).2 ≤ 100000 := by
  have hR := cR_le C
  have key := lp_fold (fun n i (s : Int × Int) => fX0_crossings_47 N w o x y (J t) k n (J s.1) (J s.2) (J (i : Int))) (fun s => k (J s.1) (J s.2)) (cR C) (fun a s => crA C t a s) (fun _ s => -1 ≤ s.2 ∧ s.2 ≤ 100000) ?_ ?_ n s (by omega) hs
  · exact key
  · intro n i s hi hI
    try dsimp only
    refine ⟨?_, ?_⟩
    rotate_left
    exact (X_cr65 (N := N) hg h ho hN ht hi x y (fun _ _ => none) (n := 7) (by omega) s hI).2
    rw [fX0_crossings_47]
    simp (disch := omega) only [jn_0, jn_1, jn_2, jn_3, jn_4, jn_5, jn_6, jn_8, jn_9, jn_10, jn_11, jn_12, jn_16, jn_20, jn_24, jn_30, jn_31, jn_32, jn_36, jn_48, jn_57, jn_59, jn_60, jn_63, jn_72, jn_73, jn_96, jn_97, jn_100, jn_122, jn_144, jn_200, jn_240, jn_288, jn_512, jn_840, jn_1200, jn_1600, jn_5040, jn_5390, jn_5400, jn_9999, jn_18688, jn_32400, jn_99999, jn_100000, jn_1000000, jn_858993459, jn_1431655765, jn_252645135, jl_0, jl_1, jl_2, jl_3, jl_8, jl_9, jl_10, jl_20, jl_27, jl_47, jl_96, jl_99, jl_100, jl_200, jl_555, jl_2000, jl_10000, jl_12345, jl_65536, jl_99999, jl_131638, jl_240023, jl_298288, jl_383153, jl_1306021, jl_1960084, jl_4147840, jl_8740238, jl_9872299, jl_175252482, jl_291595537, jl_1103515245, jl_2000000000, jl_2147483648, jl_4721686497, jl_7873079139, J_add, J_sub, J_mul, J_neg, JL_add, JL_sub, JL_mul, JL_neg, J_long, JL_int, ↓remI_fold, ↓remL_fold, Int.reduceAdd, Int.reduceSub, Int.reduceMul, Int.reduceNeg, Int.reduceToNat, hg, hc_0 h, hc_1 h, hc_2 h, hc_3 h, hc_4 h, hc_5 h, hc_7 h, hc_8 h, hc_9 h, hc_10 h, hc_11 h, hc_12 h, hc_k h, hc_at h, Int.toNat_natCast, J_le, castS, Option.bind_some]
    rw [if_neg (by omega), (X_cr65 hg h ho hN ht hi _ _ _ (by omega) s hI).1]
  · intro n s hI
    try dsimp only
    rw [fX0_crossings_47]
    simp (disch := omega) only [jn_0, jn_1, jn_2, jn_3, jn_4, jn_5, jn_6, jn_8, jn_9, jn_10, jn_11, jn_12, jn_16, jn_20, jn_24, jn_30, jn_31, jn_32, jn_36, jn_48, jn_57, jn_59, jn_60, jn_63, jn_72, jn_73, jn_96, jn_97, jn_100, jn_122, jn_144, jn_200, jn_240, jn_288, jn_512, jn_840, jn_1200, jn_1600, jn_5040, jn_5390, jn_5400, jn_9999, jn_18688, jn_32400, jn_99999, jn_100000, jn_1000000, jn_858993459, jn_1431655765, jn_252645135, jl_0, jl_1, jl_2, jl_3, jl_8, jl_9, jl_10, jl_20, jl_27, jl_47, jl_96, jl_99, jl_100, jl_200, jl_555, jl_2000, jl_10000, jl_12345, jl_65536, jl_99999, jl_131638, jl_240023, jl_298288, jl_383153, jl_1306021, jl_1960084, jl_4147840, jl_8740238, jl_9872299, jl_175252482, jl_291595537, jl_1103515245, jl_2000000000, jl_2147483648, jl_4721686497, jl_7873079139, J_add, J_sub, J_mul, J_neg, JL_add, JL_sub, JL_mul, JL_neg, J_long, JL_int, ↓remI_fold, ↓remL_fold, Int.reduceAdd, Int.reduceSub, Int.reduceMul, Int.reduceNeg, Int.reduceToNat, hg, hc_0 h, hc_1 h, hc_2 h, hc_3 h, hc_4 h, hc_5 h, hc_7 h, hc_8 h, hc_9 h, hc_10 h, hc_11 h, hc_12 h, hc_k h, hc_at h, Int.toNat_natCast, J_le, castS, Option.bind_some]
    rw [if_pos (by omega)]
theorem X_crossings (hg : gR w [0] o 0 = some c) (h : Hc w c th C) (ho : OkC C) (hN : 1000000 ≤ N) {x : Int} (hx : -2147483648 ≤ x ∧ x ≤ 2147483647) : fX0_crossings N w o (J x) = some (J (sp_crossings C x)) := by
  have hR := cR_le C
  have hp := rnd_bd C
  unfold fX0_crossings sp_crossings
  simp (disch := omega) only [jn_0, jn_1, jn_2, jn_3, jn_4, jn_5, jn_6, jn_8, jn_9, jn_10, jn_11, jn_12, jn_16, jn_20, jn_24, jn_30, jn_31, jn_32, jn_36, jn_48, jn_57, jn_59, jn_60, jn_63, jn_72, jn_73, jn_96, jn_97, jn_100, jn_122, jn_144, jn_200, jn_240, jn_288, jn_512, jn_840, jn_1200, jn_1600, jn_5040, jn_5390, jn_5400, jn_9999, jn_18688, jn_32400, jn_99999, jn_100000, jn_1000000, jn_858993459, jn_1431655765, jn_252645135, jl_0, jl_1, jl_2, jl_3, jl_8, jl_9, jl_10, jl_20, jl_27, jl_47, jl_96, jl_99, jl_100, jl_200, jl_555, jl_2000, jl_10000, jl_12345, jl_65536, jl_99999, jl_131638, jl_240023, jl_298288, jl_383153, jl_1306021, jl_1960084, jl_4147840, jl_8740238, jl_9872299, jl_175252482, jl_291595537, jl_1103515245, jl_2000000000, jl_2147483648, jl_4721686497, jl_7873079139, J_add, J_sub, J_mul, J_neg, JL_add, JL_sub, JL_mul, JL_neg, J_long, JL_int, ↓remI_fold, ↓remL_fold, Int.reduceAdd, Int.reduceSub, Int.reduceMul, Int.reduceNeg, Int.reduceToNat, Classical.not_not, em_t, Bp_eq0, Bp_eq1, Bp_01, Bp_mk, Bp_mk', Bp_0, Bp_0', Bp_1, Bp_1', if_true, if_false, ite_not, hg, hc_0 h, hc_1 h, hc_2 h, hc_3 h, hc_4 h, hc_5 h, hc_7 h, hc_8 h, hc_9 h, hc_10 h, hc_11 h, hc_12 h, hc_k h, hc_at h, Int.toNat_natCast, Option.bind_some, X_isCity hg h, X_in, X_round h, J_eq, fX0_crossings_175]
  by_cases h1 : 0 < cR C
  case neg => simp only [if_neg h1, ite_self]
  simp only [if_pos h1]
  by_cases h2 : 0 ≤ x ∧ x ≤ 3
  case neg => simp only [if_neg h2, ite_self]
  simp only [if_pos h2]
  have key := lp_fold (fun n i (s : Int × Int) => fX0_crossings_38 N w o (J x) (J (rnd C)) (fun y26 y27 => if x = 0 then (if x = 0 then some y26 else some (J (-1))) else if y27 = J (-1) then (if x = 0 then some y26 else some (J (-1))) else if x = 1 then some (y27 / J 100) else if x = 2 then some (remI (y27 / J 10) (J 10)) else some (remI y27 (J 10))) n (J s.1) (J s.2) (J (i : Int))) (fun s => if x = 0 then (if x = 0 then some (J s.1) else some (J (-1))) else if J s.2 = J (-1) then (if x = 0 then some (J s.1) else some (J (-1))) else if x = 1 then some (J s.2 / J 100) else if x = 2 then some (remI (J s.2 / J 10) (J 10)) else some (remI (J s.2) (J 10))) (rnd C) (fun t s => crT C t s) (fun _ s => -1 ≤ s.2 ∧ s.2 ≤ 100000) ?_ ?_ N (0, -1) (by omega) ⟨by decide, by decide⟩
  · rw [show fo (fun t s => crT C t s) (rnd C) (0, -1) = crs C from rfl] at key
    refine Eq.trans key.1 ?_
    have hb := key.2
    by_cases h3 : x = 0
    · simp only [if_pos h3]
    simp only [if_neg h3]
    by_cases h4 : (crs C).2 = -1
    · rw [if_pos (by rw [h4]), if_pos h4]
    rw [if_neg (by rw [J_eq (by omega)]; exact h4), if_neg h4]
    simp (disch := omega) only [J_div, J_rem]
    by_cases h5 : x = 1
    · simp only [if_pos h5]
    simp only [if_neg h5]
    by_cases h6 : x = 2
    · simp only [if_pos h6]
    simp only [if_neg h6]
  · intro n i s hi hI
    try dsimp only
    refine ⟨?_, ?_⟩
    rotate_left
    exact (X_cr47 (N := N) hg h ho hN (show i ≤ 840 by omega) (J 0) (J 0) (fun _ _ => none) (n := 7) (by omega) s hI).2
    rw [fX0_crossings_38]
    simp (disch := omega) only [jn_0, jn_1, jn_2, jn_3, jn_4, jn_5, jn_6, jn_8, jn_9, jn_10, jn_11, jn_12, jn_16, jn_20, jn_24, jn_30, jn_31, jn_32, jn_36, jn_48, jn_57, jn_59, jn_60, jn_63, jn_72, jn_73, jn_96, jn_97, jn_100, jn_122, jn_144, jn_200, jn_240, jn_288, jn_512, jn_840, jn_1200, jn_1600, jn_5040, jn_5390, jn_5400, jn_9999, jn_18688, jn_32400, jn_99999, jn_100000, jn_1000000, jn_858993459, jn_1431655765, jn_252645135, jl_0, jl_1, jl_2, jl_3, jl_8, jl_9, jl_10, jl_20, jl_27, jl_47, jl_96, jl_99, jl_100, jl_200, jl_555, jl_2000, jl_10000, jl_12345, jl_65536, jl_99999, jl_131638, jl_240023, jl_298288, jl_383153, jl_1306021, jl_1960084, jl_4147840, jl_8740238, jl_9872299, jl_175252482, jl_291595537, jl_1103515245, jl_2000000000, jl_2147483648, jl_4721686497, jl_7873079139, J_add, J_sub, J_mul, J_neg, JL_add, JL_sub, JL_mul, JL_neg, J_long, JL_int, ↓remI_fold, ↓remL_fold, Int.reduceAdd, Int.reduceSub, Int.reduceMul, Int.reduceNeg, Int.reduceToNat, J_le, castS, Option.bind_some]
    rw [if_neg (by omega), (X_cr47 hg h ho hN (by omega) _ _ _ (by omega) s hI).1]
  · intro n s hI
    try dsimp only
    rw [fX0_crossings_38]
    simp (disch := omega) only [jn_0, jn_1, jn_2, jn_3, jn_4, jn_5, jn_6, jn_8, jn_9, jn_10, jn_11, jn_12, jn_16, jn_20, jn_24, jn_30, jn_31, jn_32, jn_36, jn_48, jn_57, jn_59, jn_60, jn_63, jn_72, jn_73, jn_96, jn_97, jn_100, jn_122, jn_144, jn_200, jn_240, jn_288, jn_512, jn_840, jn_1200, jn_1600, jn_5040, jn_5390, jn_5400, jn_9999, jn_18688, jn_32400, jn_99999, jn_100000, jn_1000000, jn_858993459, jn_1431655765, jn_252645135, jl_0, jl_1, jl_2, jl_3, jl_8, jl_9, jl_10, jl_20, jl_27, jl_47, jl_96, jl_99, jl_100, jl_200, jl_555, jl_2000, jl_10000, jl_12345, jl_65536, jl_99999, jl_131638, jl_240023, jl_298288, jl_383153, jl_1306021, jl_1960084, jl_4147840, jl_8740238, jl_9872299, jl_175252482, jl_291595537, jl_1103515245, jl_2000000000, jl_2147483648, jl_4721686497, jl_7873079139, J_add, J_sub, J_mul, J_neg, JL_add, JL_sub, JL_mul, JL_neg, J_long, JL_int, ↓remI_fold, ↓remL_fold, Int.reduceAdd, Int.reduceSub, Int.reduceMul, Int.reduceNeg, Int.reduceToNat, J_le, castS, Option.bind_some]
    rw [if_pos (by omega)]
theorem X_bs45 (hg : gR w [0] o 0 = some c) (h : Hc w c th C) {b : Int} (hb : -900000 ≤ b ∧ b ≤ 900000) (x y z u : Int32) (k : Int32 → Option Int32) {n : Nat} (hn : 6 < n) : fX0_busiest_45 N w o x y z u (J b) k n (J 0) (J 0) = k (J (thr0 C b)) := by
  have hR := cR_le C
  have key := lp_sum (fun n i s => fX0_busiest_45 N w o x y z u (J b) k n (J s) (J (i : Int))) (fun s => k (J s)) (cR C) (fun r => ind (0 < hh C r b)) ?_ ?_ n 0 (by omega)
  · rw [Int.zero_add] at key
    exact key
  · intro n i s hi
    try dsimp only
    have h9 := hh_le C i b
    rw [fX0_busiest_45]
    simp (disch := omega) only [jn_0, jn_1, jn_2, jn_3, jn_4, jn_5, jn_6, jn_8, jn_9, jn_10, jn_11, jn_12, jn_16, jn_20, jn_24, jn_30, jn_31, jn_32, jn_36, jn_48, jn_57, jn_59, jn_60, jn_63, jn_72, jn_73, jn_96, jn_97, jn_100, jn_122, jn_144, jn_200, jn_240, jn_288, jn_512, jn_840, jn_1200, jn_1600, jn_5040, jn_5390, jn_5400, jn_9999, jn_18688, jn_32400, jn_99999, jn_100000, jn_1000000, jn_858993459, jn_1431655765, jn_252645135, jl_0, jl_1, jl_2, jl_3, jl_8, jl_9, jl_10, jl_20, jl_27, jl_47, jl_96, jl_99, jl_100, jl_200, jl_555, jl_2000, jl_10000, jl_12345, jl_65536, jl_99999, jl_131638, jl_240023, jl_298288, jl_383153, jl_1306021, jl_1960084, jl_4147840, jl_8740238, jl_9872299, jl_175252482, jl_291595537, jl_1103515245, jl_2000000000, jl_2147483648, jl_4721686497, jl_7873079139, J_add, J_sub, J_mul, J_neg, JL_add, JL_sub, JL_mul, JL_neg, J_long, JL_int, ↓remI_fold, ↓remL_fold, Int.reduceAdd, Int.reduceSub, Int.reduceMul, Int.reduceNeg, Int.reduceToNat, hg, hc_0 h, hc_1 h, hc_2 h, hc_3 h, hc_4 h, hc_5 h, hc_7 h, hc_8 h, hc_9 h, hc_10 h, hc_11 h, hc_12 h, hc_k h, hc_at h, Int.toNat_natCast, J_le, castS, Option.bind_some, ht_k h hi, X_height h hi]
    rw [if_neg (by omega)]
    unfold ind
    by_cases h3 : 0 < hh C i b
    · rw [if_neg (by omega), if_pos h3]
    · rw [if_pos (by omega), if_neg h3]
  · intro n s
    try dsimp only
    rw [fX0_busiest_45]
    simp (disch := omega) only [jn_0, jn_1, jn_2, jn_3, jn_4, jn_5, jn_6, jn_8, jn_9, jn_10, jn_11, jn_12, jn_16, jn_20, jn_24, jn_30, jn_31, jn_32, jn_36, jn_48, jn_57, jn_59, jn_60, jn_63, jn_72, jn_73, jn_96, jn_97, jn_100, jn_122, jn_144, jn_200, jn_240, jn_288, jn_512, jn_840, jn_1200, jn_1600, jn_5040, jn_5390, jn_5400, jn_9999, jn_18688, jn_32400, jn_99999, jn_100000, jn_1000000, jn_858993459, jn_1431655765, jn_252645135, jl_0, jl_1, jl_2, jl_3, jl_8, jl_9, jl_10, jl_20, jl_27, jl_47, jl_96, jl_99, jl_100, jl_200, jl_555, jl_2000, jl_10000, jl_12345, jl_65536, jl_99999, jl_131638, jl_240023, jl_298288, jl_383153, jl_1306021, jl_1960084, jl_4147840, jl_8740238, jl_9872299, jl_175252482, jl_291595537, jl_1103515245, jl_2000000000, jl_2147483648, jl_4721686497, jl_7873079139, J_add, J_sub, J_mul, J_neg, JL_add, JL_sub, JL_mul, JL_neg, J_long, JL_int, ↓remI_fold, ↓remL_fold, Int.reduceAdd, Int.reduceSub, Int.reduceMul, Int.reduceNeg, Int.reduceToNat, hg, hc_0 h, hc_1 h, hc_2 h, hc_3 h, hc_4 h, hc_5 h, hc_7 h, hc_8 h, hc_9 h, hc_10 h, hc_11 h, hc_12 h, hc_k h, hc_at h, Int.toNat_natCast, J_le, castS, Option.bind_some]
    rw [if_pos (by omega)]
theorem X_busiest (hg : gR w [0] o 0 = some c) (h : Hc w c th C) (hN : 1000000 ≤ N) {x : Int} (hx : -2147483648 ≤ x ∧ x ≤ 2147483647) : fX0_busiest N w o (J x) = some (J (sp_busiest C x)) := by
  have hp := rnd_bd C
  unfold fX0_busiest sp_busiest fX0_isOneOfTwo
  simp (disch := omega) only [jn_0, jn_1, jn_2, jn_3, jn_4, jn_5, jn_6, jn_8, jn_9, jn_10, jn_11, jn_12, jn_16, jn_20, jn_24, jn_30, jn_31, jn_32, jn_36, jn_48, jn_57, jn_59, jn_60, jn_63, jn_72, jn_73, jn_96, jn_97, jn_100, jn_122, jn_144, jn_200, jn_240, jn_288, jn_512, jn_840, jn_1200, jn_1600, jn_5040, jn_5390, jn_5400, jn_9999, jn_18688, jn_32400, jn_99999, jn_100000, jn_1000000, jn_858993459, jn_1431655765, jn_252645135, jl_0, jl_1, jl_2, jl_3, jl_8, jl_9, jl_10, jl_20, jl_27, jl_47, jl_96, jl_99, jl_100, jl_200, jl_555, jl_2000, jl_10000, jl_12345, jl_65536, jl_99999, jl_131638, jl_240023, jl_298288, jl_383153, jl_1306021, jl_1960084, jl_4147840, jl_8740238, jl_9872299, jl_175252482, jl_291595537, jl_1103515245, jl_2000000000, jl_2147483648, jl_4721686497, jl_7873079139, J_add, J_sub, J_mul, J_neg, JL_add, JL_sub, JL_mul, JL_neg, J_long, JL_int, ↓remI_fold, ↓remL_fold, Int.reduceAdd, Int.reduceSub, Int.reduceMul, Int.reduceNeg, Int.reduceToNat, Classical.not_not, em_t, Bp_eq0, Bp_eq1, Bp_01, Bp_mk, Bp_mk', Bp_0, Bp_0', Bp_1, Bp_1', if_true, if_false, ite_not, hg, hc_0 h, hc_1 h, hc_2 h, hc_3 h, hc_4 h, hc_5 h, hc_7 h, hc_8 h, hc_9 h, hc_10 h, hc_11 h, hc_12 h, hc_k h, hc_at h, Int.toNat_natCast, Option.bind_some, X_isCity hg h, X_in, X_round h, J_eq]
  by_cases h1 : 0 < cR C
  case neg => simp only [if_neg h1, ite_self]
  simp only [if_pos h1]
  by_cases h2 : 0 ≤ x ∧ x ≤ 1
  case neg => simp only [if_neg h2, ite_self]
  simp only [if_pos h2]
  have key := lp_fold (fun n i (s : Nat × Int) => fX0_busiest_33 N w o (J x) (J (rnd C)) (fun y20 y21 => if x = 0 then some y20 else some y21) n (J s.1) (J s.2) (J (i : Int))) (fun s => if x = 0 then some (J s.1) else some (J s.2)) (rnd C) (fun i s => if s.2 < thr0 C i then (i, thr0 C i) else s) (fun i s => (-1 ≤ s.2 ∧ s.2 ≤ 6) ∧ (i = 0 → s.2 = -1) ∧ (0 < i → s.1 = bst C (i - 1) ∧ s.2 = thr0 C (bst C (i - 1)))) ?_ ?_ N (0, -1) (by omega) ⟨by decide, fun _ => rfl, fun h => by omega⟩
  · refine Eq.trans key.1 ?_
    have ⟨e1, e2⟩ := key.2.2.2 (by omega)
    by_cases h4 : x = 0
    · simp only [if_pos h4]; rw [e1]
    · simp only [if_neg h4]; rw [e2]
  · intro n i s hi hI
    try dsimp only
    have ht1 := thr0_bd C i
    refine ⟨?_, ?_⟩
    rotate_left
    by_cases h0 : i = 0
    · subst h0
      have := hI.2.1 rfl
      rw [if_pos (by omega)]
      exact ⟨by simp only; omega, fun h => by omega, fun _ => ⟨rfl, rfl⟩⟩
    · have ⟨e1, e2⟩ := hI.2.2 (by omega)
      have e3 : bst C (i + 1 - 1) = if thr0 C (bst C (i - 1)) < thr0 C i then i else bst C (i - 1) := by
        rw [show i + 1 - 1 = (i - 1) + 1 by omega, bst, show i - 1 + 1 = i by omega]
      rw [e3, ← e2, ← e1]
      by_cases h4 : s.2 < thr0 C i
      · simp only [if_pos h4]; exact ⟨by omega, fun h => by omega, fun _ => ⟨trivial, trivial⟩⟩
      · simp only [if_neg h4]; exact ⟨hI.1, fun h => by omega, fun _ => ⟨trivial, e2.trans (by rw [e1])⟩⟩
    rw [fX0_busiest_33]
    simp (disch := omega) only [jn_0, jn_1, jn_2, jn_3, jn_4, jn_5, jn_6, jn_8, jn_9, jn_10, jn_11, jn_12, jn_16, jn_20, jn_24, jn_30, jn_31, jn_32, jn_36, jn_48, jn_57, jn_59, jn_60, jn_63, jn_72, jn_73, jn_96, jn_97, jn_100, jn_122, jn_144, jn_200, jn_240, jn_288, jn_512, jn_840, jn_1200, jn_1600, jn_5040, jn_5390, jn_5400, jn_9999, jn_18688, jn_32400, jn_99999, jn_100000, jn_1000000, jn_858993459, jn_1431655765, jn_252645135, jl_0, jl_1, jl_2, jl_3, jl_8, jl_9, jl_10, jl_20, jl_27, jl_47, jl_96, jl_99, jl_100, jl_200, jl_555, jl_2000, jl_10000, jl_12345, jl_65536, jl_99999, jl_131638, jl_240023, jl_298288, jl_383153, jl_1306021, jl_1960084, jl_4147840, jl_8740238, jl_9872299, jl_175252482, jl_291595537, jl_1103515245, jl_2000000000, jl_2147483648, jl_4721686497, jl_7873079139, J_add, J_sub, J_mul, J_neg, JL_add, JL_sub, JL_mul, JL_neg, J_long, JL_int, ↓remI_fold, ↓remL_fold, Int.reduceAdd, Int.reduceSub, Int.reduceMul, Int.reduceNeg, Int.reduceToNat, J_le, castS, Option.bind_some]
    rw [if_neg (by omega), X_bs45 hg h (by omega) _ _ _ _ _ (by omega)]
    simp (disch := omega) only [J_lt]
    by_cases h4 : s.2 < thr0 C i
    · simp only [if_pos h4]
    · simp only [if_neg h4]
  · intro n s hI
    try dsimp only
    rw [fX0_busiest_33]
    simp (disch := omega) only [jn_0, jn_1, jn_2, jn_3, jn_4, jn_5, jn_6, jn_8, jn_9, jn_10, jn_11, jn_12, jn_16, jn_20, jn_24, jn_30, jn_31, jn_32, jn_36, jn_48, jn_57, jn_59, jn_60, jn_63, jn_72, jn_73, jn_96, jn_97, jn_100, jn_122, jn_144, jn_200, jn_240, jn_288, jn_512, jn_840, jn_1200, jn_1600, jn_5040, jn_5390, jn_5400, jn_9999, jn_18688, jn_32400, jn_99999, jn_100000, jn_1000000, jn_858993459, jn_1431655765, jn_252645135, jl_0, jl_1, jl_2, jl_3, jl_8, jl_9, jl_10, jl_20, jl_27, jl_47, jl_96, jl_99, jl_100, jl_200, jl_555, jl_2000, jl_10000, jl_12345, jl_65536, jl_99999, jl_131638, jl_240023, jl_298288, jl_383153, jl_1306021, jl_1960084, jl_4147840, jl_8740238, jl_9872299, jl_175252482, jl_291595537, jl_1103515245, jl_2000000000, jl_2147483648, jl_4721686497, jl_7873079139, J_add, J_sub, J_mul, J_neg, JL_add, JL_sub, JL_mul, JL_neg, J_long, JL_int, ↓remI_fold, ↓remL_fold, Int.reduceAdd, Int.reduceSub, Int.reduceMul, Int.reduceNeg, Int.reduceToNat, J_le, castS, Option.bind_some]
    rw [if_pos (by omega)]
theorem X_suits2 (h : Hc w c th C) {r t : Nat} (hr : r < cR C) (ht : t ≤ 900000) (v : Nat) : fX2_suits N w (th r) v (J t) = some (Bp (¬ (0 < hh C r t ∧ tt C r t ≠ r ∧ t % 2 = 1))) := by
  have hK := cK_le C r
  unfold fX2_suits
  simp (disch := omega) only [jn_0, jn_1, jn_2, jn_3, jn_4, jn_5, jn_6, jn_8, jn_9, jn_10, jn_11, jn_12, jn_16, jn_20, jn_24, jn_30, jn_31, jn_32, jn_36, jn_48, jn_57, jn_59, jn_60, jn_63, jn_72, jn_73, jn_96, jn_97, jn_100, jn_122, jn_144, jn_200, jn_240, jn_288, jn_512, jn_840, jn_1200, jn_1600, jn_5040, jn_5390, jn_5400, jn_9999, jn_18688, jn_32400, jn_99999, jn_100000, jn_1000000, jn_858993459, jn_1431655765, jn_252645135, jl_0, jl_1, jl_2, jl_3, jl_8, jl_9, jl_10, jl_20, jl_27, jl_47, jl_96, jl_99, jl_100, jl_200, jl_555, jl_2000, jl_10000, jl_12345, jl_65536, jl_99999, jl_131638, jl_240023, jl_298288, jl_383153, jl_1306021, jl_1960084, jl_4147840, jl_8740238, jl_9872299, jl_175252482, jl_291595537, jl_1103515245, jl_2000000000, jl_2147483648, jl_4721686497, jl_7873079139, J_add, J_sub, J_mul, J_neg, JL_add, JL_sub, JL_mul, JL_neg, J_long, JL_int, ↓remI_fold, ↓remL_fold, Int.reduceAdd, Int.reduceSub, Int.reduceMul, Int.reduceNeg, Int.reduceToNat, Classical.not_not, em_t, Bp_eq0, Bp_eq1, Bp_01, Bp_mk, Bp_mk', Bp_0, Bp_0', Bp_1, Bp_1', if_true, if_false, ite_not, ht_k h hr, X_isAway h hr, X_hand h hr, X_better, Option.bind_some]
  congr 1; apply Bp_congr
  by_cases h2 : cK C r = 1
  · simp (disch := omega) only [if_pos h2, J_eq]; constructor <;> intro h <;> omega
  · simp (disch := omega) only [if_neg h2, J_eq]; constructor <;> intro h <;> omega
theorem X_su10 (h : Hc w c th C) {r t : Nat} (hr : r < cR C) (ht : t ≤ 900000) (k1 k2 : Option Int32) {n : Nat} (hn : 6 < n) : fX10_suits_2 N w (th r) c (J t) k1 k2 n (J 0) = match fi (fun q => decide ((1 ≤ hh C q t ∧ hh C q t ≤ 2) ∧ tt C q t = r)) (cR C) with | some _ => k1 | none => k2 := by
  have hR := cR_le C
  have key := lp_find (fun n i => fX10_suits_2 N w (th r) c (J t) k1 k2 n (J (i : Int))) (fun _ => k1) k2 (cR C) (fun q => decide ((1 ≤ hh C q t ∧ hh C q t ≤ 2) ∧ tt C q t = r)) ?_ ?_ n (by omega)
  · exact key
  · intro n i hi
    try dsimp only
    have h9 := hh_le C i t
    have h5 := tt_le C i t
    rw [fX10_suits_2]
    simp (disch := omega) only [jn_0, jn_1, jn_2, jn_3, jn_4, jn_5, jn_6, jn_8, jn_9, jn_10, jn_11, jn_12, jn_16, jn_20, jn_24, jn_30, jn_31, jn_32, jn_36, jn_48, jn_57, jn_59, jn_60, jn_63, jn_72, jn_73, jn_96, jn_97, jn_100, jn_122, jn_144, jn_200, jn_240, jn_288, jn_512, jn_840, jn_1200, jn_1600, jn_5040, jn_5390, jn_5400, jn_9999, jn_18688, jn_32400, jn_99999, jn_100000, jn_1000000, jn_858993459, jn_1431655765, jn_252645135, jl_0, jl_1, jl_2, jl_3, jl_8, jl_9, jl_10, jl_20, jl_27, jl_47, jl_96, jl_99, jl_100, jl_200, jl_555, jl_2000, jl_10000, jl_12345, jl_65536, jl_99999, jl_131638, jl_240023, jl_298288, jl_383153, jl_1306021, jl_1960084, jl_4147840, jl_8740238, jl_9872299, jl_175252482, jl_291595537, jl_1103515245, jl_2000000000, jl_2147483648, jl_4721686497, jl_7873079139, J_add, J_sub, J_mul, J_neg, JL_add, JL_sub, JL_mul, JL_neg, J_long, JL_int, ↓remI_fold, ↓remL_fold, Int.reduceAdd, Int.reduceSub, Int.reduceMul, Int.reduceNeg, Int.reduceToNat, Classical.not_not, em_t, Bp_eq0, Bp_eq1, Bp_01, Bp_mk, Bp_mk', Bp_0, Bp_0', Bp_1, Bp_1', if_true, if_false, ite_not, hc_0 h, hc_7 h, hc_at h, Int.toNat_natCast, X_in, J_le, J_eq, castS, castE, decide_eq_true_iff, Option.bind_some, ht_0 h hr, ht_k h hi, X_height h hi, X_to h hi]
    rw [if_neg (by omega)]
    by_cases h3 : 1 ≤ hh C i t ∧ hh C i t ≤ 2
    · rw [if_pos (by omega)]
      by_cases h4 : tt C i t = r
      · rw [if_pos h4, if_pos ⟨h3, h4⟩]
      · rw [if_neg h4, if_neg (fun h => h4 h.2)]
    · rw [if_neg (by omega), if_neg (fun h => h3 h.1)]
  · intro n
    try dsimp only
    rw [fX10_suits_2]
    simp (disch := omega) only [jn_0, jn_1, jn_2, jn_3, jn_4, jn_5, jn_6, jn_8, jn_9, jn_10, jn_11, jn_12, jn_16, jn_20, jn_24, jn_30, jn_31, jn_32, jn_36, jn_48, jn_57, jn_59, jn_60, jn_63, jn_72, jn_73, jn_96, jn_97, jn_100, jn_122, jn_144, jn_200, jn_240, jn_288, jn_512, jn_840, jn_1200, jn_1600, jn_5040, jn_5390, jn_5400, jn_9999, jn_18688, jn_32400, jn_99999, jn_100000, jn_1000000, jn_858993459, jn_1431655765, jn_252645135, jl_0, jl_1, jl_2, jl_3, jl_8, jl_9, jl_10, jl_20, jl_27, jl_47, jl_96, jl_99, jl_100, jl_200, jl_555, jl_2000, jl_10000, jl_12345, jl_65536, jl_99999, jl_131638, jl_240023, jl_298288, jl_383153, jl_1306021, jl_1960084, jl_4147840, jl_8740238, jl_9872299, jl_175252482, jl_291595537, jl_1103515245, jl_2000000000, jl_2147483648, jl_4721686497, jl_7873079139, J_add, J_sub, J_mul, J_neg, JL_add, JL_sub, JL_mul, JL_neg, J_long, JL_int, ↓remI_fold, ↓remL_fold, Int.reduceAdd, Int.reduceSub, Int.reduceMul, Int.reduceNeg, Int.reduceToNat, Classical.not_not, em_t, Bp_eq0, Bp_eq1, Bp_01, Bp_mk, Bp_mk', Bp_0, Bp_0', Bp_1, Bp_1', if_true, if_false, ite_not, hc_0 h, hc_7 h, hc_at h, Int.toNat_natCast, X_in, J_le, J_eq, castS, castE, decide_eq_true_iff, Option.bind_some]
    rw [if_pos (by omega)]
theorem X_first (h : Hc w c th C) {r : Nat} (hr : r < cR C) (hk : ckC w [11] (th r) = some 11) (hN : 1000000 ≤ N) {t : Int} (ht : 0 < hh C r t) : fX11_first N w (th r) = some (J (fH C r)) := by
  have hP := cP_bd C r
  unfold fX11_first
  have hf : ∃ i, fi (fun i => decide (0 < cH C r i)) (cP C r) = some i := by
    cases h : fi (fun i => decide (0 < cH C r i)) (cP C r) with
    | some i => exact ⟨i, rfl⟩
    | none =>
      have := (fi_none _ _).1 h (pl C r t) (pl_lt C r t)
      rw [decide_eq_true_iff] at this
      exact absurd ht this
  have ⟨i, hf⟩ := hf
  have hi' := (fi_some _ _ _).1 hf
  have key := lp_seek (fun n i => fX11_first_2 N w (th r) (fun y4 => (ckC w [11] (th r)).bind fun c6 => (fX2_height N w (th r) y4).bind fun x5 => some x5) n (J (i : Int))) (fun i => some (J (cH C r i))) (cP C r) (fun i => decide (0 < cH C r i)) ?_ hf N (by omega)
  · refine Eq.trans key ?_
    unfold fH
    rw [hf]
  · intro n i hi
    try dsimp only
    have h9 := hh_le C r i
    have he : hh C r i = cH C r i := by unfold hh; rw [pl_nat C r i hi]
    rw [fX11_first_2]
    simp (disch := omega) only [jn_0, jn_1, jn_2, jn_3, jn_4, jn_5, jn_6, jn_8, jn_9, jn_10, jn_11, jn_12, jn_16, jn_20, jn_24, jn_30, jn_31, jn_32, jn_36, jn_48, jn_57, jn_59, jn_60, jn_63, jn_72, jn_73, jn_96, jn_97, jn_100, jn_122, jn_144, jn_200, jn_240, jn_288, jn_512, jn_840, jn_1200, jn_1600, jn_5040, jn_5390, jn_5400, jn_9999, jn_18688, jn_32400, jn_99999, jn_100000, jn_1000000, jn_858993459, jn_1431655765, jn_252645135, jl_0, jl_1, jl_2, jl_3, jl_8, jl_9, jl_10, jl_20, jl_27, jl_47, jl_96, jl_99, jl_100, jl_200, jl_555, jl_2000, jl_10000, jl_12345, jl_65536, jl_99999, jl_131638, jl_240023, jl_298288, jl_383153, jl_1306021, jl_1960084, jl_4147840, jl_8740238, jl_9872299, jl_175252482, jl_291595537, jl_1103515245, jl_2000000000, jl_2147483648, jl_4721686497, jl_7873079139, J_add, J_sub, J_mul, J_neg, JL_add, JL_sub, JL_mul, JL_neg, J_long, JL_int, ↓remI_fold, ↓remL_fold, Int.reduceAdd, Int.reduceSub, Int.reduceMul, Int.reduceNeg, Int.reduceToNat, hk, J_eq, castS, Option.bind_some, X_height h hr]
    simp only [decide_eq_true_iff]
    rw [he]
    by_cases h3 : 0 < cH C r i
    · rw [if_neg (by omega), if_pos h3]
    · rw [if_pos (by omega), if_neg h3]
theorem X_suitsD (h : Hc w c th C) (ho : OkC C) (hN : 1000000 ≤ N) {r t : Nat} (hr : r < cR C) (ht : t ≤ 900000) : dX2_suits N w (kc (cK C r)) (th r) c (J t) = some (Bp (¬ uns C r t = true)) := by
  have hR := cR_le C
  have hK := cK_le C r
  have h9 := hh_le C r t
  have h5 := tt_le C r t
  have h0 := @tt_self C ho r hr t
  have hf : fH C r ≤ 9 := by unfold fH; split; exact cH_le C r _; omega
  have hw := (h.2.2.2.2.2.2.2 r hr).1
  unfold dX2_suits uns
  have : cK C r = 0 ∨ cK C r = 1 ∨ cK C r = 2 ∨ cK C r = 3 ∨ cK C r = 4 := by omega
  rcases this with hk | hk | hk | hk | hk <;> rw [hk] at hw
  · rw [show kc (cK C r) = 2 by rw [hk]; rfl, if_neg (by decide), if_neg (by decide), if_neg (by decide), X_suits2 h hr ht]
    congr 1; apply Bp_congr
    rw [decide_eq_true_iff, if_neg (by omega)]
    constructor <;> intro h <;> omega
  · rw [show kc (cK C r) = 8 by rw [hk]; rfl, if_neg (by decide), if_neg (by decide), if_neg (by decide), X_suits2 h hr ht]
    congr 1; apply Bp_congr
    rw [decide_eq_true_iff, if_neg (by omega)]
    constructor <;> intro h <;> omega
  · rw [show kc (cK C r) = 9 by rw [hk]; rfl, if_pos (by decide)]
    unfold fX9_suits
    rw [ckC_of hw (by decide)]
    simp (disch := omega) only [jn_0, jn_1, jn_2, jn_3, jn_4, jn_5, jn_6, jn_8, jn_9, jn_10, jn_11, jn_12, jn_16, jn_20, jn_24, jn_30, jn_31, jn_32, jn_36, jn_48, jn_57, jn_59, jn_60, jn_63, jn_72, jn_73, jn_96, jn_97, jn_100, jn_122, jn_144, jn_200, jn_240, jn_288, jn_512, jn_840, jn_1200, jn_1600, jn_5040, jn_5390, jn_5400, jn_9999, jn_18688, jn_32400, jn_99999, jn_100000, jn_1000000, jn_858993459, jn_1431655765, jn_252645135, jl_0, jl_1, jl_2, jl_3, jl_8, jl_9, jl_10, jl_20, jl_27, jl_47, jl_96, jl_99, jl_100, jl_200, jl_555, jl_2000, jl_10000, jl_12345, jl_65536, jl_99999, jl_131638, jl_240023, jl_298288, jl_383153, jl_1306021, jl_1960084, jl_4147840, jl_8740238, jl_9872299, jl_175252482, jl_291595537, jl_1103515245, jl_2000000000, jl_2147483648, jl_4721686497, jl_7873079139, J_add, J_sub, J_mul, J_neg, JL_add, JL_sub, JL_mul, JL_neg, J_long, JL_int, ↓remI_fold, ↓remL_fold, Int.reduceAdd, Int.reduceSub, Int.reduceMul, Int.reduceNeg, Int.reduceToNat, Classical.not_not, em_t, Bp_eq0, Bp_eq1, Bp_01, Bp_mk, Bp_mk', Bp_0, Bp_0', Bp_1, Bp_1', if_true, if_false, ite_not, X_height h hr, X_suits2 h hr ht, J_lt, Option.bind_some]
    congr 1; apply Bp_congr
    rw [decide_eq_true_iff, if_neg (by omega)]
    constructor <;> intro h <;> omega
  · rw [show kc (cK C r) = 10 by rw [hk]; rfl, if_neg (by decide), if_pos (by decide)]
    unfold fX10_suits
    rw [jn_0, X_su10 h hr ht _ _ (by omega)]
    cases h' : fi (fun q => decide ((1 ≤ hh C q t ∧ hh C q t ≤ 2) ∧ tt C q t = r)) (cR C) with
    | none =>
      rw [Bp_t]; rfl
      rw [decide_eq_true_iff, if_pos (by omega)]
      intro ⟨q, hq, h1⟩
      have := (fi_none _ _).1 h' q hq
      rw [decide_eq_true_iff] at this
      exact this h1
    | some q =>
      rw [Bp_f]
      rw [decide_eq_true_iff, if_pos (by omega)]
      have ⟨a, b, _⟩ := (fi_some _ _ _).1 h'
      exact fun hn => hn ⟨q, a, decide_eq_true_iff.1 b⟩
  · rw [show kc (cK C r) = 11 by rw [hk]; rfl, if_neg (by decide), if_neg (by decide), if_pos (by decide)]
    have hk' : ckC w [11] (th r) = some 11 := ckC_of hw (by decide)
    unfold fX11_suits
    simp (disch := omega) only [jn_0, jn_1, jn_2, jn_3, jn_4, jn_5, jn_6, jn_8, jn_9, jn_10, jn_11, jn_12, jn_16, jn_20, jn_24, jn_30, jn_31, jn_32, jn_36, jn_48, jn_57, jn_59, jn_60, jn_63, jn_72, jn_73, jn_96, jn_97, jn_100, jn_122, jn_144, jn_200, jn_240, jn_288, jn_512, jn_840, jn_1200, jn_1600, jn_5040, jn_5390, jn_5400, jn_9999, jn_18688, jn_32400, jn_99999, jn_100000, jn_1000000, jn_858993459, jn_1431655765, jn_252645135, jl_0, jl_1, jl_2, jl_3, jl_8, jl_9, jl_10, jl_20, jl_27, jl_47, jl_96, jl_99, jl_100, jl_200, jl_555, jl_2000, jl_10000, jl_12345, jl_65536, jl_99999, jl_131638, jl_240023, jl_298288, jl_383153, jl_1306021, jl_1960084, jl_4147840, jl_8740238, jl_9872299, jl_175252482, jl_291595537, jl_1103515245, jl_2000000000, jl_2147483648, jl_4721686497, jl_7873079139, J_add, J_sub, J_mul, J_neg, JL_add, JL_sub, JL_mul, JL_neg, J_long, JL_int, ↓remI_fold, ↓remL_fold, Int.reduceAdd, Int.reduceSub, Int.reduceMul, Int.reduceNeg, Int.reduceToNat, Classical.not_not, em_t, Bp_eq0, Bp_eq1, Bp_01, Bp_mk, Bp_mk', Bp_0, Bp_0', Bp_1, Bp_1', if_true, if_false, ite_not, hk', X_height h hr, X_suits2 h hr ht, J_eq, Option.bind_some]
    by_cases h1 : 0 < hh C r t
    · rw [X_first h hr hk' hN h1]
      simp (disch := omega) only [jn_0, jn_1, jn_2, jn_3, jn_4, jn_5, jn_6, jn_8, jn_9, jn_10, jn_11, jn_12, jn_16, jn_20, jn_24, jn_30, jn_31, jn_32, jn_36, jn_48, jn_57, jn_59, jn_60, jn_63, jn_72, jn_73, jn_96, jn_97, jn_100, jn_122, jn_144, jn_200, jn_240, jn_288, jn_512, jn_840, jn_1200, jn_1600, jn_5040, jn_5390, jn_5400, jn_9999, jn_18688, jn_32400, jn_99999, jn_100000, jn_1000000, jn_858993459, jn_1431655765, jn_252645135, jl_0, jl_1, jl_2, jl_3, jl_8, jl_9, jl_10, jl_20, jl_27, jl_47, jl_96, jl_99, jl_100, jl_200, jl_555, jl_2000, jl_10000, jl_12345, jl_65536, jl_99999, jl_131638, jl_240023, jl_298288, jl_383153, jl_1306021, jl_1960084, jl_4147840, jl_8740238, jl_9872299, jl_175252482, jl_291595537, jl_1103515245, jl_2000000000, jl_2147483648, jl_4721686497, jl_7873079139, J_add, J_sub, J_mul, J_neg, JL_add, JL_sub, JL_mul, JL_neg, J_long, JL_int, ↓remI_fold, ↓remL_fold, Int.reduceAdd, Int.reduceSub, Int.reduceMul, Int.reduceNeg, Int.reduceToNat, Classical.not_not, em_t, Bp_eq0, Bp_eq1, Bp_01, Bp_mk, Bp_mk', Bp_0, Bp_0', Bp_1, Bp_1', if_true, if_false, ite_not, J_eq, Option.bind_some]
      congr 1; apply Bp_congr
      rw [decide_eq_true_iff, if_neg (by omega)]
      constructor <;> intro h <;> omega
    · have h2 : hh C r t = 0 := by omega
      rw [if_neg (fun h => h1 h.1), if_pos (by omega), Bp_t]
      rw [decide_eq_true_iff, if_neg (by omega)]
      intro h; omega
theorem X_firstUnsuited (hg : gR w [0] o 0 = some c) (h : Hc w c th C) (ho : OkC C) (hN : 1000000 ≤ N) {r : Nat} (hr : r < cR C) : fX0_firstUnsuited N w o (J r) = some (J (fU C r)) := by
  have hp := rnd_bd C
  have hR := cR_le C
  unfold fX0_firstUnsuited
  simp (disch := omega) only [jn_0, jn_1, jn_2, jn_3, jn_4, jn_5, jn_6, jn_8, jn_9, jn_10, jn_11, jn_12, jn_16, jn_20, jn_24, jn_30, jn_31, jn_32, jn_36, jn_48, jn_57, jn_59, jn_60, jn_63, jn_72, jn_73, jn_96, jn_97, jn_100, jn_122, jn_144, jn_200, jn_240, jn_288, jn_512, jn_840, jn_1200, jn_1600, jn_5040, jn_5390, jn_5400, jn_9999, jn_18688, jn_32400, jn_99999, jn_100000, jn_1000000, jn_858993459, jn_1431655765, jn_252645135, jl_0, jl_1, jl_2, jl_3, jl_8, jl_9, jl_10, jl_20, jl_27, jl_47, jl_96, jl_99, jl_100, jl_200, jl_555, jl_2000, jl_10000, jl_12345, jl_65536, jl_99999, jl_131638, jl_240023, jl_298288, jl_383153, jl_1306021, jl_1960084, jl_4147840, jl_8740238, jl_9872299, jl_175252482, jl_291595537, jl_1103515245, jl_2000000000, jl_2147483648, jl_4721686497, jl_7873079139, J_add, J_sub, J_mul, J_neg, JL_add, JL_sub, JL_mul, JL_neg, J_long, JL_int, ↓remI_fold, ↓remL_fold, Int.reduceAdd, Int.reduceSub, Int.reduceMul, Int.reduceNeg, Int.reduceToNat, hg, hc_0 h, hc_1 h, hc_2 h, hc_3 h, hc_4 h, hc_5 h, hc_7 h, hc_8 h, hc_9 h, hc_10 h, hc_11 h, hc_12 h, hc_k h, hc_at h, Int.toNat_natCast, X_round h, Option.bind_some]
  have key := lp_find (fun n i => fX0_firstUnsuited_12 N w o (J r) (J (2 * (rnd C : Int))) (fun y => some y) (some (J (-1))) n (J (i : Int))) (fun i => some (J i)) (some (J (-1))) (2 * rnd C) (uns C r) ?_ ?_ N (by omega)
  · refine Eq.trans key ?_
    unfold fU
    cases fi (uns C r) (2 * rnd C) <;> rfl
  · intro n i hi
    try dsimp only
    rw [fX0_firstUnsuited_12]
    simp (disch := omega) only [jn_0, jn_1, jn_2, jn_3, jn_4, jn_5, jn_6, jn_8, jn_9, jn_10, jn_11, jn_12, jn_16, jn_20, jn_24, jn_30, jn_31, jn_32, jn_36, jn_48, jn_57, jn_59, jn_60, jn_63, jn_72, jn_73, jn_96, jn_97, jn_100, jn_122, jn_144, jn_200, jn_240, jn_288, jn_512, jn_840, jn_1200, jn_1600, jn_5040, jn_5390, jn_5400, jn_9999, jn_18688, jn_32400, jn_99999, jn_100000, jn_1000000, jn_858993459, jn_1431655765, jn_252645135, jl_0, jl_1, jl_2, jl_3, jl_8, jl_9, jl_10, jl_20, jl_27, jl_47, jl_96, jl_99, jl_100, jl_200, jl_555, jl_2000, jl_10000, jl_12345, jl_65536, jl_99999, jl_131638, jl_240023, jl_298288, jl_383153, jl_1306021, jl_1960084, jl_4147840, jl_8740238, jl_9872299, jl_175252482, jl_291595537, jl_1103515245, jl_2000000000, jl_2147483648, jl_4721686497, jl_7873079139, J_add, J_sub, J_mul, J_neg, JL_add, JL_sub, JL_mul, JL_neg, J_long, JL_int, ↓remI_fold, ↓remL_fold, Int.reduceAdd, Int.reduceSub, Int.reduceMul, Int.reduceNeg, Int.reduceToNat, Classical.not_not, em_t, Bp_eq0, Bp_eq1, Bp_01, Bp_mk, Bp_mk', Bp_0, Bp_0', Bp_1, Bp_1', if_true, if_false, ite_not, hg, hc_0 h, hc_1 h, hc_2 h, hc_3 h, hc_4 h, hc_5 h, hc_7 h, hc_8 h, hc_9 h, hc_10 h, hc_11 h, hc_12 h, hc_k h, hc_at h, Int.toNat_natCast, ht_k h hr, J_le, castS, Option.bind_some, X_suitsD h ho hN hr]
    rw [if_neg (by omega)]
  · intro n
    try dsimp only
    rw [fX0_firstUnsuited_12]
    simp (disch := omega) only [jn_0, jn_1, jn_2, jn_3, jn_4, jn_5, jn_6, jn_8, jn_9, jn_10, jn_11, jn_12, jn_16, jn_20, jn_24, jn_30, jn_31, jn_32, jn_36, jn_48, jn_57, jn_59, jn_60, jn_63, jn_72, jn_73, jn_96, jn_97, jn_100, jn_122, jn_144, jn_200, jn_240, jn_288, jn_512, jn_840, jn_1200, jn_1600, jn_5040, jn_5390, jn_5400, jn_9999, jn_18688, jn_32400, jn_99999, jn_100000, jn_1000000, jn_858993459, jn_1431655765, jn_252645135, jl_0, jl_1, jl_2, jl_3, jl_8, jl_9, jl_10, jl_20, jl_27, jl_47, jl_96, jl_99, jl_100, jl_200, jl_555, jl_2000, jl_10000, jl_12345, jl_65536, jl_99999, jl_131638, jl_240023, jl_298288, jl_383153, jl_1306021, jl_1960084, jl_4147840, jl_8740238, jl_9872299, jl_175252482, jl_291595537, jl_1103515245, jl_2000000000, jl_2147483648, jl_4721686497, jl_7873079139, J_add, J_sub, J_mul, J_neg, JL_add, JL_sub, JL_mul, JL_neg, J_long, JL_int, ↓remI_fold, ↓remL_fold, Int.reduceAdd, Int.reduceSub, Int.reduceMul, Int.reduceNeg, Int.reduceToNat, Classical.not_not, em_t, Bp_eq0, Bp_eq1, Bp_01, Bp_mk, Bp_mk', Bp_0, Bp_0', Bp_1, Bp_1', if_true, if_false, ite_not, hg, hc_0 h, hc_1 h, hc_2 h, hc_3 h, hc_4 h, hc_5 h, hc_7 h, hc_8 h, hc_9 h, hc_10 h, hc_11 h, hc_12 h, hc_k h, hc_at h, Int.toNat_natCast, ht_k h hr, J_le, castS, Option.bind_some]
    rw [if_pos (by omega)]
theorem X_unsuited (hg : gR w [0] o 0 = some c) (h : Hc w c th C) (ho : OkC C) (hN : 1000000 ≤ N) {v : Int} (hv : -2147483648 ≤ v ∧ v ≤ 2147483647) : fX0_unsuited N w o (J v) = some (J (sp_unsuited C v)) := by
  have hR := cR_le C
  unfold fX0_unsuited sp_unsuited
  simp (disch := omega) only [jn_0, jn_1, jn_2, jn_3, jn_4, jn_5, jn_6, jn_8, jn_9, jn_10, jn_11, jn_12, jn_16, jn_20, jn_24, jn_30, jn_31, jn_32, jn_36, jn_48, jn_57, jn_59, jn_60, jn_63, jn_72, jn_73, jn_96, jn_97, jn_100, jn_122, jn_144, jn_200, jn_240, jn_288, jn_512, jn_840, jn_1200, jn_1600, jn_5040, jn_5390, jn_5400, jn_9999, jn_18688, jn_32400, jn_99999, jn_100000, jn_1000000, jn_858993459, jn_1431655765, jn_252645135, jl_0, jl_1, jl_2, jl_3, jl_8, jl_9, jl_10, jl_20, jl_27, jl_47, jl_96, jl_99, jl_100, jl_200, jl_555, jl_2000, jl_10000, jl_12345, jl_65536, jl_99999, jl_131638, jl_240023, jl_298288, jl_383153, jl_1306021, jl_1960084, jl_4147840, jl_8740238, jl_9872299, jl_175252482, jl_291595537, jl_1103515245, jl_2000000000, jl_2147483648, jl_4721686497, jl_7873079139, J_add, J_sub, J_mul, J_neg, JL_add, JL_sub, JL_mul, JL_neg, J_long, JL_int, ↓remI_fold, ↓remL_fold, Int.reduceAdd, Int.reduceSub, Int.reduceMul, Int.reduceNeg, Int.reduceToNat, Classical.not_not, em_t, Bp_eq0, Bp_eq1, Bp_01, Bp_mk, Bp_mk', Bp_0, Bp_0', Bp_1, Bp_1', if_true, if_false, ite_not, Option.bind_some, X_isRoof hg h]
  by_cases h1 : 0 ≤ v ∧ v < cR C
  case neg => simp only [if_neg h1, ite_self]
  simp only [if_pos h1]
  obtain ⟨r, hr⟩ : ∃ r : Nat, v = r := ⟨v.toNat, by omega⟩
  subst hr
  simp (disch := omega) only [X_firstUnsuited hg h ho hN (show r < cR C by omega), Option.bind_some, Int.toNat_natCast]
theorem X_suits (hg : gR w [0] o 0 = some c) (h : Hc w c th C) (ho : OkC C) (hN : 1000000 ≤ N) {v : Int} (hv : -2147483648 ≤ v ∧ v ≤ 2147483647) : fX0_suits N w o (J v) = some (J (sp_suits C v)) := by
  have hR := cR_le C
  unfold fX0_suits sp_suits
  simp (disch := omega) only [jn_0, jn_1, jn_2, jn_3, jn_4, jn_5, jn_6, jn_8, jn_9, jn_10, jn_11, jn_12, jn_16, jn_20, jn_24, jn_30, jn_31, jn_32, jn_36, jn_48, jn_57, jn_59, jn_60, jn_63, jn_72, jn_73, jn_96, jn_97, jn_100, jn_122, jn_144, jn_200, jn_240, jn_288, jn_512, jn_840, jn_1200, jn_1600, jn_5040, jn_5390, jn_5400, jn_9999, jn_18688, jn_32400, jn_99999, jn_100000, jn_1000000, jn_858993459, jn_1431655765, jn_252645135, jl_0, jl_1, jl_2, jl_3, jl_8, jl_9, jl_10, jl_20, jl_27, jl_47, jl_96, jl_99, jl_100, jl_200, jl_555, jl_2000, jl_10000, jl_12345, jl_65536, jl_99999, jl_131638, jl_240023, jl_298288, jl_383153, jl_1306021, jl_1960084, jl_4147840, jl_8740238, jl_9872299, jl_175252482, jl_291595537, jl_1103515245, jl_2000000000, jl_2147483648, jl_4721686497, jl_7873079139, J_add, J_sub, J_mul, J_neg, JL_add, JL_sub, JL_mul, JL_neg, J_long, JL_int, ↓remI_fold, ↓remL_fold, Int.reduceAdd, Int.reduceSub, Int.reduceMul, Int.reduceNeg, Int.reduceToNat, Classical.not_not, em_t, Bp_eq0, Bp_eq1, Bp_01, Bp_mk, Bp_mk', Bp_0, Bp_0', Bp_1, Bp_1', if_true, if_false, ite_not, Option.bind_some, X_isRoof hg h]
  by_cases h1 : 0 ≤ v ∧ v < cR C
  case neg => simp only [if_neg h1, ite_self]
  simp only [if_pos h1]
  obtain ⟨r, hr⟩ : ∃ r : Nat, v = r := ⟨v.toNat, by omega⟩
  subst hr
  have hb := fU_bd C r
  simp (disch := omega) only [X_firstUnsuited hg h ho hN (show r < cR C by omega), Option.bind_some, Int.toNat_natCast, J_eq]
  by_cases h : fU C r = -1
  · rw [if_pos h, Bp_t h]
  · rw [if_neg h, Bp_f h]
end
