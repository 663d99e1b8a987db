/-! the reference: questions about rows, 2 -/
set_option maxRecDepth 100000
section
variable {N o : Nat} {S : MS} {w : Wd} {C : Cy}
theorem M_lands47 (hG : GdM S 0 C) {q : Nat} (hq : q < cR C) {r : Nat} (hr : r ≤ 9) {b : Int} (hb : -900000 ≤ b ∧ b ≤ 900000) (kf : Int32 → Option (Int32 × Wd)) (ke : Option (Int32 × Wd)) {n : Nat} (hn : 9 < n) : fX5_lands_47 N (emM o S w) o (J r) (J b) (J q) kf ke n (J 1) = match fi (fun h => lnd C r b q h) 9 with | some h => kf (J (1 + h)) | none => ke := by
  have key := lp_find (fun n i => fX5_lands_47 N (emM o S w) o (J r) (J b) (J q) kf ke n (J (1 + (i : Int)))) (fun h => kf (J (1 + h))) ke (9) (fun h => lnd C r b q h) ?_ ?_ n (by omega)
  · exact key
  · intro n i hi
    try dsimp only
    have h9 := hh_le C q (b - (1 + i))
    have h5 := tt_le C q (b - (1 + i))
    rw [fX5_lands_47]
    simp (disch := omega) only [jn_0, jn_1, jn_2, jn_3, jn_4, jn_5, jn_6, jn_8, jn_9, jn_10, jn_11, jn_12, jn_16, jn_20, jn_24, jn_30, jn_31, jn_32, jn_36, jn_48, jn_57, jn_59, jn_60, jn_63, jn_72, jn_73, jn_96, jn_97, jn_100, jn_122, jn_144, jn_200, jn_240, jn_288, jn_512, jn_840, jn_1200, jn_1600, jn_5040, jn_5390, jn_5400, jn_9999, jn_18688, jn_32400, jn_99999, jn_100000, jn_1000000, jn_858993459, jn_1431655765, jn_252645135, jl_0, jl_1, jl_2, jl_3, jl_8, jl_9, jl_10, jl_20, jl_27, jl_47, jl_96, jl_99, jl_100, jl_200, jl_555, jl_2000, jl_10000, jl_12345, jl_65536, jl_99999, jl_131638, jl_240023, jl_298288, jl_383153, jl_1306021, jl_1960084, jl_4147840, jl_8740238, jl_9872299, jl_175252482, jl_291595537, jl_1103515245, jl_2000000000, jl_2147483648, jl_4721686497, jl_7873079139, J_add, J_sub, J_mul, J_neg, JL_add, JL_sub, JL_mul, JL_neg, J_long, JL_int, ↓remI_fold, ↓remL_fold, Int.reduceAdd, Int.reduceSub, Int.reduceMul, Int.reduceNeg, Int.reduceToNat, J_lt, J_eq, Option.bind_some, M_highOf hG hq, M_toOf hG hq]
    rw [if_neg (by omega), show 1 + (i : Int) + 1 = 1 + ((i + 1 : Nat) : Int) by omega]
    unfold lnd
    by_cases h1 : hh C q (b - (1 + i)) = 1 + i
    · rw [if_pos (by omega)]
      by_cases h2 : tt C q (b - (1 + i)) = r
      · rw [if_pos (by omega), if_pos (decide_eq_true_iff.2 ⟨h1, h2⟩)]
      · rw [if_neg (by omega), if_neg (fun h => h2 (decide_eq_true_iff.1 h).2)]
    · rw [if_neg (by omega), if_neg (fun h => h1 (decide_eq_true_iff.1 h).1)]
  · intro n
    try dsimp only
    rw [fX5_lands_47]
    simp (disch := omega) only [jn_0, jn_1, jn_2, jn_3, jn_4, jn_5, jn_6, jn_8, jn_9, jn_10, jn_11, jn_12, jn_16, jn_20, jn_24, jn_30, jn_31, jn_32, jn_36, jn_48, jn_57, jn_59, jn_60, jn_63, jn_72, jn_73, jn_96, jn_97, jn_100, jn_122, jn_144, jn_200, jn_240, jn_288, jn_512, jn_840, jn_1200, jn_1600, jn_5040, jn_5390, jn_5400, jn_9999, jn_18688, jn_32400, jn_99999, jn_100000, jn_1000000, jn_858993459, jn_1431655765, jn_252645135, jl_0, jl_1, jl_2, jl_3, jl_8, jl_9, jl_10, jl_20, jl_27, jl_47, jl_96, jl_99, jl_100, jl_200, jl_555, jl_2000, jl_10000, jl_12345, jl_65536, jl_99999, jl_131638, jl_240023, jl_298288, jl_383153, jl_1306021, jl_1960084, jl_4147840, jl_8740238, jl_9872299, jl_175252482, jl_291595537, jl_1103515245, jl_2000000000, jl_2147483648, jl_4721686497, jl_7873079139, J_add, J_sub, J_mul, J_neg, JL_add, JL_sub, JL_mul, JL_neg, J_long, JL_int, ↓remI_fold, ↓remL_fold, Int.reduceAdd, Int.reduceSub, Int.reduceMul, Int.reduceNeg, Int.reduceToNat, J_lt, J_eq, Option.bind_some]
    rw [if_pos (by omega)]
theorem M_lands (hG : GdM S 0 C) (hN : 1000000 ≤ N) {v b : Int} (hv : -2147483648 ≤ v ∧ v ≤ 2147483647) (hb : -2147483648 ≤ b ∧ b ≤ 2147483647) : fX5_lands N (emM o S w) o (J v) (J b) = some (J (sp_lands C v b), emM o (mSI S 0 (J 0)) w) := by
  have hG' : GdM (mSI S 0 (J 0)) 0 C := hG
  have hR := cR_le C
  unfold fX5_lands sp_lands
  simp (disch := omega) only [jn_0, jn_1, jn_2, jn_3, jn_4, jn_5, jn_6, jn_8, jn_9, jn_10, jn_11, jn_12, jn_16, jn_20, jn_24, jn_30, jn_31, jn_32, jn_36, jn_48, jn_57, jn_59, jn_60, jn_63, jn_72, jn_73, jn_96, jn_97, jn_100, jn_122, jn_144, jn_200, jn_240, jn_288, jn_512, jn_840, jn_1200, jn_1600, jn_5040, jn_5390, jn_5400, jn_9999, jn_18688, jn_32400, jn_99999, jn_100000, jn_1000000, jn_858993459, jn_1431655765, jn_252645135, jl_0, jl_1, jl_2, jl_3, jl_8, jl_9, jl_10, jl_20, jl_27, jl_47, jl_96, jl_99, jl_100, jl_200, jl_555, jl_2000, jl_10000, jl_12345, jl_65536, jl_99999, jl_131638, jl_240023, jl_298288, jl_383153, jl_1306021, jl_1960084, jl_4147840, jl_8740238, jl_9872299, jl_175252482, jl_291595537, jl_1103515245, jl_2000000000, jl_2147483648, jl_4721686497, jl_7873079139, J_add, J_sub, J_mul, J_neg, JL_add, JL_sub, JL_mul, JL_neg, J_long, JL_int, ↓remI_fold, ↓remL_fold, Int.reduceAdd, Int.reduceSub, Int.reduceMul, Int.reduceNeg, Int.reduceToNat, Classical.not_not, em_t, Bp_eq0, Bp_eq1, Bp_01, Bp_mk, Bp_mk', Bp_0, Bp_0', Bp_1, Bp_1', if_true, if_false, ite_not, mp_0, mp_6, mp_7, mp_8, mp_9, mp_10, mp_11, mp_12, mp_13, mp_14, mp_15, mp_26, mp_30, mp_31, mp_35, mp_36, mp_37, mp_41, mp_43, mp_44, mp_45, Option.bind_some, M_isBeat, M_isRoof hG', M_isUp hG']
  by_cases h1 : 0 ≤ v ∧ v < cR C
  case neg => simp only [if_neg h1, ite_self]
  simp only [if_pos h1]
  by_cases h2 : 0 ≤ b ∧ b ≤ 99999
  case neg => simp only [if_neg h2, ite_self]
  simp only [if_pos h2]
  by_cases h3 : kp C = true
  case neg => simp only [if_neg h3, ite_self]
  simp only [if_pos h3]
  obtain ⟨r, hr⟩ : ∃ r : Nat, v = r := ⟨v.toNat, by omega⟩
  subst hr
  simp only [Int.toNat_natCast]
  have key := lp_find (fun n i => fX5_lands_34 N (emM o (mSI S 0 (J 0)) w) o (J r) (J b) (fun y13 y14 => some ((J 10 * y14) + y13, emM o (mSI S 0 (J 0)) w)) (some (J (-1), emM o (mSI S 0 (J 0)) w)) n (J (i : Int))) (fun q => match fi (fun h => lnd C r b q h) 9 with | some h => some (J (10 * (1 + h) + q), emM o (mSI S 0 (J 0)) w) | none => none) (some (J (-1), emM o (mSI S 0 (J 0)) w)) (cR C) (fun q => (fi (fun h => lnd C r b q h) 9).isSome) ?_ ?_ N (by omega)
  · refine Eq.trans key ?_
    unfold ldM
    cases h : fi (fun q => (fi (fun h => lnd C r b q h) 9).isSome) (cR C) with
    | none => rfl
    | some q =>
      have hq := ((fi_some _ _ _).1 h).2.1
      simp only [Option.bind_some]
      cases h' : fi (fun h => lnd C r b q h) 9 with
      | none => rw [h'] at hq; cases hq
      | some r => rfl
  · intro n i hi
    try dsimp only
    rw [fX5_lands_34]
    simp (disch := omega) only [jn_0, jn_1, jn_2, jn_3, jn_4, jn_5, jn_6, jn_8, jn_9, jn_10, jn_11, jn_12, jn_16, jn_20, jn_24, jn_30, jn_31, jn_32, jn_36, jn_48, jn_57, jn_59, jn_60, jn_63, jn_72, jn_73, jn_96, jn_97, jn_100, jn_122, jn_144, jn_200, jn_240, jn_288, jn_512, jn_840, jn_1200, jn_1600, jn_5040, jn_5390, jn_5400, jn_9999, jn_18688, jn_32400, jn_99999, jn_100000, jn_1000000, jn_858993459, jn_1431655765, jn_252645135, jl_0, jl_1, jl_2, jl_3, jl_8, jl_9, jl_10, jl_20, jl_27, jl_47, jl_96, jl_99, jl_100, jl_200, jl_555, jl_2000, jl_10000, jl_12345, jl_65536, jl_99999, jl_131638, jl_240023, jl_298288, jl_383153, jl_1306021, jl_1960084, jl_4147840, jl_8740238, jl_9872299, jl_175252482, jl_291595537, jl_1103515245, jl_2000000000, jl_2147483648, jl_4721686497, jl_7873079139, J_add, J_sub, J_mul, J_neg, JL_add, JL_sub, JL_mul, JL_neg, J_long, JL_int, ↓remI_fold, ↓remL_fold, Int.reduceAdd, Int.reduceSub, Int.reduceMul, Int.reduceNeg, Int.reduceToNat, mg_0, mg_1, mg_2, mg_3, mg_4, mg_5, mg_6, mg_7, mg_8, mg_9, mg_10, mg_11, mg_12, mg_13, mg_14, mg_15, mg_16, mg_17, mg_18, mg_19, mg_20, mg_21, mg_22, mg_23, mg_24, mg_25, mg_26, mg_27, mg_28, mg_29, mg_30, mg_31, mg_32, mg_33, mg_34, mg_35, mg_36, mg_37, mg_38, mg_39, mg_40, mg_41, mg_42, mg_43, mg_44, mg_45, mr_1, mr_2, mr_3, mr_4, mr_5, mr_6, mr_7, mr_8, mr_9, mr_10, mr_11, mr_12, mr_13, mr_14, mr_15, mr_16, mr_17, mr_18, mr_19, mr_20, mr_21, mr_22, mr_23, mr_24, mr_25, gm_R hG', J_le, castS, Option.bind_some]
    rw [if_neg (by omega), M_lands47 hG' hi (by omega) (by omega) _ _ (by omega)]
    cases fi (fun h => lnd C r b i h) 9 with
    | none => rfl
    | some h => simp only [jn_0, jn_1, jn_2, jn_3, jn_4, jn_5, jn_6, jn_8, jn_9, jn_10, jn_11, jn_12, jn_16, jn_20, jn_24, jn_30, jn_31, jn_32, jn_36, jn_48, jn_57, jn_59, jn_60, jn_63, jn_72, jn_73, jn_96, jn_97, jn_100, jn_122, jn_144, jn_200, jn_240, jn_288, jn_512, jn_840, jn_1200, jn_1600, jn_5040, jn_5390, jn_5400, jn_9999, jn_18688, jn_32400, jn_99999, jn_100000, jn_1000000, jn_858993459, jn_1431655765, jn_252645135, jl_0, jl_1, jl_2, jl_3, jl_8, jl_9, jl_10, jl_20, jl_27, jl_47, jl_96, jl_99, jl_100, jl_200, jl_555, jl_2000, jl_10000, jl_12345, jl_65536, jl_99999, jl_131638, jl_240023, jl_298288, jl_383153, jl_1306021, jl_1960084, jl_4147840, jl_8740238, jl_9872299, jl_175252482, jl_291595537, jl_1103515245, jl_2000000000, jl_2147483648, jl_4721686497, jl_7873079139, J_add, J_sub, J_mul, J_neg, JL_add, JL_sub, JL_mul, JL_neg, J_long, JL_int, ↓remI_fold, ↓remL_fold, Int.reduceAdd, Int.reduceSub, Int.reduceMul, Int.reduceNeg, Int.reduceToNat]; rfl
  · intro n
    try dsimp only
    rw [fX5_lands_34]
    simp (disch := omega) only [jn_0, jn_1, jn_2, jn_3, jn_4, jn_5, jn_6, jn_8, jn_9, jn_10, jn_11, jn_12, jn_16, jn_20, jn_24, jn_30, jn_31, jn_32, jn_36, jn_48, jn_57, jn_59, jn_60, jn_63, jn_72, jn_73, jn_96, jn_97, jn_100, jn_122, jn_144, jn_200, jn_240, jn_288, jn_512, jn_840, jn_1200, jn_1600, jn_5040, jn_5390, jn_5400, jn_9999, jn_18688, jn_32400, jn_99999, jn_100000, jn_1000000, jn_858993459, jn_1431655765, jn_252645135, jl_0, jl_1, jl_2, jl_3, jl_8, jl_9, jl_10, jl_20, jl_27, jl_47, jl_96, jl_99, jl_100, jl_200, jl_555, jl_2000, jl_10000, jl_12345, jl_65536, jl_99999, jl_131638, jl_240023, jl_298288, jl_383153, jl_1306021, jl_1960084, jl_4147840, jl_8740238, jl_9872299, jl_175252482, jl_291595537, jl_1103515245, jl_2000000000, jl_2147483648, jl_4721686497, jl_7873079139, J_add, J_sub, J_mul, J_neg, JL_add, JL_sub, JL_mul, JL_neg, J_long, JL_int, ↓remI_fold, ↓remL_fold, Int.reduceAdd, Int.reduceSub, Int.reduceMul, Int.reduceNeg, Int.reduceToNat, mg_0, mg_1, mg_2, mg_3, mg_4, mg_5, mg_6, mg_7, mg_8, mg_9, mg_10, mg_11, mg_12, mg_13, mg_14, mg_15, mg_16, mg_17, mg_18, mg_19, mg_20, mg_21, mg_22, mg_23, mg_24, mg_25, mg_26, mg_27, mg_28, mg_29, mg_30, mg_31, mg_32, mg_33, mg_34, mg_35, mg_36, mg_37, mg_38, mg_39, mg_40, mg_41, mg_42, mg_43, mg_44, mg_45, mr_1, mr_2, mr_3, mr_4, mr_5, mr_6, mr_7, mr_8, mr_9, mr_10, mr_11, mr_12, mr_13, mr_14, mr_15, mr_16, mr_17, mr_18, mr_19, mr_20, mr_21, mr_22, mr_23, mr_24, mr_25, gm_R hG', J_le, castS, Option.bind_some]
    rw [if_pos (by omega)]
theorem M_isPair (hG : GdM S 0 C) (hN : 1000000 ≤ N) {a b : Nat} (ha : a ≤ 9) (hb : b ≤ 9) : fX5_isPair N (emM o S w) o (J a) (J b) = some (Bp (isX C a b = true)) := by
  have hX := cX_le C
  unfold fX5_isPair
  have key := lp_find (fun n i => fX5_isPair_2 N (emM o S w) o (J a) (J b) (some (J 1)) (some (J 0)) n (J (i : Int))) (fun _ => some (J 1)) (some (J 0)) (cX C) (fun k => decide (cLo C k = a ∧ cHi C k = b)) ?_ ?_ N (by omega)
  · refine Eq.trans key ?_
    unfold isX
    cases fi (fun k => decide (cLo C k = a ∧ cHi C k = b)) (cX C) <;> rfl
  · intro n i hi
    try dsimp only
    have h1 := cLo_le C i
    have h2 := cHi_le C i
    rw [fX5_isPair_2]
    simp (disch := omega) only [jn_0, jn_1, jn_2, jn_3, jn_4, jn_5, jn_6, jn_8, jn_9, jn_10, jn_11, jn_12, jn_16, jn_20, jn_24, jn_30, jn_31, jn_32, jn_36, jn_48, jn_57, jn_59, jn_60, jn_63, jn_72, jn_73, jn_96, jn_97, jn_100, jn_122, jn_144, jn_200, jn_240, jn_288, jn_512, jn_840, jn_1200, jn_1600, jn_5040, jn_5390, jn_5400, jn_9999, jn_18688, jn_32400, jn_99999, jn_100000, jn_1000000, jn_858993459, jn_1431655765, jn_252645135, jl_0, jl_1, jl_2, jl_3, jl_8, jl_9, jl_10, jl_20, jl_27, jl_47, jl_96, jl_99, jl_100, jl_200, jl_555, jl_2000, jl_10000, jl_12345, jl_65536, jl_99999, jl_131638, jl_240023, jl_298288, jl_383153, jl_1306021, jl_1960084, jl_4147840, jl_8740238, jl_9872299, jl_175252482, jl_291595537, jl_1103515245, jl_2000000000, jl_2147483648, jl_4721686497, jl_7873079139, J_add, J_sub, J_mul, J_neg, JL_add, JL_sub, JL_mul, JL_neg, J_long, JL_int, ↓remI_fold, ↓remL_fold, Int.reduceAdd, Int.reduceSub, Int.reduceMul, Int.reduceNeg, Int.reduceToNat, mg_0, mg_1, mg_2, mg_3, mg_4, mg_5, mg_6, mg_7, mg_8, mg_9, mg_10, mg_11, mg_12, mg_13, mg_14, mg_15, mg_16, mg_17, mg_18, mg_19, mg_20, mg_21, mg_22, mg_23, mg_24, mg_25, mg_26, mg_27, mg_28, mg_29, mg_30, mg_31, mg_32, mg_33, mg_34, mg_35, mg_36, mg_37, mg_38, mg_39, mg_40, mg_41, mg_42, mg_43, mg_44, mg_45, mr_1, mr_2, mr_3, mr_4, mr_5, mr_6, mr_7, mr_8, mr_9, mr_10, mr_11, mr_12, mr_13, mr_14, mr_15, mr_16, mr_17, mr_18, mr_19, mr_20, mr_21, mr_22, mr_23, mr_24, mr_25, gm_X hG, J_le, J_eq, castS, Option.bind_some]
    rw [if_neg (by omega), show (2 * (i : Int)).toNat = 2 * i by omega, show (2 * (i : Int) + 1).toNat = 2 * i + 1 by omega]
    simp (disch := omega) only [gm_Lo hG hi, gm_Hi hG hi, J_eq, castE, decide_eq_true_iff]
    by_cases h3 : cLo C i = a
    · rw [if_pos h3]
      by_cases h4 : cHi C i = b
      · rw [if_pos h4, if_pos ⟨h3, h4⟩]
      · rw [if_neg h4, if_neg (fun h => h4 h.2)]
    · rw [if_neg h3, if_neg (fun h => h3 h.1)]
  · intro n
    try dsimp only
    rw [fX5_isPair_2]
    simp (disch := omega) only [jn_0, jn_1, jn_2, jn_3, jn_4, jn_5, jn_6, jn_8, jn_9, jn_10, jn_11, jn_12, jn_16, jn_20, jn_24, jn_30, jn_31, jn_32, jn_36, jn_48, jn_57, jn_59, jn_60, jn_63, jn_72, jn_73, jn_96, jn_97, jn_100, jn_122, jn_144, jn_200, jn_240, jn_288, jn_512, jn_840, jn_1200, jn_1600, jn_5040, jn_5390, jn_5400, jn_9999, jn_18688, jn_32400, jn_99999, jn_100000, jn_1000000, jn_858993459, jn_1431655765, jn_252645135, jl_0, jl_1, jl_2, jl_3, jl_8, jl_9, jl_10, jl_20, jl_27, jl_47, jl_96, jl_99, jl_100, jl_200, jl_555, jl_2000, jl_10000, jl_12345, jl_65536, jl_99999, jl_131638, jl_240023, jl_298288, jl_383153, jl_1306021, jl_1960084, jl_4147840, jl_8740238, jl_9872299, jl_175252482, jl_291595537, jl_1103515245, jl_2000000000, jl_2147483648, jl_4721686497, jl_7873079139, J_add, J_sub, J_mul, J_neg, JL_add, JL_sub, JL_mul, JL_neg, J_long, JL_int, ↓remI_fold, ↓remL_fold, Int.reduceAdd, Int.reduceSub, Int.reduceMul, Int.reduceNeg, Int.reduceToNat, mg_0, mg_1, mg_2, mg_3, mg_4, mg_5, mg_6, mg_7, mg_8, mg_9, mg_10, mg_11, mg_12, mg_13, mg_14, mg_15, mg_16, mg_17, mg_18, mg_19, mg_20, mg_21, mg_22, mg_23, mg_24, mg_25, mg_26, mg_27, mg_28, mg_29, mg_30, mg_31, mg_32, mg_33, mg_34, mg_35, mg_36, mg_37, mg_38, mg_39, mg_40, mg_41, mg_42, mg_43, mg_44, mg_45, mr_1, mr_2, mr_3, mr_4, mr_5, mr_6, mr_7, mr_8, mr_9, mr_10, mr_11, mr_12, mr_13, mr_14, mr_15, mr_16, mr_17, mr_18, mr_19, mr_20, mr_21, mr_22, mr_23, mr_24, mr_25, gm_X hG, J_le, J_eq, castS, Option.bind_some]
    rw [if_pos (by omega)]
theorem M_cr66 (hG : GdM S 0 C) (hN : 1000000 ≤ N) {t a : Nat} (ht : t ≤ 840) (ha : a < cR C) (x y : Int32) (k : Int32 → Int32 → Option (Int32 × Wd)) {n : Nat} (hn : 6 < n) (s : Int × Int) (hs : -1 ≤ s.2 ∧ s.2 ≤ 100000) : fX5_crossings_66 N (emM o S w) o x y (J t) (J a) k n (J s.1) (J s.2) (J ((a + 1 : Nat) : Int)) = k (J (crA C t a s).1) (J (crA C t a s).2) ∧ -1 ≤ (crA C t a s).2 ∧ (crA C t a s).2 ≤ 100000 := by
  have hR := cR_le C
  have key := lp_fold (fun n i (s : Int × Int) => fX5_crossings_66 N (emM o S w) o x y (J t) (J a) k n (J s.1) (J s.2) (J ((a + 1 + i : Nat) : Int))) (fun s => k (J s.1) (J s.2)) (cR C - (a + 1)) (fun j s => crS C t a (a + 1 + j) s) (fun _ s => -1 ≤ s.2 ∧ s.2 ≤ 100000) ?_ ?_ n s (by omega) hs
  · exact key
  · intro n i s hi hI
    try dsimp only
    have hi' : a + 1 + i < cR C := by omega
    have h5 := tt_le C a t
    have h6 := tt_le C (a + 1 + i) t
    refine ⟨?_, ?_⟩
    rotate_left
    unfold crS
    split
    · simp only; split <;> omega
    · exact hI
    rw [fX5_crossings_66]
    simp (disch := omega) only [jn_0, jn_1, jn_2, jn_3, jn_4, jn_5, jn_6, jn_8, jn_9, jn_10, jn_11, jn_12, jn_16, jn_20, jn_24, jn_30, jn_31, jn_32, jn_36, jn_48, jn_57, jn_59, jn_60, jn_63, jn_72, jn_73, jn_96, jn_97, jn_100, jn_122, jn_144, jn_200, jn_240, jn_288, jn_512, jn_840, jn_1200, jn_1600, jn_5040, jn_5390, jn_5400, jn_9999, jn_18688, jn_32400, jn_99999, jn_100000, jn_1000000, jn_858993459, jn_1431655765, jn_252645135, jl_0, jl_1, jl_2, jl_3, jl_8, jl_9, jl_10, jl_20, jl_27, jl_47, jl_96, jl_99, jl_100, jl_200, jl_555, jl_2000, jl_10000, jl_12345, jl_65536, jl_99999, jl_131638, jl_240023, jl_298288, jl_383153, jl_1306021, jl_1960084, jl_4147840, jl_8740238, jl_9872299, jl_175252482, jl_291595537, jl_1103515245, jl_2000000000, jl_2147483648, jl_4721686497, jl_7873079139, J_add, J_sub, J_mul, J_neg, JL_add, JL_sub, JL_mul, JL_neg, J_long, JL_int, ↓remI_fold, ↓remL_fold, Int.reduceAdd, Int.reduceSub, Int.reduceMul, Int.reduceNeg, Int.reduceToNat, Classical.not_not, em_t, Bp_eq0, Bp_eq1, Bp_01, Bp_mk, Bp_mk', Bp_0, Bp_0', Bp_1, Bp_1', if_true, if_false, ite_not, mg_0, mg_1, mg_2, mg_3, mg_4, mg_5, mg_6, mg_7, mg_8, mg_9, mg_10, mg_11, mg_12, mg_13, mg_14, mg_15, mg_16, mg_17, mg_18, mg_19, mg_20, mg_21, mg_22, mg_23, mg_24, mg_25, mg_26, mg_27, mg_28, mg_29, mg_30, mg_31, mg_32, mg_33, mg_34, mg_35, mg_36, mg_37, mg_38, mg_39, mg_40, mg_41, mg_42, mg_43, mg_44, mg_45, mr_1, mr_2, mr_3, mr_4, mr_5, mr_6, mr_7, mr_8, mr_9, mr_10, mr_11, mr_12, mr_13, mr_14, mr_15, mr_16, mr_17, mr_18, mr_19, mr_20, mr_21, mr_22, mr_23, mr_24, mr_25, gm_R hG, J_le, J_eq, castE, Option.bind_some, M_isPair hG hN (show a ≤ 9 by omega) (show a + 1 + i ≤ 9 by omega), M_toOf hG ha, M_toOf hG hi']
    rw [if_neg (by omega), show ((a + 1 + i : Nat) : Int) + 1 = ((a + 1 + (i + 1) : Nat) : Int) by omega]
    unfold crS
    by_cases h1 : isX C a (a + 1 + i) = true
    · rw [if_pos h1]
      by_cases h2 : tt C a t = a + 1 + i
      · rw [if_pos h2]
        by_cases h3 : tt C (a + 1 + i) t = a
        · rw [if_pos h3, if_pos (show isX C a (a + 1 + i) = true ∧ tt C a t = a + 1 + i ∧ tt C (a + 1 + i) t = a from ⟨h1, h2, h3⟩)]
          by_cases h4 : s.2 = -1
          · simp only [if_pos h4]
          · simp only [if_neg h4]
        · rw [if_neg h3, if_neg (fun h => h3 h.2.2)]
      · rw [if_neg h2, if_neg (fun h => h2 h.2.1)]
    · rw [if_neg h1, if_neg (fun h => h1 h.1)]
  · intro n s hI
    try dsimp only
    rw [fX5_crossings_66]
    simp (disch := omega) only [jn_0, jn_1, jn_2, jn_3, jn_4, jn_5, jn_6, jn_8, jn_9, jn_10, jn_11, jn_12, jn_16, jn_20, jn_24, jn_30, jn_31, jn_32, jn_36, jn_48, jn_57, jn_59, jn_60, jn_63, jn_72, jn_73, jn_96, jn_97, jn_100, jn_122, jn_144, jn_200, jn_240, jn_288, jn_512, jn_840, jn_1200, jn_1600, jn_5040, jn_5390, jn_5400, jn_9999, jn_18688, jn_32400, jn_99999, jn_100000, jn_1000000, jn_858993459, jn_1431655765, jn_252645135, jl_0, jl_1, jl_2, jl_3, jl_8, jl_9, jl_10, jl_20, jl_27, jl_47, jl_96, jl_99, jl_100, jl_200, jl_555, jl_2000, jl_10000, jl_12345, jl_65536, jl_99999, jl_131638, jl_240023, jl_298288, jl_383153, jl_1306021, jl_1960084, jl_4147840, jl_8740238, jl_9872299, jl_175252482, jl_291595537, jl_1103515245, jl_2000000000, jl_2147483648, jl_4721686497, jl_7873079139, J_add, J_sub, J_mul, J_neg, JL_add, JL_sub, JL_mul, JL_neg, J_long, JL_int, ↓remI_fold, ↓remL_fold, Int.reduceAdd, Int.reduceSub, Int.reduceMul, Int.reduceNeg, Int.reduceToNat, Classical.not_not, em_t, Bp_eq0, Bp_eq1, Bp_01, Bp_mk, Bp_mk', Bp_0, Bp_0', Bp_1, Bp_1', if_true, if_false, ite_not, mg_0, mg_1, mg_2, mg_3, mg_4, mg_5, mg_6, mg_7, mg_8, mg_9, mg_10, mg_11, mg_12, mg_13, mg_14, mg_15, mg_16, mg_17, mg_18, mg_19, mg_20, mg_21, mg_22, mg_23, mg_24, mg_25, mg_26, mg_27, mg_28, mg_29, mg_30, mg_31, mg_32, mg_33, mg_34, mg_35, mg_36, mg_37, mg_38, mg_39, mg_40, mg_41, mg_42, mg_43, mg_44, mg_45, mr_1, mr_2, mr_3, mr_4, mr_5, mr_6, mr_7, mr_8, mr_9, mr_10, mr_11, mr_12, mr_13, mr_14, mr_15, mr_16, mr_17, mr_18, mr_19, mr_20, mr_21, mr_22, mr_23, mr_24, mr_25, gm_R hG, J_le, J_eq, castE, Option.bind_some]
    rw [if_pos (by omega)]
theorem M_cr49 (hG : GdM S 0 C) (hN : 1000000 ≤ N) {t : Nat} (ht : t ≤ 840) (x y : Int32) (k : Int32 → Int32 → Option (Int32 × Wd)) {n : Nat} (hn : 6 < n) (s : Int × Int) (hs : -1 ≤ s.2 ∧ s.2 ≤ 100000) : fX5_crossings_49 N (emM o S w) o x y (J t) k n (J s.1) (J s.2) (J 0) = k (J (crT C t s).1) (J (crT C t s).2) ∧ -1 ≤ (crT C t s).2 ∧ (crT C t s).2 ≤ 100000 := by
  have hR := cR_le C
  have key := lp_fold (fun n i (s : Int × Int) => fX5_crossings_49 N (emM o S w) o x y (J t) k n (J s.1) (J s.2) (J (i : Int))) (fun s => k (J s.1) (J s.2)) (cR C) (fun a s => crA C t a s) (fun _ s => -1 ≤ s.2 ∧ s.2 ≤ 100000) ?_ ?_ n s (by omega) hs
  · exact key
  · intro n i s hi hI
    try dsimp only
    refine ⟨?_, ?_⟩
    rotate_left
    exact (M_cr66 (N := N) (o := o) (w := w) hG hN ht hi x y (fun _ _ => none) (n := 7) (by omega) s hI).2
    rw [fX5_crossings_49]
    simp (disch := omega) only [jn_0, jn_1, jn_2, jn_3, jn_4, jn_5, jn_6, jn_8, jn_9, jn_10, jn_11, jn_12, jn_16, jn_20, jn_24, jn_30, jn_31, jn_32, jn_36, jn_48, jn_57, jn_59, jn_60, jn_63, jn_72, jn_73, jn_96, jn_97, jn_100, jn_122, jn_144, jn_200, jn_240, jn_288, jn_512, jn_840, jn_1200, jn_1600, jn_5040, jn_5390, jn_5400, jn_9999, jn_18688, jn_32400, jn_99999, jn_100000, jn_1000000, jn_858993459, jn_1431655765, jn_252645135, jl_0, jl_1, jl_2, jl_3, jl_8, jl_9, jl_10, jl_20, jl_27, jl_47, jl_96, jl_99, jl_100, jl_200, jl_555, jl_2000, jl_10000, jl_12345, jl_65536, jl_99999, jl_131638, jl_240023, jl_298288, jl_383153, jl_1306021, jl_1960084, jl_4147840, jl_8740238, jl_9872299, jl_175252482, jl_291595537, jl_1103515245, jl_2000000000, jl_2147483648, jl_4721686497, jl_7873079139, J_add, J_sub, J_mul, J_neg, JL_add, JL_sub, JL_mul, JL_neg, J_long, JL_int, ↓remI_fold, ↓remL_fold, Int.reduceAdd, Int.reduceSub, Int.reduceMul, Int.reduceNeg, Int.reduceToNat, mg_0, mg_1, mg_2, mg_3, mg_4, mg_5, mg_6, mg_7, mg_8, mg_9, mg_10, mg_11, mg_12, mg_13, mg_14, mg_15, mg_16, mg_17, mg_18, mg_19, mg_20, mg_21, mg_22, mg_23, mg_24, mg_25, mg_26, mg_27, mg_28, mg_29, mg_30, mg_31, mg_32, mg_33, mg_34, mg_35, mg_36, mg_37, mg_38, mg_39, mg_40, mg_41, mg_42, mg_43, mg_44, mg_45, mr_1, mr_2, mr_3, mr_4, mr_5, mr_6, mr_7, mr_8, mr_9, mr_10, mr_11, mr_12, mr_13, mr_14, mr_15, mr_16, mr_17, mr_18, mr_19, mr_20, mr_21, mr_22, mr_23, mr_24, mr_25, gm_R hG, J_le, castS, Option.bind_some]
    rw [if_neg (by omega), (M_cr66 hG hN ht hi _ _ _ (by omega) s hI).1]
  · intro n s hI
    try dsimp only
    rw [fX5_crossings_49]
    simp (disch := omega) only [jn_0, jn_1, jn_2, jn_3, jn_4, jn_5, jn_6, jn_8, jn_9, jn_10, jn_11, jn_12, jn_16, jn_20, jn_24, jn_30, jn_31, jn_32, jn_36, jn_48, jn_57, jn_59, jn_60, jn_63, jn_72, jn_73, jn_96, jn_97, jn_100, jn_122, jn_144, jn_200, jn_240, jn_288, jn_512, jn_840, jn_1200, jn_1600, jn_5040, jn_5390, jn_5400, jn_9999, jn_18688, jn_32400, jn_99999, jn_100000, jn_1000000, jn_858993459, jn_1431655765, jn_252645135, jl_0, jl_1, jl_2, jl_3, jl_8, jl_9, jl_10, jl_20, jl_27, jl_47, jl_96, jl_99, jl_100, jl_200, jl_555, jl_2000, jl_10000, jl_12345, jl_65536, jl_99999, jl_131638, jl_240023, jl_298288, jl_383153, jl_1306021, jl_1960084, jl_4147840, jl_8740238, jl_9872299, jl_175252482, jl_291595537, jl_1103515245, jl_2000000000, jl_2147483648, jl_4721686497, jl_7873079139, J_add, J_sub, J_mul, J_neg, JL_add, JL_sub, JL_mul, JL_neg, J_long, JL_int, ↓remI_fold, ↓remL_fold, Int.reduceAdd, Int.reduceSub, Int.reduceMul, Int.reduceNeg, Int.reduceToNat, mg_0, mg_1, mg_2, mg_3, mg_4, mg_5, mg_6, mg_7, mg_8, mg_9, mg_10, mg_11, mg_12, mg_13, mg_14, mg_15, mg_16, mg_17, mg_18, mg_19, mg_20, mg_21, mg_22, mg_23, mg_24, mg_25, mg_26, mg_27, mg_28, mg_29, mg_30, mg_31, mg_32, mg_33, mg_34, mg_35, mg_36, mg_37, mg_38, mg_39, mg_40, mg_41, mg_42, mg_43, mg_44, mg_45, mr_1, mr_2, mr_3, mr_4, mr_5, mr_6, mr_7, mr_8, mr_9, mr_10, mr_11, mr_12, mr_13, mr_14, mr_15, mr_16, mr_17, mr_18, mr_19, mr_20, mr_21, mr_22, mr_23, mr_24, mr_25, gm_R hG, J_le, castS, Option.bind_some]
    rw [if_pos (by omega)]
theorem M_crossings (hG : GdM S 0 C) (hN : 1000000 ≤ N) {x : Int} (hx : -2147483648 ≤ x ∧ x ≤ 2147483647) : fX5_crossings N (emM o S w) o (J x) = some (J (sp_crossings C x), emM o (mSI S 0 (J 0)) w) := by
  have hG' : GdM (mSI S 0 (J 0)) 0 C := hG
  have hR := cR_le C
  have hp := rnd_bd C
  unfold fX5_crossings sp_crossings
  simp (disch := omega) only [jn_0, jn_1, jn_2, jn_3, jn_4, jn_5, jn_6, jn_8, jn_9, jn_10, jn_11, jn_12, jn_16, jn_20, jn_24, jn_30, jn_31, jn_32, jn_36, jn_48, jn_57, jn_59, jn_60, jn_63, jn_72, jn_73, jn_96, jn_97, jn_100, jn_122, jn_144, jn_200, jn_240, jn_288, jn_512, jn_840, jn_1200, jn_1600, jn_5040, jn_5390, jn_5400, jn_9999, jn_18688, jn_32400, jn_99999, jn_100000, jn_1000000, jn_858993459, jn_1431655765, jn_252645135, jl_0, jl_1, jl_2, jl_3, jl_8, jl_9, jl_10, jl_20, jl_27, jl_47, jl_96, jl_99, jl_100, jl_200, jl_555, jl_2000, jl_10000, jl_12345, jl_65536, jl_99999, jl_131638, jl_240023, jl_298288, jl_383153, jl_1306021, jl_1960084, jl_4147840, jl_8740238, jl_9872299, jl_175252482, jl_291595537, jl_1103515245, jl_2000000000, jl_2147483648, jl_4721686497, jl_7873079139, J_add, J_sub, J_mul, J_neg, JL_add, JL_sub, JL_mul, JL_neg, J_long, JL_int, ↓remI_fold, ↓remL_fold, Int.reduceAdd, Int.reduceSub, Int.reduceMul, Int.reduceNeg, Int.reduceToNat, Classical.not_not, em_t, Bp_eq0, Bp_eq1, Bp_01, Bp_mk, Bp_mk', Bp_0, Bp_0', Bp_1, Bp_1', if_true, if_false, ite_not, mp_0, mp_6, mp_7, mp_8, mp_9, mp_10, mp_11, mp_12, mp_13, mp_14, mp_15, mp_26, mp_30, mp_31, mp_35, mp_36, mp_37, mp_41, mp_43, mp_44, mp_45, Option.bind_some, M_isCity hG', M_in, M_round hG', J_eq]
  by_cases h1 : 0 < cR C
  case neg => simp only [if_neg h1, ite_self]
  simp only [if_pos h1]
  by_cases h2 : 0 ≤ x ∧ x ≤ 3
  case neg => simp only [if_neg h2, ite_self]
  simp only [if_pos h2]
  have key := lp_fold (fun n i (s : Int × Int) => fX5_crossings_40 N (emM o (mSI S 0 (J 0)) w) o (J x) (J (rnd C)) (fun y26 y27 => if x = 0 then some (y26, emM o (mSI S 0 (J 0)) w) else if y27 = J (-1) then some (J (-1), emM o (mSI S 0 (J 0)) w) else if x = 1 then some (y27 / J 100, emM o (mSI S 0 (J 0)) w) else if x = 2 then some (remI (y27 / J 10) (J 10), emM o (mSI S 0 (J 0)) w) else some (remI y27 (J 10), emM o (mSI S 0 (J 0)) w)) n (J s.1) (J s.2) (J (i : Int))) (fun s => if x = 0 then some (J s.1, emM o (mSI S 0 (J 0)) w) else if J s.2 = J (-1) then some (J (-1), emM o (mSI S 0 (J 0)) w) else if x = 1 then some (J s.2 / J 100, emM o (mSI S 0 (J 0)) w) else if x = 2 then some (remI (J s.2 / J 10) (J 10), emM o (mSI S 0 (J 0)) w) else some (remI (J s.2) (J 10), emM o (mSI S 0 (J 0)) w)) (rnd C) (fun t s => crT C t s) (fun _ s => -1 ≤ s.2 ∧ s.2 ≤ 100000) ?_ ?_ N (0, -1) (by omega) ⟨by decide, by decide⟩
  · rw [show fo (fun t s => crT C t s) (rnd C) (0, -1) = crs C from rfl] at key
    refine Eq.trans key.1 ?_
    have hb := key.2
    by_cases h3 : x = 0
    · simp only [if_pos h3]
    simp only [if_neg h3]
    by_cases h4 : (crs C).2 = -1
    · rw [if_pos (by rw [h4]), if_pos h4]
    rw [if_neg (by rw [J_eq (by omega)]; exact h4), if_neg h4]
    simp (disch := omega) only [J_div, J_rem]
    by_cases h5 : x = 1
    · simp only [if_pos h5]
    simp only [if_neg h5]
    by_cases h6 : x = 2
    · simp only [if_pos h6]
    simp only [if_neg h6]
  · intro n i s hi hI
    try dsimp only
    refine ⟨?_, ?_⟩
    rotate_left
    exact (M_cr49 (N := N) (o := o) (w := w) hG' hN (show i ≤ 840 by omega) (J 0) (J 0) (fun _ _ => none) (n := 7) (by omega) s hI).2
    rw [fX5_crossings_40]
    simp (disch := omega) only [jn_0, jn_1, jn_2, jn_3, jn_4, jn_5, jn_6, jn_8, jn_9, jn_10, jn_11, jn_12, jn_16, jn_20, jn_24, jn_30, jn_31, jn_32, jn_36, jn_48, jn_57, jn_59, jn_60, jn_63, jn_72, jn_73, jn_96, jn_97, jn_100, jn_122, jn_144, jn_200, jn_240, jn_288, jn_512, jn_840, jn_1200, jn_1600, jn_5040, jn_5390, jn_5400, jn_9999, jn_18688, jn_32400, jn_99999, jn_100000, jn_1000000, jn_858993459, jn_1431655765, jn_252645135, jl_0, jl_1, jl_2, jl_3, jl_8, jl_9, jl_10, jl_20, jl_27, jl_47, jl_96, jl_99, jl_100, jl_200, jl_555, jl_2000, jl_10000, jl_12345, jl_65536, jl_99999, jl_131638, jl_240023, jl_298288, jl_383153, jl_1306021, jl_1960084, jl_4147840, jl_8740238, jl_9872299, jl_175252482, jl_291595537, jl_1103515245, jl_2000000000, jl_2147483648, jl_4721686497, jl_7873079139, J_add, J_sub, J_mul, J_neg, JL_add, JL_sub, JL_mul, JL_neg, J_long, JL_int, ↓remI_fold, ↓remL_fold, Int.reduceAdd, Int.reduceSub, Int.reduceMul, Int.reduceNeg, Int.reduceToNat, J_le, castS, Option.bind_some]
    rw [if_neg (by omega), (M_cr49 hG' hN (by omega) _ _ _ (by omega) s hI).1]
  · intro n s hI
    try dsimp only
    rw [fX5_crossings_40]
    simp (disch := omega) only [jn_0, jn_1, jn_2, jn_3, jn_4, jn_5, jn_6, jn_8, jn_9, jn_10, jn_11, jn_12, jn_16, jn_20, jn_24, jn_30, jn_31, jn_32, jn_36, jn_48, jn_57, jn_59, jn_60, jn_63, jn_72, jn_73, jn_96, jn_97, jn_100, jn_122, jn_144, jn_200, jn_240, jn_288, jn_512, jn_840, jn_1200, jn_1600, jn_5040, jn_5390, jn_5400, jn_9999, jn_18688, jn_32400, jn_99999, jn_100000, jn_1000000, jn_858993459, jn_1431655765, jn_252645135, jl_0, jl_1, jl_2, jl_3, jl_8, jl_9, jl_10, jl_20, jl_27, jl_47, jl_96, jl_99, jl_100, jl_200, jl_555, jl_2000, jl_10000, jl_12345, jl_65536, jl_99999, jl_131638, jl_240023, jl_298288, jl_383153, jl_1306021, jl_1960084, jl_4147840, jl_8740238, jl_9872299, jl_175252482, jl_291595537, jl_1103515245, jl_2000000000, jl_2147483648, jl_4721686497, jl_7873079139, J_add, J_sub, J_mul, J_neg, JL_add, JL_sub, JL_mul, JL_neg, J_long, JL_int, ↓remI_fold, ↓remL_fold, Int.reduceAdd, Int.reduceSub, Int.reduceMul, Int.reduceNeg, Int.reduceToNat, J_le, castS, Option.bind_some]
    rw [if_pos (by omega)]
theorem M_throwers (hG : GdM S 0 C) (hN : 1000000 ≤ N) {b : Int} (hb : -900000 ≤ b ∧ b ≤ 900000) : fX5_throwers N (emM o S w) o (J b) = some (J (thr0 C b)) := by
  have hR := cR_le C
  unfold fX5_throwers
  have key := lp_sum (fun n i s => fX5_throwers_4 N (emM o S w) o (J b) (fun y => some y) n (J s) (J (i : Int))) (fun s => some (J s)) (cR C) (fun r => ind (0 < hh C r b)) ?_ ?_ N 0 (by omega)
  · rw [Int.zero_add] at key
    exact key
  · intro n i s hi
    try dsimp only
    have h9 := hh_le C i b
    rw [fX5_throwers_4]
    simp (disch := omega) only [jn_0, jn_1, jn_2, jn_3, jn_4, jn_5, jn_6, jn_8, jn_9, jn_10, jn_11, jn_12, jn_16, jn_20, jn_24, jn_30, jn_31, jn_32, jn_36, jn_48, jn_57, jn_59, jn_60, jn_63, jn_72, jn_73, jn_96, jn_97, jn_100, jn_122, jn_144, jn_200, jn_240, jn_288, jn_512, jn_840, jn_1200, jn_1600, jn_5040, jn_5390, jn_5400, jn_9999, jn_18688, jn_32400, jn_99999, jn_100000, jn_1000000, jn_858993459, jn_1431655765, jn_252645135, jl_0, jl_1, jl_2, jl_3, jl_8, jl_9, jl_10, jl_20, jl_27, jl_47, jl_96, jl_99, jl_100, jl_200, jl_555, jl_2000, jl_10000, jl_12345, jl_65536, jl_99999, jl_131638, jl_240023, jl_298288, jl_383153, jl_1306021, jl_1960084, jl_4147840, jl_8740238, jl_9872299, jl_175252482, jl_291595537, jl_1103515245, jl_2000000000, jl_2147483648, jl_4721686497, jl_7873079139, J_add, J_sub, J_mul, J_neg, JL_add, JL_sub, JL_mul, JL_neg, J_long, JL_int, ↓remI_fold, ↓remL_fold, Int.reduceAdd, Int.reduceSub, Int.reduceMul, Int.reduceNeg, Int.reduceToNat, mg_0, mg_1, mg_2, mg_3, mg_4, mg_5, mg_6, mg_7, mg_8, mg_9, mg_10, mg_11, mg_12, mg_13, mg_14, mg_15, mg_16, mg_17, mg_18, mg_19, mg_20, mg_21, mg_22, mg_23, mg_24, mg_25, mg_26, mg_27, mg_28, mg_29, mg_30, mg_31, mg_32, mg_33, mg_34, mg_35, mg_36, mg_37, mg_38, mg_39, mg_40, mg_41, mg_42, mg_43, mg_44, mg_45, mr_1, mr_2, mr_3, mr_4, mr_5, mr_6, mr_7, mr_8, mr_9, mr_10, mr_11, mr_12, mr_13, mr_14, mr_15, mr_16, mr_17, mr_18, mr_19, mr_20, mr_21, mr_22, mr_23, mr_24, mr_25, gm_R hG, J_le, castS, Option.bind_some, M_highOf hG hi]
    rw [if_neg (by omega)]
    unfold ind
    by_cases h3 : 0 < hh C i b
    · rw [if_neg (by omega), if_pos h3]
    · rw [if_pos (by omega), if_neg h3]
  · intro n s
    try dsimp only
    rw [fX5_throwers_4]
    simp (disch := omega) only [jn_0, jn_1, jn_2, jn_3, jn_4, jn_5, jn_6, jn_8, jn_9, jn_10, jn_11, jn_12, jn_16, jn_20, jn_24, jn_30, jn_31, jn_32, jn_36, jn_48, jn_57, jn_59, jn_60, jn_63, jn_72, jn_73, jn_96, jn_97, jn_100, jn_122, jn_144, jn_200, jn_240, jn_288, jn_512, jn_840, jn_1200, jn_1600, jn_5040, jn_5390, jn_5400, jn_9999, jn_18688, jn_32400, jn_99999, jn_100000, jn_1000000, jn_858993459, jn_1431655765, jn_252645135, jl_0, jl_1, jl_2, jl_3, jl_8, jl_9, jl_10, jl_20, jl_27, jl_47, jl_96, jl_99, jl_100, jl_200, jl_555, jl_2000, jl_10000, jl_12345, jl_65536, jl_99999, jl_131638, jl_240023, jl_298288, jl_383153, jl_1306021, jl_1960084, jl_4147840, jl_8740238, jl_9872299, jl_175252482, jl_291595537, jl_1103515245, jl_2000000000, jl_2147483648, jl_4721686497, jl_7873079139, J_add, J_sub, J_mul, J_neg, JL_add, JL_sub, JL_mul, JL_neg, J_long, JL_int, ↓remI_fold, ↓remL_fold, Int.reduceAdd, Int.reduceSub, Int.reduceMul, Int.reduceNeg, Int.reduceToNat, mg_0, mg_1, mg_2, mg_3, mg_4, mg_5, mg_6, mg_7, mg_8, mg_9, mg_10, mg_11, mg_12, mg_13, mg_14, mg_15, mg_16, mg_17, mg_18, mg_19, mg_20, mg_21, mg_22, mg_23, mg_24, mg_25, mg_26, mg_27, mg_28, mg_29, mg_30, mg_31, mg_32, mg_33, mg_34, mg_35, mg_36, mg_37, mg_38, mg_39, mg_40, mg_41, mg_42, mg_43, mg_44, mg_45, mr_1, mr_2, mr_3, mr_4, mr_5, mr_6, mr_7, mr_8, mr_9, mr_10, mr_11, mr_12, mr_13, mr_14, mr_15, mr_16, mr_17, mr_18, mr_19, mr_20, mr_21, mr_22, mr_23, mr_24, mr_25, gm_R hG, J_le, castS, Option.bind_some]
    rw [if_pos (by omega)]
theorem M_busiest (hG : GdM S 0 C) (hN : 1000000 ≤ N) {x : Int} (hx : -2147483648 ≤ x ∧ x ≤ 2147483647) : fX5_busiest N (emM o S w) o (J x) = some (J (sp_busiest C x), emM o (mSI S 0 (J 0)) w) := by
  have hG' : GdM (mSI S 0 (J 0)) 0 C := hG
  have hp := rnd_bd C
  unfold fX5_busiest sp_busiest
  simp (disch := omega) only [jn_0, jn_1, jn_2, jn_3, jn_4, jn_5, jn_6, jn_8, jn_9, jn_10, jn_11, jn_12, jn_16, jn_20, jn_24, jn_30, jn_31, jn_32, jn_36, jn_48, jn_57, jn_59, jn_60, jn_63, jn_72, jn_73, jn_96, jn_97, jn_100, jn_122, jn_144, jn_200, jn_240, jn_288, jn_512, jn_840, jn_1200, jn_1600, jn_5040, jn_5390, jn_5400, jn_9999, jn_18688, jn_32400, jn_99999, jn_100000, jn_1000000, jn_858993459, jn_1431655765, jn_252645135, jl_0, jl_1, jl_2, jl_3, jl_8, jl_9, jl_10, jl_20, jl_27, jl_47, jl_96, jl_99, jl_100, jl_200, jl_555, jl_2000, jl_10000, jl_12345, jl_65536, jl_99999, jl_131638, jl_240023, jl_298288, jl_383153, jl_1306021, jl_1960084, jl_4147840, jl_8740238, jl_9872299, jl_175252482, jl_291595537, jl_1103515245, jl_2000000000, jl_2147483648, jl_4721686497, jl_7873079139, J_add, J_sub, J_mul, J_neg, JL_add, JL_sub, JL_mul, JL_neg, J_long, JL_int, ↓remI_fold, ↓remL_fold, Int.reduceAdd, Int.reduceSub, Int.reduceMul, Int.reduceNeg, Int.reduceToNat, Classical.not_not, em_t, Bp_eq0, Bp_eq1, Bp_01, Bp_mk, Bp_mk', Bp_0, Bp_0', Bp_1, Bp_1', if_true, if_false, ite_not, mp_0, mp_6, mp_7, mp_8, mp_9, mp_10, mp_11, mp_12, mp_13, mp_14, mp_15, mp_26, mp_30, mp_31, mp_35, mp_36, mp_37, mp_41, mp_43, mp_44, mp_45, Option.bind_some, M_isCity hG', M_in, M_round hG', J_eq]
  by_cases h1 : 0 < cR C
  case neg => simp only [if_neg h1, ite_self]
  simp only [if_pos h1]
  by_cases h2 : 0 ≤ x ∧ x ≤ 1
  case neg => simp only [if_neg h2, ite_self]
  simp only [if_pos h2]
  have key := lp_fold (fun n i (s : Nat) => fX5_busiest_35 N (emM o (mSI S 0 (J 0)) w) o (J x) (J (rnd C)) (fun y9 => if x = 0 then some (y9, emM o (mSI S 0 (J 0)) w) else (fX5_throwers N (emM o (mSI S 0 (J 0)) w) o y9).bind fun x10 => some (x10, emM o (mSI S 0 (J 0)) w)) n (J s) (J ((1 + i : Nat) : Int))) (fun s => if x = 0 then some (J s, emM o (mSI S 0 (J 0)) w) else some (J (thr0 C s), emM o (mSI S 0 (J 0)) w)) (rnd C - 1) (fun i s => if thr0 C s < thr0 C ((i + 1 : Nat) : Int) then i + 1 else s) (fun i s => s ≤ i ∧ s = bst C i) ?_ ?_ N 0 (by omega) ⟨by omega, rfl⟩
  · have h3 := key.1
    refine Eq.trans h3 ?_
    rw [key.2.2]
    by_cases h4 : x = 0
    · simp only [if_pos h4]
    · simp only [if_neg h4]
  · intro n i s hi hI
    try dsimp only
    have ht1 := thr0_bd C ((1 + i : Nat) : Int)
    have ht2 := thr0_bd C s
    refine ⟨?_, ?_⟩
    rotate_left
    rw [hI.2]
    exact ⟨by have := bst_le C i; split <;> omega, rfl⟩
    rw [fX5_busiest_35]
    simp (disch := omega) only [jn_0, jn_1, jn_2, jn_3, jn_4, jn_5, jn_6, jn_8, jn_9, jn_10, jn_11, jn_12, jn_16, jn_20, jn_24, jn_30, jn_31, jn_32, jn_36, jn_48, jn_57, jn_59, jn_60, jn_63, jn_72, jn_73, jn_96, jn_97, jn_100, jn_122, jn_144, jn_200, jn_240, jn_288, jn_512, jn_840, jn_1200, jn_1600, jn_5040, jn_5390, jn_5400, jn_9999, jn_18688, jn_32400, jn_99999, jn_100000, jn_1000000, jn_858993459, jn_1431655765, jn_252645135, jl_0, jl_1, jl_2, jl_3, jl_8, jl_9, jl_10, jl_20, jl_27, jl_47, jl_96, jl_99, jl_100, jl_200, jl_555, jl_2000, jl_10000, jl_12345, jl_65536, jl_99999, jl_131638, jl_240023, jl_298288, jl_383153, jl_1306021, jl_1960084, jl_4147840, jl_8740238, jl_9872299, jl_175252482, jl_291595537, jl_1103515245, jl_2000000000, jl_2147483648, jl_4721686497, jl_7873079139, J_add, J_sub, J_mul, J_neg, JL_add, JL_sub, JL_mul, JL_neg, J_long, JL_int, ↓remI_fold, ↓remL_fold, Int.reduceAdd, Int.reduceSub, Int.reduceMul, Int.reduceNeg, Int.reduceToNat, J_le, J_lt, Option.bind_some, M_throwers hG' hN]
    rw [if_neg (by omega), show ((1 + i : Nat) : Int) + 1 = ((1 + (i + 1) : Nat) : Int) by omega, Nat.add_comm i 1]
    by_cases h : thr0 C s < thr0 C ((1 + i : Nat) : Int)
    · rw [if_neg (by omega), if_pos h]
    · rw [if_pos (by omega), if_neg h]
  · intro n s hI
    try dsimp only
    have hs : s ≤ 900000 := by have := hI.1; omega
    rw [fX5_busiest_35]
    simp (disch := omega) only [jn_0, jn_1, jn_2, jn_3, jn_4, jn_5, jn_6, jn_8, jn_9, jn_10, jn_11, jn_12, jn_16, jn_20, jn_24, jn_30, jn_31, jn_32, jn_36, jn_48, jn_57, jn_59, jn_60, jn_63, jn_72, jn_73, jn_96, jn_97, jn_100, jn_122, jn_144, jn_200, jn_240, jn_288, jn_512, jn_840, jn_1200, jn_1600, jn_5040, jn_5390, jn_5400, jn_9999, jn_18688, jn_32400, jn_99999, jn_100000, jn_1000000, jn_858993459, jn_1431655765, jn_252645135, jl_0, jl_1, jl_2, jl_3, jl_8, jl_9, jl_10, jl_20, jl_27, jl_47, jl_96, jl_99, jl_100, jl_200, jl_555, jl_2000, jl_10000, jl_12345, jl_65536, jl_99999, jl_131638, jl_240023, jl_298288, jl_383153, jl_1306021, jl_1960084, jl_4147840, jl_8740238, jl_9872299, jl_175252482, jl_291595537, jl_1103515245, jl_2000000000, jl_2147483648, jl_4721686497, jl_7873079139, J_add, J_sub, J_mul, J_neg, JL_add, JL_sub, JL_mul, JL_neg, J_long, JL_int, ↓remI_fold, ↓remL_fold, Int.reduceAdd, Int.reduceSub, Int.reduceMul, Int.reduceNeg, Int.reduceToNat, J_le, J_lt, Option.bind_some, M_throwers hG' hN]
    rw [if_pos (by omega)]
theorem M_fault {x : Int} (hx : -2147483648 ≤ x ∧ x ≤ 2147483647) : fX5_fault N (emM o S w) o (J x) = some (if x = 0 then mi S 14 else if x = 1 then mi S 15 else J (-1), emM o (mSI S 0 (J 0)) w) := by
  unfold fX5_fault
  simp (disch := omega) only [jn_0, jn_1, jn_2, jn_3, jn_4, jn_5, jn_6, jn_8, jn_9, jn_10, jn_11, jn_12, jn_16, jn_20, jn_24, jn_30, jn_31, jn_32, jn_36, jn_48, jn_57, jn_59, jn_60, jn_63, jn_72, jn_73, jn_96, jn_97, jn_100, jn_122, jn_144, jn_200, jn_240, jn_288, jn_512, jn_840, jn_1200, jn_1600, jn_5040, jn_5390, jn_5400, jn_9999, jn_18688, jn_32400, jn_99999, jn_100000, jn_1000000, jn_858993459, jn_1431655765, jn_252645135, jl_0, jl_1, jl_2, jl_3, jl_8, jl_9, jl_10, jl_20, jl_27, jl_47, jl_96, jl_99, jl_100, jl_200, jl_555, jl_2000, jl_10000, jl_12345, jl_65536, jl_99999, jl_131638, jl_240023, jl_298288, jl_383153, jl_1306021, jl_1960084, jl_4147840, jl_8740238, jl_9872299, jl_175252482, jl_291595537, jl_1103515245, jl_2000000000, jl_2147483648, jl_4721686497, jl_7873079139, J_add, J_sub, J_mul, J_neg, JL_add, JL_sub, JL_mul, JL_neg, J_long, JL_int, ↓remI_fold, ↓remL_fold, Int.reduceAdd, Int.reduceSub, Int.reduceMul, Int.reduceNeg, Int.reduceToNat, mp_0, mp_6, mp_7, mp_8, mp_9, mp_10, mp_11, mp_12, mp_13, mp_14, mp_15, mp_26, mp_30, mp_31, mp_35, mp_36, mp_37, mp_41, mp_43, mp_44, mp_45, mg_0, mg_1, mg_2, mg_3, mg_4, mg_5, mg_6, mg_7, mg_8, mg_9, mg_10, mg_11, mg_12, mg_13, mg_14, mg_15, mg_16, mg_17, mg_18, mg_19, mg_20, mg_21, mg_22, mg_23, mg_24, mg_25, mg_26, mg_27, mg_28, mg_29, mg_30, mg_31, mg_32, mg_33, mg_34, mg_35, mg_36, mg_37, mg_38, mg_39, mg_40, mg_41, mg_42, mg_43, mg_44, mg_45, mi_R, ml_R, ma_R, mb_R, mi_Q, ml_Q, ma_Q, mb_Q, mi_I, mi_L, mi_A, mi_B, ml_I, ml_L, ml_A, ml_B, ma_I, ma_L, ma_A, ma_B, mb_I, mb_L, mb_A, mb_B, Nat.reduceEqDiff, eq_self, if_true, if_false, reduceIte, J_eq, Option.bind_some]
  by_cases h : x = 0
  · simp only [if_pos h]
  · simp only [if_neg h]
    by_cases h' : x = 1
    · simp only [if_pos h']
    · simp only [if_neg h']
theorem M_firstHigh (hG : GdM S 0 C) (hN : 1000000 ≤ N) {r : Nat} (hr : r < cR C) : fX5_firstHigh N (emM o S w) o (J r) = some (J (fH C r)) := by
  have hR := cR_le C
  have hP := cP_bd C r
  unfold fX5_firstHigh
  have key := lp_find (fun n i => fX5_firstHigh_2 N (emM o S w) o (J r) (fun y6 => (gR (emM o S w) [5] o 20).bind fun x7 => (aI 0 (emM o S w) x7 ((J 8 * J r) + y6)).bind fun x8 => some x8) (some (J 0)) n (J (i : Int))) (fun i => (gR (emM o S w) [5] o 20).bind fun x7 => (aI 0 (emM o S w) x7 ((J 8 * J r) + J i)).bind fun x8 => some x8) (some (J 0)) (cP C r) (fun i => decide (0 < cH C r i)) ?_ ?_ N (by omega)
  · refine Eq.trans key ?_
    unfold fH
    cases h : fi (fun i => decide (0 < cH C r i)) (cP C r) with
    | none => rfl
    | some i =>
      have hi := ((fi_some _ _ _).1 h).1
      simp (disch := omega) only [jn_0, jn_1, jn_2, jn_3, jn_4, jn_5, jn_6, jn_8, jn_9, jn_10, jn_11, jn_12, jn_16, jn_20, jn_24, jn_30, jn_31, jn_32, jn_36, jn_48, jn_57, jn_59, jn_60, jn_63, jn_72, jn_73, jn_96, jn_97, jn_100, jn_122, jn_144, jn_200, jn_240, jn_288, jn_512, jn_840, jn_1200, jn_1600, jn_5040, jn_5390, jn_5400, jn_9999, jn_18688, jn_32400, jn_99999, jn_100000, jn_1000000, jn_858993459, jn_1431655765, jn_252645135, jl_0, jl_1, jl_2, jl_3, jl_8, jl_9, jl_10, jl_20, jl_27, jl_47, jl_96, jl_99, jl_100, jl_200, jl_555, jl_2000, jl_10000, jl_12345, jl_65536, jl_99999, jl_131638, jl_240023, jl_298288, jl_383153, jl_1306021, jl_1960084, jl_4147840, jl_8740238, jl_9872299, jl_175252482, jl_291595537, jl_1103515245, jl_2000000000, jl_2147483648, jl_4721686497, jl_7873079139, J_add, J_sub, J_mul, J_neg, JL_add, JL_sub, JL_mul, JL_neg, J_long, JL_int, ↓remI_fold, ↓remL_fold, Int.reduceAdd, Int.reduceSub, Int.reduceMul, Int.reduceNeg, Int.reduceToNat, mg_0, mg_1, mg_2, mg_3, mg_4, mg_5, mg_6, mg_7, mg_8, mg_9, mg_10, mg_11, mg_12, mg_13, mg_14, mg_15, mg_16, mg_17, mg_18, mg_19, mg_20, mg_21, mg_22, mg_23, mg_24, mg_25, mg_26, mg_27, mg_28, mg_29, mg_30, mg_31, mg_32, mg_33, mg_34, mg_35, mg_36, mg_37, mg_38, mg_39, mg_40, mg_41, mg_42, mg_43, mg_44, mg_45, mr_1, mr_2, mr_3, mr_4, mr_5, mr_6, mr_7, mr_8, mr_9, mr_10, mr_11, mr_12, mr_13, mr_14, mr_15, mr_16, mr_17, mr_18, mr_19, mr_20, mr_21, mr_22, mr_23, mr_24, mr_25, Option.bind_some]
      rw [show (8 * (r : Int) + i).toNat = 8 * r + i by omega, gm_H hG hr hi]
  · intro n i hi
    try dsimp only
    have h1 := cH_le C r i
    rw [fX5_firstHigh_2]
    simp (disch := omega) only [jn_0, jn_1, jn_2, jn_3, jn_4, jn_5, jn_6, jn_8, jn_9, jn_10, jn_11, jn_12, jn_16, jn_20, jn_24, jn_30, jn_31, jn_32, jn_36, jn_48, jn_57, jn_59, jn_60, jn_63, jn_72, jn_73, jn_96, jn_97, jn_100, jn_122, jn_144, jn_200, jn_240, jn_288, jn_512, jn_840, jn_1200, jn_1600, jn_5040, jn_5390, jn_5400, jn_9999, jn_18688, jn_32400, jn_99999, jn_100000, jn_1000000, jn_858993459, jn_1431655765, jn_252645135, jl_0, jl_1, jl_2, jl_3, jl_8, jl_9, jl_10, jl_20, jl_27, jl_47, jl_96, jl_99, jl_100, jl_200, jl_555, jl_2000, jl_10000, jl_12345, jl_65536, jl_99999, jl_131638, jl_240023, jl_298288, jl_383153, jl_1306021, jl_1960084, jl_4147840, jl_8740238, jl_9872299, jl_175252482, jl_291595537, jl_1103515245, jl_2000000000, jl_2147483648, jl_4721686497, jl_7873079139, J_add, J_sub, J_mul, J_neg, JL_add, JL_sub, JL_mul, JL_neg, J_long, JL_int, ↓remI_fold, ↓remL_fold, Int.reduceAdd, Int.reduceSub, Int.reduceMul, Int.reduceNeg, Int.reduceToNat, mg_0, mg_1, mg_2, mg_3, mg_4, mg_5, mg_6, mg_7, mg_8, mg_9, mg_10, mg_11, mg_12, mg_13, mg_14, mg_15, mg_16, mg_17, mg_18, mg_19, mg_20, mg_21, mg_22, mg_23, mg_24, mg_25, mg_26, mg_27, mg_28, mg_29, mg_30, mg_31, mg_32, mg_33, mg_34, mg_35, mg_36, mg_37, mg_38, mg_39, mg_40, mg_41, mg_42, mg_43, mg_44, mg_45, mr_1, mr_2, mr_3, mr_4, mr_5, mr_6, mr_7, mr_8, mr_9, mr_10, mr_11, mr_12, mr_13, mr_14, mr_15, mr_16, mr_17, mr_18, mr_19, mr_20, mr_21, mr_22, mr_23, mr_24, mr_25, gm_P hG hr, Int.toNat_natCast, J_le, castS, Option.bind_some]
    rw [if_neg (by omega), show (8 * (r : Int) + i).toNat = 8 * r + i by omega, gm_H hG hr hi]
    simp (disch := omega) only [J_le, decide_eq_true_iff]
    by_cases h3 : 0 < cH C r i
    · rw [if_neg (by omega), if_pos h3]
    · rw [if_pos (by omega), if_neg h3]
  · intro n
    try dsimp only
    rw [fX5_firstHigh_2]
    simp (disch := omega) only [jn_0, jn_1, jn_2, jn_3, jn_4, jn_5, jn_6, jn_8, jn_9, jn_10, jn_11, jn_12, jn_16, jn_20, jn_24, jn_30, jn_31, jn_32, jn_36, jn_48, jn_57, jn_59, jn_60, jn_63, jn_72, jn_73, jn_96, jn_97, jn_100, jn_122, jn_144, jn_200, jn_240, jn_288, jn_512, jn_840, jn_1200, jn_1600, jn_5040, jn_5390, jn_5400, jn_9999, jn_18688, jn_32400, jn_99999, jn_100000, jn_1000000, jn_858993459, jn_1431655765, jn_252645135, jl_0, jl_1, jl_2, jl_3, jl_8, jl_9, jl_10, jl_20, jl_27, jl_47, jl_96, jl_99, jl_100, jl_200, jl_555, jl_2000, jl_10000, jl_12345, jl_65536, jl_99999, jl_131638, jl_240023, jl_298288, jl_383153, jl_1306021, jl_1960084, jl_4147840, jl_8740238, jl_9872299, jl_175252482, jl_291595537, jl_1103515245, jl_2000000000, jl_2147483648, jl_4721686497, jl_7873079139, J_add, J_sub, J_mul, J_neg, JL_add, JL_sub, JL_mul, JL_neg, J_long, JL_int, ↓remI_fold, ↓remL_fold, Int.reduceAdd, Int.reduceSub, Int.reduceMul, Int.reduceNeg, Int.reduceToNat, mg_0, mg_1, mg_2, mg_3, mg_4, mg_5, mg_6, mg_7, mg_8, mg_9, mg_10, mg_11, mg_12, mg_13, mg_14, mg_15, mg_16, mg_17, mg_18, mg_19, mg_20, mg_21, mg_22, mg_23, mg_24, mg_25, mg_26, mg_27, mg_28, mg_29, mg_30, mg_31, mg_32, mg_33, mg_34, mg_35, mg_36, mg_37, mg_38, mg_39, mg_40, mg_41, mg_42, mg_43, mg_44, mg_45, mr_1, mr_2, mr_3, mr_4, mr_5, mr_6, mr_7, mr_8, mr_9, mr_10, mr_11, mr_12, mr_13, mr_14, mr_15, mr_16, mr_17, mr_18, mr_19, mr_20, mr_21, mr_22, mr_23, mr_24, mr_25, gm_P hG hr, Int.toNat_natCast, J_le, castS, Option.bind_some]
    rw [if_pos (by omega)]
theorem M_uns12 (hG : GdM S 0 C) {r t : Nat} (ht : t ≤ 900000) (hr : r < cR C) (k1 k2 : Option Int32) {n : Nat} (hn : 6 < n) : fX5_isUnsuited_12 N (emM o S w) o (J r) (J t) k1 k2 n (J 0) = match fi (fun q => decide ((1 ≤ hh C q t ∧ hh C q t ≤ 2) ∧ tt C q t = r)) (cR C) with | some _ => k1 | none => k2 := by
  have hR := cR_le C
  have key := lp_find (fun n i => fX5_isUnsuited_12 N (emM o S w) o (J r) (J t) k1 k2 n (J (i : Int))) (fun _ => k1) k2 (cR C) (fun q => decide ((1 ≤ hh C q t ∧ hh C q t ≤ 2) ∧ tt C q t = r)) ?_ ?_ n (by omega)
  · exact key
  · intro n i hi
    try dsimp only
    have h9 := hh_le C i t
    have h5 := tt_le C i t
    rw [fX5_isUnsuited_12]
    simp (disch := omega) only [jn_0, jn_1, jn_2, jn_3, jn_4, jn_5, jn_6, jn_8, jn_9, jn_10, jn_11, jn_12, jn_16, jn_20, jn_24, jn_30, jn_31, jn_32, jn_36, jn_48, jn_57, jn_59, jn_60, jn_63, jn_72, jn_73, jn_96, jn_97, jn_100, jn_122, jn_144, jn_200, jn_240, jn_288, jn_512, jn_840, jn_1200, jn_1600, jn_5040, jn_5390, jn_5400, jn_9999, jn_18688, jn_32400, jn_99999, jn_100000, jn_1000000, jn_858993459, jn_1431655765, jn_252645135, jl_0, jl_1, jl_2, jl_3, jl_8, jl_9, jl_10, jl_20, jl_27, jl_47, jl_96, jl_99, jl_100, jl_200, jl_555, jl_2000, jl_10000, jl_12345, jl_65536, jl_99999, jl_131638, jl_240023, jl_298288, jl_383153, jl_1306021, jl_1960084, jl_4147840, jl_8740238, jl_9872299, jl_175252482, jl_291595537, jl_1103515245, jl_2000000000, jl_2147483648, jl_4721686497, jl_7873079139, J_add, J_sub, J_mul, J_neg, JL_add, JL_sub, JL_mul, JL_neg, J_long, JL_int, ↓remI_fold, ↓remL_fold, Int.reduceAdd, Int.reduceSub, Int.reduceMul, Int.reduceNeg, Int.reduceToNat, Classical.not_not, em_t, Bp_eq0, Bp_eq1, Bp_01, Bp_mk, Bp_mk', Bp_0, Bp_0', Bp_1, Bp_1', if_true, if_false, ite_not, mg_0, mg_1, mg_2, mg_3, mg_4, mg_5, mg_6, mg_7, mg_8, mg_9, mg_10, mg_11, mg_12, mg_13, mg_14, mg_15, mg_16, mg_17, mg_18, mg_19, mg_20, mg_21, mg_22, mg_23, mg_24, mg_25, mg_26, mg_27, mg_28, mg_29, mg_30, mg_31, mg_32, mg_33, mg_34, mg_35, mg_36, mg_37, mg_38, mg_39, mg_40, mg_41, mg_42, mg_43, mg_44, mg_45, mr_1, mr_2, mr_3, mr_4, mr_5, mr_6, mr_7, mr_8, mr_9, mr_10, mr_11, mr_12, mr_13, mr_14, mr_15, mr_16, mr_17, mr_18, mr_19, mr_20, mr_21, mr_22, mr_23, mr_24, mr_25, gm_R hG, M_in, J_le, J_eq, castS, castE, decide_eq_true_iff, Option.bind_some, M_highOf hG hi, M_toOf hG hi]
    rw [if_neg (by omega)]
    by_cases h3 : 1 ≤ hh C i t ∧ hh C i t ≤ 2
    · rw [if_pos (by omega)]
      by_cases h4 : tt C i t = r
      · rw [if_pos h4, if_pos ⟨h3, h4⟩]
      · rw [if_neg h4, if_neg (fun h => h4 h.2)]
    · rw [if_neg (by omega), if_neg (fun h => h3 h.1)]
  · intro n
    try dsimp only
    rw [fX5_isUnsuited_12]
    simp (disch := omega) only [jn_0, jn_1, jn_2, jn_3, jn_4, jn_5, jn_6, jn_8, jn_9, jn_10, jn_11, jn_12, jn_16, jn_20, jn_24, jn_30, jn_31, jn_32, jn_36, jn_48, jn_57, jn_59, jn_60, jn_63, jn_72, jn_73, jn_96, jn_97, jn_100, jn_122, jn_144, jn_200, jn_240, jn_288, jn_512, jn_840, jn_1200, jn_1600, jn_5040, jn_5390, jn_5400, jn_9999, jn_18688, jn_32400, jn_99999, jn_100000, jn_1000000, jn_858993459, jn_1431655765, jn_252645135, jl_0, jl_1, jl_2, jl_3, jl_8, jl_9, jl_10, jl_20, jl_27, jl_47, jl_96, jl_99, jl_100, jl_200, jl_555, jl_2000, jl_10000, jl_12345, jl_65536, jl_99999, jl_131638, jl_240023, jl_298288, jl_383153, jl_1306021, jl_1960084, jl_4147840, jl_8740238, jl_9872299, jl_175252482, jl_291595537, jl_1103515245, jl_2000000000, jl_2147483648, jl_4721686497, jl_7873079139, J_add, J_sub, J_mul, J_neg, JL_add, JL_sub, JL_mul, JL_neg, J_long, JL_int, ↓remI_fold, ↓remL_fold, Int.reduceAdd, Int.reduceSub, Int.reduceMul, Int.reduceNeg, Int.reduceToNat, Classical.not_not, em_t, Bp_eq0, Bp_eq1, Bp_01, Bp_mk, Bp_mk', Bp_0, Bp_0', Bp_1, Bp_1', if_true, if_false, ite_not, mg_0, mg_1, mg_2, mg_3, mg_4, mg_5, mg_6, mg_7, mg_8, mg_9, mg_10, mg_11, mg_12, mg_13, mg_14, mg_15, mg_16, mg_17, mg_18, mg_19, mg_20, mg_21, mg_22, mg_23, mg_24, mg_25, mg_26, mg_27, mg_28, mg_29, mg_30, mg_31, mg_32, mg_33, mg_34, mg_35, mg_36, mg_37, mg_38, mg_39, mg_40, mg_41, mg_42, mg_43, mg_44, mg_45, mr_1, mr_2, mr_3, mr_4, mr_5, mr_6, mr_7, mr_8, mr_9, mr_10, mr_11, mr_12, mr_13, mr_14, mr_15, mr_16, mr_17, mr_18, mr_19, mr_20, mr_21, mr_22, mr_23, mr_24, mr_25, gm_R hG, M_in, J_le, J_eq, castS, castE, decide_eq_true_iff, Option.bind_some]
    rw [if_pos (by omega)]
theorem M_isUnsuited (hG : GdM S 0 C) (hN : 1000000 ≤ N) {r t : Nat} (hr : r < cR C) (ht : t ≤ 900000) : fX5_isUnsuited N (emM o S w) o (J r) (J t) = some (Bp (uns C r t = true)) := by
  have hR := cR_le C
  have hK := cK_le C r
  have h9 := hh_le C r t
  have h5 := tt_le C r t
  have hf : fH C r ≤ 9 := by unfold fH; split; exact cH_le C r _; omega
  unfold fX5_isUnsuited fX5_isUnsuited_83 fX5_isUnsuited_98 uns
  simp (disch := omega) only [Bp_ii, jn_0, jn_1, jn_2, jn_3, jn_4, jn_5, jn_6, jn_8, jn_9, jn_10, jn_11, jn_12, jn_16, jn_20, jn_24, jn_30, jn_31, jn_32, jn_36, jn_48, jn_57, jn_59, jn_60, jn_63, jn_72, jn_73, jn_96, jn_97, jn_100, jn_122, jn_144, jn_200, jn_240, jn_288, jn_512, jn_840, jn_1200, jn_1600, jn_5040, jn_5390, jn_5400, jn_9999, jn_18688, jn_32400, jn_99999, jn_100000, jn_1000000, jn_858993459, jn_1431655765, jn_252645135, jl_0, jl_1, jl_2, jl_3, jl_8, jl_9, jl_10, jl_20, jl_27, jl_47, jl_96, jl_99, jl_100, jl_200, jl_555, jl_2000, jl_10000, jl_12345, jl_65536, jl_99999, jl_131638, jl_240023, jl_298288, jl_383153, jl_1306021, jl_1960084, jl_4147840, jl_8740238, jl_9872299, jl_175252482, jl_291595537, jl_1103515245, jl_2000000000, jl_2147483648, jl_4721686497, jl_7873079139, J_add, J_sub, J_mul, J_neg, JL_add, JL_sub, JL_mul, JL_neg, J_long, JL_int, ↓remI_fold, ↓remL_fold, Int.reduceAdd, Int.reduceSub, Int.reduceMul, Int.reduceNeg, Int.reduceToNat, Classical.not_not, em_t, Bp_eq0, Bp_eq1, Bp_01, Bp_mk, Bp_mk', Bp_0, Bp_0', Bp_1, Bp_1', if_true, if_false, ite_not, mg_0, mg_1, mg_2, mg_3, mg_4, mg_5, mg_6, mg_7, mg_8, mg_9, mg_10, mg_11, mg_12, mg_13, mg_14, mg_15, mg_16, mg_17, mg_18, mg_19, mg_20, mg_21, mg_22, mg_23, mg_24, mg_25, mg_26, mg_27, mg_28, mg_29, mg_30, mg_31, mg_32, mg_33, mg_34, mg_35, mg_36, mg_37, mg_38, mg_39, mg_40, mg_41, mg_42, mg_43, mg_44, mg_45, mr_1, mr_2, mr_3, mr_4, mr_5, mr_6, mr_7, mr_8, mr_9, mr_10, mr_11, mr_12, mr_13, mr_14, mr_15, mr_16, mr_17, mr_18, mr_19, mr_20, mr_21, mr_22, mr_23, mr_24, mr_25, M_highOf hG hr, M_toOf hG hr, M_firstHigh hG hN hr, Int.toNat_natCast, gm_K hG hr, J_eq, J_lt, J_le, J_rem, Option.bind_some, decide_eq_true_iff]
  by_cases h3 : cK C r = 3
  · rw [if_pos (by omega), M_uns12 hG ht hr _ _ (by omega)]
    cases h : fi (fun q => decide ((1 ≤ hh C q t ∧ hh C q t ≤ 2) ∧ tt C q t = r)) (cR C) with
    | none =>
      rw [Bp_f]
      rw [if_pos h3]
      intro ⟨q, hq, h1⟩
      have := (fi_none _ _).1 h q hq
      rw [decide_eq_true_iff] at this
      exact this h1
    | some q =>
      rw [Bp_t]
      rw [if_pos h3]
      have ⟨a, b, _⟩ := (fi_some _ _ _).1 h
      exact ⟨q, a, decide_eq_true_iff.1 b⟩
  · rw [if_neg (by omega)]
    simp only [if_neg h3]
    congr 1; apply Bp_congr
    constructor <;> intro h <;> omega
theorem M_unsuitedOf (hG : GdM S 0 C) (hN : 1000000 ≤ N) {r : Nat} (hr : r < cR C) : fX5_unsuitedOf N (emM o S w) o (J r) = some (J (fU C r)) := by
  have hp := rnd_bd C
  unfold fX5_unsuitedOf
  simp (disch := omega) only [jn_0, jn_1, jn_2, jn_3, jn_4, jn_5, jn_6, jn_8, jn_9, jn_10, jn_11, jn_12, jn_16, jn_20, jn_24, jn_30, jn_31, jn_32, jn_36, jn_48, jn_57, jn_59, jn_60, jn_63, jn_72, jn_73, jn_96, jn_97, jn_100, jn_122, jn_144, jn_200, jn_240, jn_288, jn_512, jn_840, jn_1200, jn_1600, jn_5040, jn_5390, jn_5400, jn_9999, jn_18688, jn_32400, jn_99999, jn_100000, jn_1000000, jn_858993459, jn_1431655765, jn_252645135, jl_0, jl_1, jl_2, jl_3, jl_8, jl_9, jl_10, jl_20, jl_27, jl_47, jl_96, jl_99, jl_100, jl_200, jl_555, jl_2000, jl_10000, jl_12345, jl_65536, jl_99999, jl_131638, jl_240023, jl_298288, jl_383153, jl_1306021, jl_1960084, jl_4147840, jl_8740238, jl_9872299, jl_175252482, jl_291595537, jl_1103515245, jl_2000000000, jl_2147483648, jl_4721686497, jl_7873079139, J_add, J_sub, J_mul, J_neg, JL_add, JL_sub, JL_mul, JL_neg, J_long, JL_int, ↓remI_fold, ↓remL_fold, Int.reduceAdd, Int.reduceSub, Int.reduceMul, Int.reduceNeg, Int.reduceToNat, M_round hG, Option.bind_some]
  have key := lp_find (fun n i => fX5_unsuitedOf_9 N (emM o S w) o (J r) (J (2 * (rnd C : Int))) (fun y => some y) (some (J (-1))) n (J (i : Int))) (fun i => some (J i)) (some (J (-1))) (2 * rnd C) (uns C r) ?_ ?_ N (by omega)
  · refine Eq.trans key ?_
    unfold fU
    cases fi (uns C r) (2 * rnd C) <;> rfl
  · intro n i hi
    try dsimp only
    rw [fX5_unsuitedOf_9]
    simp (disch := omega) only [jn_0, jn_1, jn_2, jn_3, jn_4, jn_5, jn_6, jn_8, jn_9, jn_10, jn_11, jn_12, jn_16, jn_20, jn_24, jn_30, jn_31, jn_32, jn_36, jn_48, jn_57, jn_59, jn_60, jn_63, jn_72, jn_73, jn_96, jn_97, jn_100, jn_122, jn_144, jn_200, jn_240, jn_288, jn_512, jn_840, jn_1200, jn_1600, jn_5040, jn_5390, jn_5400, jn_9999, jn_18688, jn_32400, jn_99999, jn_100000, jn_1000000, jn_858993459, jn_1431655765, jn_252645135, jl_0, jl_1, jl_2, jl_3, jl_8, jl_9, jl_10, jl_20, jl_27, jl_47, jl_96, jl_99, jl_100, jl_200, jl_555, jl_2000, jl_10000, jl_12345, jl_65536, jl_99999, jl_131638, jl_240023, jl_298288, jl_383153, jl_1306021, jl_1960084, jl_4147840, jl_8740238, jl_9872299, jl_175252482, jl_291595537, jl_1103515245, jl_2000000000, jl_2147483648, jl_4721686497, jl_7873079139, J_add, J_sub, J_mul, J_neg, JL_add, JL_sub, JL_mul, JL_neg, J_long, JL_int, ↓remI_fold, ↓remL_fold, Int.reduceAdd, Int.reduceSub, Int.reduceMul, Int.reduceNeg, Int.reduceToNat, Classical.not_not, em_t, Bp_eq0, Bp_eq1, Bp_01, Bp_mk, Bp_mk', Bp_0, Bp_0', Bp_1, Bp_1', if_true, if_false, ite_not, J_le, castS, Option.bind_some, M_isUnsuited hG hN hr]
    rw [if_neg (by omega)]
  · intro n
    try dsimp only
    rw [fX5_unsuitedOf_9]
    simp (disch := omega) only [jn_0, jn_1, jn_2, jn_3, jn_4, jn_5, jn_6, jn_8, jn_9, jn_10, jn_11, jn_12, jn_16, jn_20, jn_24, jn_30, jn_31, jn_32, jn_36, jn_48, jn_57, jn_59, jn_60, jn_63, jn_72, jn_73, jn_96, jn_97, jn_100, jn_122, jn_144, jn_200, jn_240, jn_288, jn_512, jn_840, jn_1200, jn_1600, jn_5040, jn_5390, jn_5400, jn_9999, jn_18688, jn_32400, jn_99999, jn_100000, jn_1000000, jn_858993459, jn_1431655765, jn_252645135, jl_0, jl_1, jl_2, jl_3, jl_8, jl_9, jl_10, jl_20, jl_27, jl_47, jl_96, jl_99, jl_100, jl_200, jl_555, jl_2000, jl_10000, jl_12345, jl_65536, jl_99999, jl_131638, jl_240023, jl_298288, jl_383153, jl_1306021, jl_1960084, jl_4147840, jl_8740238, jl_9872299, jl_175252482, jl_291595537, jl_1103515245, jl_2000000000, jl_2147483648, jl_4721686497, jl_7873079139, J_add, J_sub, J_mul, J_neg, JL_add, JL_sub, JL_mul, JL_neg, J_long, JL_int, ↓remI_fold, ↓remL_fold, Int.reduceAdd, Int.reduceSub, Int.reduceMul, Int.reduceNeg, Int.reduceToNat, Classical.not_not, em_t, Bp_eq0, Bp_eq1, Bp_01, Bp_mk, Bp_mk', Bp_0, Bp_0', Bp_1, Bp_1', if_true, if_false, ite_not, J_le, castS, Option.bind_some]
    rw [if_pos (by omega)]
theorem fU_bd (C : Cy) (r : Nat) : -1 ≤ fU C r ∧ fU C r ≤ 1680 := by
  have hp := rnd_bd C
  unfold fU
  cases h : fi (uns C r) (2 * rnd C) with
  | none => simp only; omega
  | some b => have := ((fi_some _ _ _).1 h).1; simp only; omega
theorem M_unsuited (hG : GdM S 0 C) (hN : 1000000 ≤ N) {v : Int} (hv : -2147483648 ≤ v ∧ v ≤ 2147483647) : fX5_unsuited N (emM o S w) o (J v) = some (J (sp_unsuited C v), emM o (mSI S 0 (J 0)) w) := by
  have hG' : GdM (mSI S 0 (J 0)) 0 C := hG
  have hR := cR_le C
  unfold fX5_unsuited sp_unsuited
  simp (disch := omega) only [jn_0, jn_1, jn_2, jn_3, jn_4, jn_5, jn_6, jn_8, jn_9, jn_10, jn_11, jn_12, jn_16, jn_20, jn_24, jn_30, jn_31, jn_32, jn_36, jn_48, jn_57, jn_59, jn_60, jn_63, jn_72, jn_73, jn_96, jn_97, jn_100, jn_122, jn_144, jn_200, jn_240, jn_288, jn_512, jn_840, jn_1200, jn_1600, jn_5040, jn_5390, jn_5400, jn_9999, jn_18688, jn_32400, jn_99999, jn_100000, jn_1000000, jn_858993459, jn_1431655765, jn_252645135, jl_0, jl_1, jl_2, jl_3, jl_8, jl_9, jl_10, jl_20, jl_27, jl_47, jl_96, jl_99, jl_100, jl_200, jl_555, jl_2000, jl_10000, jl_12345, jl_65536, jl_99999, jl_131638, jl_240023, jl_298288, jl_383153, jl_1306021, jl_1960084, jl_4147840, jl_8740238, jl_9872299, jl_175252482, jl_291595537, jl_1103515245, jl_2000000000, jl_2147483648, jl_4721686497, jl_7873079139, J_add, J_sub, J_mul, J_neg, JL_add, JL_sub, JL_mul, JL_neg, J_long, JL_int, ↓remI_fold, ↓remL_fold, Int.reduceAdd, Int.reduceSub, Int.reduceMul, Int.reduceNeg, Int.reduceToNat, Classical.not_not, em_t, Bp_eq0, Bp_eq1, Bp_01, Bp_mk, Bp_mk', Bp_0, Bp_0', Bp_1, Bp_1', if_true, if_false, ite_not, mp_0, mp_6, mp_7, mp_8, mp_9, mp_10, mp_11, mp_12, mp_13, mp_14, mp_15, mp_26, mp_30, mp_31, mp_35, mp_36, mp_37, mp_41, mp_43, mp_44, mp_45, Option.bind_some, M_isRoof hG']
  by_cases h1 : 0 ≤ v ∧ v < cR C
  case neg => simp only [if_neg h1, ite_self]
  simp only [if_pos h1]
  obtain ⟨r, hr⟩ : ∃ r : Nat, v = r := ⟨v.toNat, by omega⟩
  subst hr
  simp (disch := omega) only [M_unsuitedOf hG' hN (show r < cR C by omega), Option.bind_some, Int.toNat_natCast]
theorem M_suits (hG : GdM S 0 C) (hN : 1000000 ≤ N) {v : Int} (hv : -2147483648 ≤ v ∧ v ≤ 2147483647) : fX5_suits N (emM o S w) o (J v) = some (J (sp_suits C v), emM o (mSI S 0 (J 0)) w) := by
  have hG' : GdM (mSI S 0 (J 0)) 0 C := hG
  have hR := cR_le C
  unfold fX5_suits sp_suits
  simp (disch := omega) only [jn_0, jn_1, jn_2, jn_3, jn_4, jn_5, jn_6, jn_8, jn_9, jn_10, jn_11, jn_12, jn_16, jn_20, jn_24, jn_30, jn_31, jn_32, jn_36, jn_48, jn_57, jn_59, jn_60, jn_63, jn_72, jn_73, jn_96, jn_97, jn_100, jn_122, jn_144, jn_200, jn_240, jn_288, jn_512, jn_840, jn_1200, jn_1600, jn_5040, jn_5390, jn_5400, jn_9999, jn_18688, jn_32400, jn_99999, jn_100000, jn_1000000, jn_858993459, jn_1431655765, jn_252645135, jl_0, jl_1, jl_2, jl_3, jl_8, jl_9, jl_10, jl_20, jl_27, jl_47, jl_96, jl_99, jl_100, jl_200, jl_555, jl_2000, jl_10000, jl_12345, jl_65536, jl_99999, jl_131638, jl_240023, jl_298288, jl_383153, jl_1306021, jl_1960084, jl_4147840, jl_8740238, jl_9872299, jl_175252482, jl_291595537, jl_1103515245, jl_2000000000, jl_2147483648, jl_4721686497, jl_7873079139, J_add, J_sub, J_mul, J_neg, JL_add, JL_sub, JL_mul, JL_neg, J_long, JL_int, ↓remI_fold, ↓remL_fold, Int.reduceAdd, Int.reduceSub, Int.reduceMul, Int.reduceNeg, Int.reduceToNat, Classical.not_not, em_t, Bp_eq0, Bp_eq1, Bp_01, Bp_mk, Bp_mk', Bp_0, Bp_0', Bp_1, Bp_1', if_true, if_false, ite_not, mp_0, mp_6, mp_7, mp_8, mp_9, mp_10, mp_11, mp_12, mp_13, mp_14, mp_15, mp_26, mp_30, mp_31, mp_35, mp_36, mp_37, mp_41, mp_43, mp_44, mp_45, Option.bind_some, M_isRoof hG']
  by_cases h1 : 0 ≤ v ∧ v < cR C
  case neg => simp only [if_neg h1, ite_self]
  simp only [if_pos h1]
  obtain ⟨r, hr⟩ : ∃ r : Nat, v = r := ⟨v.toNat, by omega⟩
  subst hr
  have hb := fU_bd C r
  simp (disch := omega) only [M_unsuitedOf hG' hN (show r < cR C by omega), Option.bind_some, Int.toNat_natCast, J_eq]
  by_cases h : fU C r = -1
  · simp only [if_pos h]
  · simp only [if_neg h]
end
