/-! the reference: judge, takes -/
set_option maxRecDepth 100000
section
variable {N o : Nat} {S : MS} {w : Wd} {C : Cy} {σ : Sl}
theorem JL_v (x : Int64) : JL x.toInt = x := JL_of x
theorem M_why53 (hG : GdM S 0 C) (hN : 1000000 ≤ N) {a r n : Nat} (ha : a < 4) (hr : r < cR C) (hn : 1 ≤ n ∧ n ≤ 8) {g : Nat → Int64} (h2 : ma S 2 a = J (n : Int)) (h3 : ∀ i, i < n → mb S 3 (60 * a + i) = g i) (k1 k2 : Option Int32) : fX5_whyNot_53 N (emM o S w) o (J (a : Int)) (J (r : Int)) k1 k2 N (J 0) = match fi (fun i => !okc (cR C) r (g i)) n with
    | some _ => k1
    | none => k2 := by
  have hR := cR_le C
  have hz : 0 ≤ (a : Int) ∧ (a : Int) < 4 := by omega
  have key := lp_find (fun m i => fX5_whyNot_53 N (emM o S w) o (J (a : Int)) (J (r : Int)) k1 k2 m (J (i : Int))) (fun _ => k1) k2 n (fun i => !okc (cR C) r (g i)) ?_ ?_ N (by omega)
  · exact key
  · intro m i hi
    have hz2 : 0 ≤ 60 * (a : Int) + (i : Int) ∧ 60 * (a : Int) + (i : Int) < 240 := by omega
    have hidx : (60 * (a : Int) + (i : Int)).toNat = 60 * a + i := by omega
    have hzb := JL_bd (g i)
    show fX5_whyNot_53 _ _ _ _ _ _ _ _ _ = _
    rw [fX5_whyNot_53]
    simp only [jn_0, jn_1, jn_2, jn_3, jn_4, jn_5, jn_6, jn_8, jn_9, jn_10, jn_11, jn_12, jn_16, jn_20, jn_24, jn_30, jn_31, jn_32, jn_36, jn_48, jn_57, jn_59, jn_60, jn_63, jn_72, jn_73, jn_96, jn_97, jn_100, jn_122, jn_144, jn_200, jn_240, jn_288, jn_512, jn_840, jn_1200, jn_1600, jn_5040, jn_5390, jn_5400, jn_9999, jn_18688, jn_32400, jn_99999, jn_100000, jn_1000000, jn_858993459, jn_1431655765, jn_252645135, jl_0, jl_1, jl_2, jl_3, jl_8, jl_9, jl_10, jl_20, jl_27, jl_47, jl_96, jl_99, jl_100, jl_200, jl_555, jl_2000, jl_10000, jl_12345, jl_65536, jl_99999, jl_131638, jl_240023, jl_298288, jl_383153, jl_1306021, jl_1960084, jl_4147840, jl_8740238, jl_9872299, jl_175252482, jl_291595537, jl_1103515245, jl_2000000000, jl_2147483648, jl_4721686497, jl_7873079139, J_add, J_sub, J_mul, J_neg, JL_add, JL_sub, JL_mul, JL_neg, J_long, JL_int, ↓remI_fold, ↓remL_fold, Int.reduceAdd, Int.reduceSub, Int.reduceMul, Int.reduceNeg, Int.reduceToNat, mg_2, mg_3, mg_17, mr_2 o _ w hz, Int.toNat_natCast, h2, mr_3 o _ w hz2, hidx, h3 i hi, mr_7 o _ w (show (0 : Int) ≤ 0 ∧ (0 : Int) < 6 by omega), gm_R hG, Int.toNat_zero, Option.bind_some, castS]
    rw [if_neg (by rw [J_le (by omega)]; omega)]
    unfold okc
    rw [← JL_v (g i)]
    generalize hzz : (g i).toInt = z at *
    have e1 : fX5_in N (emM o S w) (JL z) (JL 0) (JL 99) = some (Bp (0 ≤ z ∧ z ≤ 99)) := M_in (by omega)
    rw [JL_toInt (by omega), e1, Option.bind_some]
    simp only [Classical.not_not, em_t, Bp_eq0, Bp_eq1, Bp_01, Bp_mk, Bp_mk', Bp_0, Bp_0', Bp_1, Bp_1', if_true, if_false, ite_not]
    by_cases h4 : 0 ≤ z ∧ z ≤ 99
    case neg => rw [if_neg h4, if_pos (by simp [h4])]
    rw [if_pos h4]
    have e2 : remL (JL z) (JL 10) = JL (z % 10) := JL_rem (by omega)
    have e3 : JL z / JL 10 = JL (z / 10) := JL_div (by omega)
    have c1 : (J 0 ≤ lg_cmp (JL (z % 10)) (JL (cR C : Int))) = ((cR C : Int) ≤ z % 10) := cmp_ge0 (by omega)
    have c2 : (lg_cmp (JL (z / 10)) (JL 0) = J 0) = (z / 10 = 0) := cmp_eq0 (by omega)
    have c3 : (lg_cmp (JL (z % 10)) (JL (r : Int)) = J 0) = (z % 10 = (r : Int)) := cmp_eq0 (by omega)
    have l1 : (J (cR C : Int)).toInt64 = JL (cR C : Int) := J_long (by omega)
    have l2 : (J (r : Int)).toInt64 = JL (r : Int) := J_long (by omega)
    simp only [e2, e3, l1, l2, c1, c2, c3]
    by_cases h5 : (cR C : Int) ≤ z % 10
    · rw [if_pos h5, if_pos (by simp; omega)]
    rw [if_neg h5]
    by_cases h6 : z / 10 = 0
    · rw [if_pos h6]
      by_cases h7 : z % 10 = (r : Int)
      · rw [if_pos h7, if_neg (by simp; omega)]
      · rw [if_neg h7, if_pos (by simp; omega)]
    · rw [if_neg h6, if_neg (by simp; omega)]
  · intro m
    show fX5_whyNot_53 _ _ _ _ _ _ _ _ _ = _
    rw [fX5_whyNot_53]
    simp only [mg_2, mr_2 o _ w hz, Int.toNat_natCast, h2, Option.bind_some]
    rw [if_pos (by rw [J_le (by omega)]; omega)]
theorem M_whyNot (hG : GdM S 0 C) (hS : SlM S σ) (hN : 1000000 ≤ N) {v r : Int} (hv : -2147483648 ≤ v ∧ v ≤ 2147483647) (hr : -2147483648 ≤ r ∧ r ≤ 2147483647) : fX5_whyNot N (emM o S w) o (J v) (J r) = some (J (if 0 < sp_asks C σ v r then 0 else sp_asks C σ v r)) := by
  have hR := cR_le C
  unfold fX5_whyNot sp_asks
  simp only [jn_0, jn_1, jn_2, jn_3, jn_4, jn_5, jn_6, jn_8, jn_9, jn_10, jn_11, jn_12, jn_16, jn_20, jn_24, jn_30, jn_31, jn_32, jn_36, jn_48, jn_57, jn_59, jn_60, jn_63, jn_72, jn_73, jn_96, jn_97, jn_100, jn_122, jn_144, jn_200, jn_240, jn_288, jn_512, jn_840, jn_1200, jn_1600, jn_5040, jn_5390, jn_5400, jn_9999, jn_18688, jn_32400, jn_99999, jn_100000, jn_1000000, jn_858993459, jn_1431655765, jn_252645135, jl_0, jl_1, jl_2, jl_3, jl_8, jl_9, jl_10, jl_20, jl_27, jl_47, jl_96, jl_99, jl_100, jl_200, jl_555, jl_2000, jl_10000, jl_12345, jl_65536, jl_99999, jl_131638, jl_240023, jl_298288, jl_383153, jl_1306021, jl_1960084, jl_4147840, jl_8740238, jl_9872299, jl_175252482, jl_291595537, jl_1103515245, jl_2000000000, jl_2147483648, jl_4721686497, jl_7873079139, J_add, J_sub, J_mul, J_neg, JL_add, JL_sub, JL_mul, JL_neg, J_long, JL_int, ↓remI_fold, ↓remL_fold, Int.reduceAdd, Int.reduceSub, Int.reduceMul, Int.reduceNeg, Int.reduceToNat, Classical.not_not, em_t, Bp_eq0, Bp_eq1, Bp_01, Bp_mk, Bp_mk', Bp_0, Bp_0', Bp_1, Bp_1', if_true, if_false, ite_not, M_isSlot hv, M_isRoof hG hr, Option.bind_some]
  by_cases h1 : 0 ≤ v ∧ v ≤ 3
  case neg => simp only [if_neg h1]; rfl
  simp only [if_pos h1]
  by_cases h2 : 0 ≤ r ∧ r < cR C
  case neg => simp only [if_neg h2]; rfl
  simp only [if_pos h2]
  obtain ⟨a, ha⟩ : ∃ a : Nat, v = a := ⟨v.toNat, by omega⟩
  subst ha
  obtain ⟨b, hb⟩ : ∃ a : Nat, r = a := ⟨r.toNat, by omega⟩
  subst hb
  have hz : 0 ≤ (a : Int) ∧ (a : Int) < 4 := by omega
  have ⟨i1, i2⟩ := hS a (by omega)
  simp only [mg_1, mg_2, mr_1 o _ w hz, mr_2 o _ w hz, Int.toNat_natCast, Option.bind_some]
  cases hs : σ a with
  | none =>
    simp only
    rw [i1 hs, if_pos rfl]; rfl
  | some y =>
    obtain ⟨u, n, g⟩ := y
    obtain ⟨j1, j2, j3, j4, j5⟩ := i2 u n g hs
    simp only
    rw [j3, if_neg (by rw [J_eq (by omega)]; omega), j4, J_long (by omega)]
    have e1 : fX5_in N (emM o S w) (JL (n : Int)) (JL 1) (JL 8) = some (Bp (1 ≤ (n : Int) ∧ (n : Int) ≤ 8)) := M_in (by omega)
    rw [e1, Option.bind_some]
    simp only [Classical.not_not, em_t, Bp_eq0, Bp_eq1, Bp_01, Bp_mk, Bp_mk', Bp_0, Bp_0', Bp_1, Bp_1', if_true, if_false, ite_not]
    by_cases h3 : 1 ≤ n ∧ n ≤ 8
    case neg => rw [if_neg (by omega), if_neg h3]; rfl
    rw [if_pos (by omega), if_pos h3, M_why53 hG hN (by omega) (by omega) h3 j4 j5]
    cases fi (fun i => !okc (cR C) b (g i)) n with
    | some i => rfl
    | none =>
      simp only
      rw [if_pos (by omega)]
theorem M_takesRow (hG : GdM S 0 C) (hN : 1000000 ≤ N) {a r n : Nat} (ha : a < 4) (hr : r < cR C) (hn : 1 ≤ n ∧ n ≤ 8) {g : Nat → Int64} (h2 : ma S 2 a = J (n : Int)) (h3 : ∀ i, i < n → mb S 3 (60 * a + i) = g i) (hg : ∀ i, i < n → okc (cR C) r (g i) = true) : fX5_takesRow N (emM o S w) o (J (a : Int)) (J (r : Int)) = some (emM o (mS2 (mSA S 9 r (J (n : Int))) r n (fun i => J ((g i).toInt / 10)) (fun i => J ((g i).toInt % 10))) w) := by
  have hR := cR_le C
  have hz : 0 ≤ (a : Int) ∧ (a : Int) < 4 := by omega
  unfold fX5_takesRow
  simp only [jn_0, jn_1, jn_2, jn_3, jn_4, jn_5, jn_6, jn_8, jn_9, jn_10, jn_11, jn_12, jn_16, jn_20, jn_24, jn_30, jn_31, jn_32, jn_36, jn_48, jn_57, jn_59, jn_60, jn_63, jn_72, jn_73, jn_96, jn_97, jn_100, jn_122, jn_144, jn_200, jn_240, jn_288, jn_512, jn_840, jn_1200, jn_1600, jn_5040, jn_5390, jn_5400, jn_9999, jn_18688, jn_32400, jn_99999, jn_100000, jn_1000000, jn_858993459, jn_1431655765, jn_252645135, jl_0, jl_1, jl_2, jl_3, jl_8, jl_9, jl_10, jl_20, jl_27, jl_47, jl_96, jl_99, jl_100, jl_200, jl_555, jl_2000, jl_10000, jl_12345, jl_65536, jl_99999, jl_131638, jl_240023, jl_298288, jl_383153, jl_1306021, jl_1960084, jl_4147840, jl_8740238, jl_9872299, jl_175252482, jl_291595537, jl_1103515245, jl_2000000000, jl_2147483648, jl_4721686497, jl_7873079139, J_add, J_sub, J_mul, J_neg, JL_add, JL_sub, JL_mul, JL_neg, J_long, JL_int, ↓remI_fold, ↓remL_fold, Int.reduceAdd, Int.reduceSub, Int.reduceMul, Int.reduceNeg, Int.reduceToNat, mg_19, mg_2, mr_2 o _ w hz, Int.toNat_natCast, h2, mw_9 o _ w _ (show 0 ≤ (r : Int) ∧ (r : Int) < 36 by omega), Option.bind_some]
  generalize hT : mSA S 9 r (J (n : Int)) = T
  have t2 : ma T 2 = ma S 2 := by rw [← hT]; rfl
  have t3 : mb T 3 = mb S 3 := by rw [← hT]; rfl
  have key := lp_cnt (fun m i => fX5_takesRow_14 N o (J (a : Int)) (J (r : Int)) (fun w16 => some w16) m (J (i : Int)) (emM o (mS2 T r i (fun i => J ((g i).toInt / 10)) (fun i => J ((g i).toInt % 10))) w)) (some (emM o (mS2 T r n (fun i => J ((g i).toInt / 10)) (fun i => J ((g i).toInt % 10))) w)) n ?_ ?_ N (by omega)
  · rw [mS2_0] at key
    exact key
  · intro m i hi
    have hz2 : 0 ≤ 60 * (a : Int) + (i : Int) ∧ 60 * (a : Int) + (i : Int) < 240 := by omega
    have hidx : (60 * (a : Int) + (i : Int)).toNat = 60 * a + i := by omega
    have hz3 : 0 ≤ 8 * (r : Int) + (i : Int) ∧ 8 * (r : Int) + (i : Int) < 288 := by omega
    have hidx3 : (8 * (r : Int) + (i : Int)).toNat = 8 * r + i := by omega
    have hzb := (okc_t (hg i hi)).1
    have u2 : ma (mS2 T r i (fun i => J ((g i).toInt / 10)) (fun i => J ((g i).toInt % 10))) 2 a = J (n : Int) := by rw [mS2_9 _ _ _ _ _ _ (by decide), t2, h2]
    have u3 : ∀ x, mb (mSA (mS2 T r i (fun i => J ((g i).toInt / 10)) (fun i => J ((g i).toInt % 10))) 10 (8 * r + i) x) 3 (60 * a + i) = g i := fun x => by
      show mb T 3 (60 * a + i) = g i
      rw [t3, h3 i hi]
    have u4 : mb (mS2 T r i (fun i => J ((g i).toInt / 10)) (fun i => J ((g i).toInt % 10))) 3 (60 * a + i) = g i := by
      show mb T 3 (60 * a + i) = g i
      rw [t3, h3 i hi]
    have e0 : (g i).toInt32 = J (g i).toInt := by
      have := JL_int (g i).toInt
      rwa [JL_v] at this
    have e1 : J (g i).toInt / J 10 = J ((g i).toInt / 10) := J_div (by omega)
    have e2 : remI (J (g i).toInt) (J 10) = J ((g i).toInt % 10) := J_rem (by omega)
    show fX5_takesRow_14 _ _ _ _ _ _ _ _ = _
    rw [fX5_takesRow_14]
    simp only [jn_0, jn_1, jn_2, jn_3, jn_4, jn_5, jn_6, jn_8, jn_9, jn_10, jn_11, jn_12, jn_16, jn_20, jn_24, jn_30, jn_31, jn_32, jn_36, jn_48, jn_57, jn_59, jn_60, jn_63, jn_72, jn_73, jn_96, jn_97, jn_100, jn_122, jn_144, jn_200, jn_240, jn_288, jn_512, jn_840, jn_1200, jn_1600, jn_5040, jn_5390, jn_5400, jn_9999, jn_18688, jn_32400, jn_99999, jn_100000, jn_1000000, jn_858993459, jn_1431655765, jn_252645135, jl_0, jl_1, jl_2, jl_3, jl_8, jl_9, jl_10, jl_20, jl_27, jl_47, jl_96, jl_99, jl_100, jl_200, jl_555, jl_2000, jl_10000, jl_12345, jl_65536, jl_99999, jl_131638, jl_240023, jl_298288, jl_383153, jl_1306021, jl_1960084, jl_4147840, jl_8740238, jl_9872299, jl_175252482, jl_291595537, jl_1103515245, jl_2000000000, jl_2147483648, jl_4721686497, jl_7873079139, J_add, J_sub, J_mul, J_neg, JL_add, JL_sub, JL_mul, JL_neg, J_long, JL_int, ↓remI_fold, ↓remL_fold, Int.reduceAdd, Int.reduceSub, Int.reduceMul, Int.reduceNeg, Int.reduceToNat, mg_2, mg_3, mg_20, mg_21, mr_2 o _ w hz, Int.toNat_natCast, u2, mr_3 o _ w hz2, hidx, u3, u4, e0, e1, e2, mw_10 o _ w _ hz3, mw_11 o _ w _ hz3, hidx3, Option.bind_some, castS]
    rw [if_neg (by rw [J_le (by omega)]; omega)]
    rw [← mS2_s T r i (fun i => J ((g i).toInt / 10)) (fun i => J ((g i).toInt % 10))]
  · intro m
    have u2 : ma (mS2 T r n (fun i => J ((g i).toInt / 10)) (fun i => J ((g i).toInt % 10))) 2 a = J (n : Int) := by rw [mS2_9 _ _ _ _ _ _ (by decide), t2, h2]
    show fX5_takesRow_14 _ _ _ _ _ _ _ _ = _
    rw [fX5_takesRow_14]
    simp only [mg_2, mr_2 o _ w hz, Int.toNat_natCast, u2, Option.bind_some]
    rw [if_pos (by rw [J_le (by omega)]; omega)]
/-- the city behind a row that was taken -/
theorem tk_G (hG : GdM S 0 C) {r n : Nat} (hr : r < cR C) (hn : 1 ≤ n ∧ n ≤ 8) {g : Nat → Int64} (hg : ∀ i, i < n → okc (cR C) r (g i) = true) : GdM (mS2 (mSA S 9 r (J (n : Int))) r n (fun i => J ((g i).toInt / 10)) (fun i => J ((g i).toInt % 10))) 0 (tkC C g r n) ∧ FrC S (mS2 (mSA S 9 r (J (n : Int))) r n (fun i => J ((g i).toInt / 10)) (fun i => J ((g i).toInt % 10))) := by
  have hR := cR_le C
  have m10 : ∀ p, ma (mS2 (mSA S 9 r (J (n : Int))) r n (fun i => J ((g i).toInt / 10)) (fun i => J ((g i).toInt % 10))) 10 p = if p < 8 * r + n then (if 8 * r ≤ p then J ((g (p - 8 * r)).toInt / 10) else ma S 10 p) else ma S 10 p := fun p => rfl
  have m11 : ∀ p, ma (mS2 (mSA S 9 r (J (n : Int))) r n (fun i => J ((g i).toInt / 10)) (fun i => J ((g i).toInt % 10))) 11 p = if p < 8 * r + n then (if 8 * r ≤ p then J ((g (p - 8 * r)).toInt % 10) else ma S 11 p) else ma S 11 p := fun p => rfl
  have m9 : ma (mS2 (mSA S 9 r (J (n : Int))) r n (fun i => J ((g i).toInt / 10)) (fun i => J ((g i).toInt % 10))) 9 = upd (ma S 9) r (J (n : Int)) := rfl
  refine ⟨GdM_row hG hr hn (by rw [m9, upd_s]) (fun q _ hq => by rw [m9, upd_o _ _ hq]) (fun i hi => ?_) (fun q i hq hqr hi => ?_) (fun b hb => ?_), FrC_t (FrC_A S 9 r _ (by omega) (Or.inl (by simp only [bdS, List.getD_cons_succ, List.getD_cons_zero]; omega))) (mS2_C _ (by omega) (by omega) _ _)⟩
  · have ht := okc_t (hg i hi)
    rw [m10, m11, if_pos (by omega), if_pos (by omega), if_pos (by omega), if_pos (by omega), Nat.add_sub_cancel_left]
    refine ⟨by omega, by omega, by congr 1; omega, by congr 1; omega⟩
  · rw [m10, m11]
    by_cases h : 8 * q + i < 8 * r + n
    · rw [if_pos h, if_neg (by omega), if_pos h, if_neg (by omega)]; exact ⟨rfl, rfl⟩
    · rw [if_neg h, if_neg h]; exact ⟨rfl, rfl⟩
  · rw [mS2_9 _ _ _ _ _ _ (by omega), ma_A, if_neg (by omega)]
theorem M_takes (hG : GdM S 0 C) (hS : SlM S σ) (hN : 1000000 ≤ N) {v r : Int} (hv : -2147483648 ≤ v ∧ v ≤ 2147483647) (hr : -2147483648 ≤ r ∧ r ≤ 2147483647) : ∃ S', fX5_takes_2 N (emM o S w) o (J v) (J r) = some (J (sp_takes C σ v r).1, emM o S' w) ∧ FrC S S' ∧ GdM S' 0 (sp_takes C σ v r).2 := by
  have hG' : GdM (mSI S 0 (J 0)) 0 C := hG
  unfold fX5_takes_2 sp_takes
  simp only [jn_0, jn_1, jn_2, jn_3, jn_4, jn_5, jn_6, jn_8, jn_9, jn_10, jn_11, jn_12, jn_16, jn_20, jn_24, jn_30, jn_31, jn_32, jn_36, jn_48, jn_57, jn_59, jn_60, jn_63, jn_72, jn_73, jn_96, jn_97, jn_100, jn_122, jn_144, jn_200, jn_240, jn_288, jn_512, jn_840, jn_1200, jn_1600, jn_5040, jn_5390, jn_5400, jn_9999, jn_18688, jn_32400, jn_99999, jn_100000, jn_1000000, jn_858993459, jn_1431655765, jn_252645135, jl_0, jl_1, jl_2, jl_3, jl_8, jl_9, jl_10, jl_20, jl_27, jl_47, jl_96, jl_99, jl_100, jl_200, jl_555, jl_2000, jl_10000, jl_12345, jl_65536, jl_99999, jl_131638, jl_240023, jl_298288, jl_383153, jl_1306021, jl_1960084, jl_4147840, jl_8740238, jl_9872299, jl_175252482, jl_291595537, jl_1103515245, jl_2000000000, jl_2147483648, jl_4721686497, jl_7873079139, J_add, J_sub, J_mul, J_neg, JL_add, JL_sub, JL_mul, JL_neg, J_long, JL_int, ↓remI_fold, ↓remL_fold, Int.reduceAdd, Int.reduceSub, Int.reduceMul, Int.reduceNeg, Int.reduceToNat, mp_0, M_whyNot hG' (SlM_I0 hS) hN hv hr, Option.bind_some]
  by_cases h1 : 0 < sp_asks C σ v r
  case neg =>
    have hlo : -6 ≤ sp_asks C σ v r := by
      unfold sp_asks
      repeat' split
      all_goals omega
    have hne : sp_asks C σ v r ≠ 0 := by
      unfold sp_asks
      repeat' split
      all_goals omega
    simp only [if_neg h1]
    exact ⟨_, by rw [if_neg (by rw [J_eq (by omega)]; omega)], FrC_I0 S, hG'⟩
  simp only [if_pos h1, if_true]
  obtain ⟨v1, r1, u, n, hs, hn, en, hg⟩ := asks_pos h1
  obtain ⟨a, ha⟩ : ∃ a : Nat, v = a := ⟨v.toNat, by omega⟩
  subst ha
  obtain ⟨b, hb⟩ : ∃ a : Nat, r = a := ⟨r.toNat, by omega⟩
  subst hb
  simp only [Int.toNat_natCast] at hs hg ⊢
  obtain ⟨j1, j2, j3, j4, j5⟩ := (hS a (by omega)).2 u n _ hs
  have hz : 0 ≤ (a : Int) ∧ (a : Int) < 4 := by omega
  have ht := tk_G hG' (show b < cR C by omega) hn hg
  rw [en, M_takesRow hG' hN (by omega) (by omega) hn (by exact j4) (by exact j5) hg, Option.bind_some, mg_2, Option.bind_some, mr_2 o _ w hz, Option.bind_some, Int.toNat_natCast]
  refine ⟨_, ?_, FrC_t (FrC_I0 S) ht.2, by simpa using ht.1⟩
  have u2 : ma (mS2 (mSA (mSI S 0 (J 0)) 9 b (J (n : Int))) b n (fun i => J ((rwG σ a i).toInt / 10)) (fun i => J ((rwG σ a i).toInt % 10))) 2 a = J (n : Int) := by
    rw [mS2_9 _ _ _ _ _ _ (by decide)]
    exact j4
  rw [u2]
theorem mCC_far {S' : MS} {n : Nat} (hn : 1 ≤ n) (hG : GdM S n C) (h : ∀ a, a ≠ 9 → a ≠ 10 → a ≠ 11 → ma S' a = ma S a) (h9 : ∀ p, 6 ≤ p → ma S' 9 p = ma S 9 p) (h10 : ∀ p, 48 ≤ p → ma S' 10 p = ma S 10 p) (h11 : ∀ p, 48 ≤ p → ma S' 11 p = ma S 11 p) : GdM S' n C := by
  obtain ⟨g1, g2, g3, g4, g5, g6, g7, g8⟩ := hG
  refine ⟨?_, ?_, fun r hr => ?_, ?_, ?_, ?_, ?_, ?_⟩
  · rw [h 6 (by decide) (by decide) (by decide)]; exact g1
  · rw [h 7 (by decide) (by decide) (by decide)]; exact g2
  · have ⟨a1, a2, a3⟩ := g3 r hr
    refine ⟨?_, ?_, fun i hi => ?_⟩
    · rw [h 8 (by decide) (by decide) (by decide)]; exact a1
    · rw [h9 _ (by omega)]; exact a2
    · rw [h10 _ (by omega), h11 _ (by omega)]
      exact a3 i hi
  · rw [h 12 (by decide) (by decide) (by decide)]; exact g4
  · rw [h 12 (by decide) (by decide) (by decide)]; exact g5
  · rw [h 13 (by decide) (by decide) (by decide)]; exact g6
  · rw [h 14 (by decide) (by decide) (by decide)]; exact g7
  · rw [h 15 (by decide) (by decide) (by decide)]; exact g8
/-- copying keeps what is no part of the sixth city -/
theorem mCC_C5 (S : MS) : FrC S (mCC S 0 5) := by
  refine ⟨fun a ha => mCC_a _ _ _ ha, fun a i h1 h2 h3 h4 => ?_, rfl, rfl, rfl, rfl⟩
  have : a = 6 ∨ a = 7 ∨ a = 8 ∨ a = 9 ∨ a = 10 ∨ a = 11 ∨ a = 12 ∨ a = 13 ∨ a = 14 ∨ a = 15 := by omega
  rcases this with h | h | h | h | h | h | h | h | h | h <;> subst h <;> simp only [bdS, List.getD_cons_succ, List.getD_cons_zero] at h3 h4
  · rw [mCC_6, cpR_n _ (by omega)]
  · rw [mCC_7, cpR_n _ (by omega)]
  · rw [mCC_8, cpR_n _ (by omega)]
  · rw [mCC_9, cpR_n _ (by omega)]
  · rw [mCC_10, cpR_n _ (by omega)]
  · rw [mCC_11, cpR_n _ (by omega)]
  · rw [mCC_12, cpR_n _ (by omega)]
  · rw [mCC_13, cpR_n _ (by omega)]
  · rw [mCC_14, cpR_n _ (by omega)]
  · rw [mCC_15, cpR_n _ (by omega)]
theorem mCC_C0 (S : MS) (f : Nat) : FrC S (mCC S f 0) := by
  refine ⟨fun a ha => mCC_a _ _ _ ha, fun a i h1 h2 h3 h4 => ?_, rfl, rfl, rfl, rfl⟩
  have : a = 6 ∨ a = 7 ∨ a = 8 ∨ a = 9 ∨ a = 10 ∨ a = 11 ∨ a = 12 ∨ a = 13 ∨ a = 14 ∨ a = 15 := by omega
  rcases this with h | h | h | h | h | h | h | h | h | h <;> subst h <;> simp only [bdS, List.getD_cons_succ, List.getD_cons_zero] at h3 h4
  · rw [mCC_6, cpR_n _ (by omega)]
  · rw [mCC_7, cpR_n _ (by omega)]
  · rw [mCC_8, cpR_n _ (by omega)]
  · rw [mCC_9, cpR_n _ (by omega)]
  · rw [mCC_10, cpR_n _ (by omega)]
  · rw [mCC_11, cpR_n _ (by omega)]
  · rw [mCC_12, cpR_n _ (by omega)]
  · rw [mCC_13, cpR_n _ (by omega)]
  · rw [mCC_14, cpR_n _ (by omega)]
  · rw [mCC_15, cpR_n _ (by omega)]
theorem M_judge (hG : GdM S 0 C) (hS : SlM S σ) (hN : 1000000 ≤ N) {v r : Int} (hv : -2147483648 ≤ v ∧ v ≤ 2147483647) (hr : -2147483648 ≤ r ∧ r ≤ 2147483647) : ∃ S', fX5_judge N (emM o S w) o (J v) (J r) = some (J (sp_judge C σ v r), emM o S' w) ∧ FrC S S' ∧ GdM S' 0 C := by
  have hG' : GdM (mSI S 0 (J 0)) 0 C := hG
  unfold fX5_judge sp_judge
  simp only [jn_0, jn_1, jn_2, jn_3, jn_4, jn_5, jn_6, jn_8, jn_9, jn_10, jn_11, jn_12, jn_16, jn_20, jn_24, jn_30, jn_31, jn_32, jn_36, jn_48, jn_57, jn_59, jn_60, jn_63, jn_72, jn_73, jn_96, jn_97, jn_100, jn_122, jn_144, jn_200, jn_240, jn_288, jn_512, jn_840, jn_1200, jn_1600, jn_5040, jn_5390, jn_5400, jn_9999, jn_18688, jn_32400, jn_99999, jn_100000, jn_1000000, jn_858993459, jn_1431655765, jn_252645135, jl_0, jl_1, jl_2, jl_3, jl_8, jl_9, jl_10, jl_20, jl_27, jl_47, jl_96, jl_99, jl_100, jl_200, jl_555, jl_2000, jl_10000, jl_12345, jl_65536, jl_99999, jl_131638, jl_240023, jl_298288, jl_383153, jl_1306021, jl_1960084, jl_4147840, jl_8740238, jl_9872299, jl_175252482, jl_291595537, jl_1103515245, jl_2000000000, jl_2147483648, jl_4721686497, jl_7873079139, J_add, J_sub, J_mul, J_neg, JL_add, JL_sub, JL_mul, JL_neg, J_long, JL_int, ↓remI_fold, ↓remL_fold, Int.reduceAdd, Int.reduceSub, Int.reduceMul, Int.reduceNeg, Int.reduceToNat, mp_0, M_whyNot hG' (SlM_I0 hS) hN hv hr, Option.bind_some]
  by_cases h1 : 0 < sp_asks C σ v r
  case neg =>
    have hlo : -6 ≤ sp_asks C σ v r := by
      unfold sp_asks
      repeat' split
      all_goals omega
    have hne : sp_asks C σ v r ≠ 0 := by
      unfold sp_asks
      repeat' split
      all_goals omega
    simp only [if_neg h1]
    exact ⟨_, by rw [if_neg (by rw [J_eq (by omega)]; omega)], FrC_I0 S, hG'⟩
  simp only [if_pos h1, if_true]
  obtain ⟨v1, r1, u, n, hs, hn, en, hg⟩ := asks_pos h1
  obtain ⟨a, ha⟩ : ∃ a : Nat, v = a := ⟨v.toNat, by omega⟩
  subst ha
  obtain ⟨b, hb⟩ : ∃ a : Nat, r = a := ⟨r.toNat, by omega⟩
  subst hb
  simp only [Int.toNat_natCast] at hs hg ⊢
  obtain ⟨j1, j2, j3, j4, j5⟩ := (hS a (by omega)).2 u n _ hs
  have hb : b < cR C := by omega
  have hR := cR_le C
  have c1 : fX5_copyCity N (emM o (mSI S 0 (J 0)) w) o (J 0) (J 5) = some (emM o (mCC (mSI S 0 (J 0)) 0 5) w) := M_copyCity (f := 0) (t := 5) hN (by omega) (by omega) (by omega)
  have hG1 : GdM (mCC (mSI S 0 (J 0)) 0 5) 0 C := mCC_o (by omega) hG'
  have hG5 : GdM (mCC (mSI S 0 (J 0)) 0 5) 5 C := mCC_t hG'
  have hF1 := FrC_t (FrC_I0 S) (mCC_C5 (mSI S 0 (J 0)))
  have ht := tk_G hG1 hb hn hg
  rw [en, c1, Option.bind_some, M_takesRow hG1 hN (by omega) hb hn (by rw [mCC_a _ _ _ (by omega)]; exact j4) (by exact j5) hg, Option.bind_some, M_isUp ht.1 (by omega), Option.bind_some]
  have hT5 : GdM (mS2 (mSA (mCC (mSI S 0 (J 0)) 0 5) 9 b (J (n : Int))) b n (fun i => J ((rwG σ a i).toInt / 10)) (fun i => J ((rwG σ a i).toInt % 10))) 5 C := by
    refine mCC_far (by omega) hG5 (fun q h1 h2 h3 => ?_) (fun p hp => ?_) (fun p hp => ?_) (fun p hp => ?_)
    · rw [mS2_9 _ _ _ _ _ _ ⟨h2, h3⟩, ma_A, if_neg h1]
    · rw [mS2_9 _ _ _ _ _ _ (by decide), ma_A, if_pos rfl, upd_o _ _ (by omega)]
    · show (if p < 8 * b + n then _ else _) = _
      rw [if_neg (by omega)]; rfl
    · show (if p < 8 * b + n then _ else _) = _
      rw [if_neg (by omega)]; rfl
  generalize mS2 (mSA (mCC (mSI S 0 (J 0)) 0 5) 9 b (J (n : Int))) b n (fun i => J ((rwG σ a i).toInt / 10)) (fun i => J ((rwG σ a i).toInt % 10)) = T at *
  have c2 : fX5_copyCity N (emM o T w) o (J 5) (J 0) = some (emM o (mCC T 5 0) w) := M_copyCity (f := 5) (t := 0) hN (by omega) (by omega) (by omega)
  have e5 : (n : Int).toNat = n := Int.toNat_natCast n
  rw [c2, e5]
  refine ⟨mCC T 5 0, ?_, FrC_t hF1 (FrC_t ht.2 (mCC_C0 T 5)), mCC_t hT5⟩
  by_cases h2 : kp (tkC C (rwG σ a) b n) = true
  · simp only [Bp_eq0, h2, not_true_eq_false, if_false, if_true, Option.bind_some]
  · simp only [Bp_eq0, h2, not_false_eq_true, if_true, if_false, Option.bind_some, Bool.false_eq_true]
end
