/-! the reference: changes -/
set_option maxRecDepth 100000
section
variable {N o : Nat} {S : MS} {w : Wd} {C : Cy}
theorem M_state (hG : GdM S 0 C) (hN : 1000000 ≤ N) {v i : Int} (hv : -2147483648 ≤ v ∧ v ≤ 2147483647) (hi : -2147483648 ≤ i ∧ i ≤ 2147483647) : fX5_state N (emM o S w) o (J v) (J i) = some (J (sp_state C v i), emM o (mSI S 0 (J 0)) w) := by
  have hG' : GdM (mSI S 0 (J 0)) 0 C := hG
  have hP := cP_bd C v.toNat
  unfold fX5_state sp_state
  simp (disch := omega) only [jn_0, jn_1, jn_2, jn_3, jn_4, jn_5, jn_6, jn_8, jn_9, jn_10, jn_11, jn_12, jn_16, jn_20, jn_24, jn_30, jn_31, jn_32, jn_36, jn_48, jn_57, jn_59, jn_60, jn_63, jn_72, jn_73, jn_96, jn_97, jn_100, jn_122, jn_144, jn_200, jn_240, jn_288, jn_512, jn_840, jn_1200, jn_1600, jn_5040, jn_5390, jn_5400, jn_9999, jn_18688, jn_32400, jn_99999, jn_100000, jn_1000000, jn_858993459, jn_1431655765, jn_252645135, jl_0, jl_1, jl_2, jl_3, jl_8, jl_9, jl_10, jl_20, jl_27, jl_47, jl_96, jl_99, jl_100, jl_200, jl_555, jl_2000, jl_10000, jl_12345, jl_65536, jl_99999, jl_131638, jl_240023, jl_298288, jl_383153, jl_1306021, jl_1960084, jl_4147840, jl_8740238, jl_9872299, jl_175252482, jl_291595537, jl_1103515245, jl_2000000000, jl_2147483648, jl_4721686497, jl_7873079139, J_add, J_sub, J_mul, J_neg, JL_add, JL_sub, JL_mul, JL_neg, J_long, JL_int, ↓remI_fold, ↓remL_fold, Int.reduceAdd, Int.reduceSub, Int.reduceMul, Int.reduceNeg, Int.reduceToNat, Classical.not_not, em_t, Bp_eq0, Bp_eq1, Bp_01, Bp_mk, Bp_mk', Bp_0, Bp_0', Bp_1, Bp_1', if_true, if_false, ite_not, mp_0, mp_6, mp_7, mp_8, mp_9, mp_10, mp_11, mp_12, mp_13, mp_14, mp_15, mp_26, mp_30, mp_31, mp_35, mp_36, mp_37, mp_41, mp_43, mp_44, mp_45, M_isThrow hG', Option.bind_some]
  by_cases h1 : (0 ≤ v ∧ v < cR C) ∧ 0 ≤ i ∧ i < cP C v.toNat
  case neg => simp only [if_neg h1, ite_self]
  simp only [if_pos h1]
  obtain ⟨r, hr⟩ : ∃ r : Nat, v = r := ⟨v.toNat, by omega⟩
  subst hr
  simp only [Int.toNat_natCast] at h1 hP ⊢
  have hr' : r < cR C := by omega
  simp (disch := omega) only [Classical.not_not, em_t, Bp_eq0, Bp_eq1, Bp_01, Bp_mk, Bp_mk', Bp_0, Bp_0', Bp_1, Bp_1', if_true, if_false, ite_not, M_isSolo hG' hN hr', M_stateOf hG' hN hr', Option.bind_some]
  by_cases h2 : solo C r = true
  case neg => simp only [if_neg h2, ite_self]
  simp only [if_pos h2]
theorem M_ground (hG : GdM S 0 C) (hN : 1000000000 ≤ N) {v i : Int} (hv : -2147483648 ≤ v ∧ v ≤ 2147483647) (hi : -2147483648 ≤ i ∧ i ≤ 2147483647) : ∃ S', fX5_ground N (emM o S w) o (J v) (J i) = some (J (sp_ground C v i), emM o S' w) ∧ FrM S S' := by
  have hG' : GdM (mSI S 0 (J 0)) 0 C := hG
  have hF : FrM S (mSI S 0 (J 0)) := FrM_I S 0 _ (by decide)
  have hP := cP_bd C v.toNat
  unfold fX5_ground sp_ground
  simp (disch := omega) only [jn_0, jn_1, jn_2, jn_3, jn_4, jn_5, jn_6, jn_8, jn_9, jn_10, jn_11, jn_12, jn_16, jn_20, jn_24, jn_30, jn_31, jn_32, jn_36, jn_48, jn_57, jn_59, jn_60, jn_63, jn_72, jn_73, jn_96, jn_97, jn_100, jn_122, jn_144, jn_200, jn_240, jn_288, jn_512, jn_840, jn_1200, jn_1600, jn_5040, jn_5390, jn_5400, jn_9999, jn_18688, jn_32400, jn_99999, jn_100000, jn_1000000, jn_858993459, jn_1431655765, jn_252645135, jl_0, jl_1, jl_2, jl_3, jl_8, jl_9, jl_10, jl_20, jl_27, jl_47, jl_96, jl_99, jl_100, jl_200, jl_555, jl_2000, jl_10000, jl_12345, jl_65536, jl_99999, jl_131638, jl_240023, jl_298288, jl_383153, jl_1306021, jl_1960084, jl_4147840, jl_8740238, jl_9872299, jl_175252482, jl_291595537, jl_1103515245, jl_2000000000, jl_2147483648, jl_4721686497, jl_7873079139, J_add, J_sub, J_mul, J_neg, JL_add, JL_sub, JL_mul, JL_neg, J_long, JL_int, ↓remI_fold, ↓remL_fold, Int.reduceAdd, Int.reduceSub, Int.reduceMul, Int.reduceNeg, Int.reduceToNat, Classical.not_not, em_t, Bp_eq0, Bp_eq1, Bp_01, Bp_mk, Bp_mk', Bp_0, Bp_0', Bp_1, Bp_1', if_true, if_false, ite_not, mp_0, mp_6, mp_7, mp_8, mp_9, mp_10, mp_11, mp_12, mp_13, mp_14, mp_15, mp_26, mp_30, mp_31, mp_35, mp_36, mp_37, mp_41, mp_43, mp_44, mp_45, M_isThrow hG', Option.bind_some]
  by_cases h1 : (0 ≤ v ∧ v < cR C) ∧ 0 ≤ i ∧ i < cP C v.toNat
  case neg => exact ⟨_, by rw [if_neg h1, if_neg h1], hF⟩
  simp only [if_pos h1]
  obtain ⟨r, hr⟩ : ∃ r : Nat, v = r := ⟨v.toNat, by omega⟩
  subst hr
  simp only [Int.toNat_natCast] at h1 hP ⊢
  have hr' : r < cR C := by omega
  have hst := st_lt C r i
  have hpc := popc_lt (st C r i)
  simp (disch := omega) only [Classical.not_not, em_t, Bp_eq0, Bp_eq1, Bp_01, Bp_mk, Bp_mk', Bp_0, Bp_0', Bp_1, Bp_1', if_true, if_false, ite_not, M_isSolo hG' (show 1000000 ≤ N by omega) hr', M_stateOf hG' (show 1000000 ≤ N by omega) hr', Option.bind_some]
  by_cases h2 : solo C r = true
  case neg => exact ⟨_, by rw [if_neg h2, if_neg h2], hF⟩
  simp only [if_pos h2]
  rw [M_bitsOf (by omega) hst, Option.bind_some, J_shlz (by omega), Int.toNat_natCast, J_sub]
  have hp : 1 ≤ 1 <<< popc (st C r i) ∧ 1 <<< popc (st C r i) ≤ 512 := by
    rw [Nat.shiftLeft_eq, Nat.one_mul]
    exact ⟨Nat.one_le_two_pow, Nat.pow_le_pow_right (n := 2) (by decide) hpc⟩
  have hz : ∀ a : Nat, 1 ≤ a → (a : Int) - 1 = ((a - 1 : Nat) : Int) := by intro a h; omega
  rw [hz _ hp.1]
  have ⟨B, e, hB⟩ := M_laysChange (N := N) (o := o) (S := mSI S 0 (J 0)) (w := w) hN (g := 1 <<< popc (st C r i) - 1) (by omega)
  refine ⟨mSR (mSI S 0 (J 0)) 23 (fun q => J (B q)), ?_, FrM_t hF (FrM_R _ 23 _ (by decide))⟩
  rw [e, Option.bind_some]
  simp (disch := omega) only [mg_0, mg_1, mg_2, mg_3, mg_4, mg_5, mg_6, mg_7, mg_8, mg_9, mg_10, mg_11, mg_12, mg_13, mg_14, mg_15, mg_16, mg_17, mg_18, mg_19, mg_20, mg_21, mg_22, mg_23, mg_24, mg_25, mg_26, mg_27, mg_28, mg_29, mg_30, mg_31, mg_32, mg_33, mg_34, mg_35, mg_36, mg_37, mg_38, mg_39, mg_40, mg_41, mg_42, mg_43, mg_44, mg_45, mr_1, mr_2, mr_3, mr_4, mr_5, mr_6, mr_7, mr_8, mr_9, mr_10, mr_11, mr_12, mr_13, mr_14, mr_15, mr_16, mr_17, mr_18, mr_19, mr_20, mr_21, mr_22, mr_23, mr_24, mr_25, mi_R, ml_R, ma_R, mb_R, mi_Q, ml_Q, ma_Q, mb_Q, mi_I, mi_L, mi_A, mi_B, ml_I, ml_L, ml_A, ml_B, ma_I, ma_L, ma_A, ma_B, mb_I, mb_L, mb_A, mb_B, Nat.reduceEqDiff, eq_self, if_true, if_false, reduceIte, Int.toNat_natCast, Option.bind_some]
  rw [Dst_dist hB hst]
theorem M_canChange (hG : GdM S 0 C) (hN : 1000000000 ≤ N) {r u : Nat} (hr : r < cR C) (hu : u < cR C) {i k : Int} (hi : 0 ≤ i ∧ i ≤ 9) (hk : 0 ≤ k ∧ k ≤ 9) : ∃ S', fX5_canChange N (emM o S w) o (J r) (J i) (J u) (J k) = some (Bp (solo C r = true ∧ solo C u = true ∧ dist (st C u k) (st C r i) ≠ 1000000), emM o S' w) ∧ FrM S S' ∧ (solo C r = true → solo C u = true → ∃ B, S' = mSR S 23 (fun q => J (B q)) ∧ Dst (st C u k) B) := by
  have hs1 := st_lt C r i
  have hs2 := st_lt C u k
  unfold fX5_canChange
  simp (disch := omega) only [jn_0, jn_1, jn_2, jn_3, jn_4, jn_5, jn_6, jn_8, jn_9, jn_10, jn_11, jn_12, jn_16, jn_20, jn_24, jn_30, jn_31, jn_32, jn_36, jn_48, jn_57, jn_59, jn_60, jn_63, jn_72, jn_73, jn_96, jn_97, jn_100, jn_122, jn_144, jn_200, jn_240, jn_288, jn_512, jn_840, jn_1200, jn_1600, jn_5040, jn_5390, jn_5400, jn_9999, jn_18688, jn_32400, jn_99999, jn_100000, jn_1000000, jn_858993459, jn_1431655765, jn_252645135, jl_0, jl_1, jl_2, jl_3, jl_8, jl_9, jl_10, jl_20, jl_27, jl_47, jl_96, jl_99, jl_100, jl_200, jl_555, jl_2000, jl_10000, jl_12345, jl_65536, jl_99999, jl_131638, jl_240023, jl_298288, jl_383153, jl_1306021, jl_1960084, jl_4147840, jl_8740238, jl_9872299, jl_175252482, jl_291595537, jl_1103515245, jl_2000000000, jl_2147483648, jl_4721686497, jl_7873079139, J_add, J_sub, J_mul, J_neg, JL_add, JL_sub, JL_mul, JL_neg, J_long, JL_int, ↓remI_fold, ↓remL_fold, Int.reduceAdd, Int.reduceSub, Int.reduceMul, Int.reduceNeg, Int.reduceToNat, Classical.not_not, em_t, Bp_eq0, Bp_eq1, Bp_01, Bp_mk, Bp_mk', Bp_0, Bp_0', Bp_1, Bp_1', if_true, if_false, ite_not, M_isSolo hG (show 1000000 ≤ N by omega) hr, M_isSolo hG (show 1000000 ≤ N by omega) hu, M_stateOf hG (show 1000000 ≤ N by omega) hu, Option.bind_some]
  by_cases h1 : solo C r = true
  case neg => exact ⟨S, by rw [if_neg h1, Bp_f (fun h => h1 h.1)], FrM_r S, fun h => absurd h h1⟩
  simp only [if_pos h1]
  by_cases h2 : solo C u = true
  case neg => exact ⟨S, by rw [if_neg h2, Bp_f (fun h => h2 h.2.1)], FrM_r S, fun _ h => absurd h h2⟩
  simp only [if_pos h2]
  have ⟨B, e, hB⟩ := M_laysChange (N := N) (o := o) (S := S) (w := w) hN (g := st C u k) hs2
  refine ⟨mSR S 23 (fun q => J (B q)), ?_, FrM_R _ 23 _ (by decide), fun _ _ => ⟨B, rfl, hB⟩⟩
  have hG2 : GdM (mSR S 23 (fun q => J (B q))) 0 C := FrM_G (FrM_R _ 23 _ (by decide)) hG
  have hbd := dist_bd hB hs1
  have hd := Dst_dist hB hs1
  rw [e, Option.bind_some]
  simp (disch := omega) only [M_stateOf hG2 (show 1000000 ≤ N by omega) hr, mg_0, mg_1, mg_2, mg_3, mg_4, mg_5, mg_6, mg_7, mg_8, mg_9, mg_10, mg_11, mg_12, mg_13, mg_14, mg_15, mg_16, mg_17, mg_18, mg_19, mg_20, mg_21, mg_22, mg_23, mg_24, mg_25, mg_26, mg_27, mg_28, mg_29, mg_30, mg_31, mg_32, mg_33, mg_34, mg_35, mg_36, mg_37, mg_38, mg_39, mg_40, mg_41, mg_42, mg_43, mg_44, mg_45, mr_1, mr_2, mr_3, mr_4, mr_5, mr_6, mr_7, mr_8, mr_9, mr_10, mr_11, mr_12, mr_13, mr_14, mr_15, mr_16, mr_17, mr_18, mr_19, mr_20, mr_21, mr_22, mr_23, mr_24, mr_25, mi_R, ml_R, ma_R, mb_R, mi_Q, ml_Q, ma_Q, mb_Q, mi_I, mi_L, mi_A, mi_B, ml_I, ml_L, ml_A, ml_B, ma_I, ma_L, ma_A, ma_B, mb_I, mb_L, mb_A, mb_B, Nat.reduceEqDiff, eq_self, if_true, if_false, reduceIte, Int.toNat_natCast, Option.bind_some, hd, J_le]
  by_cases h3 : dist (st C u k) (st C r i) = 1000000
  · rw [if_pos (by omega), Bp_f (fun h => h.2.2 h3)]
  · rw [if_neg (by omega), Bp_t ⟨h1, h2, h3⟩]
theorem M_isChange (hG : GdM S 0 C) {v i u k : Int} (hv : -2147483648 ≤ v ∧ v ≤ 2147483647) (hi : -2147483648 ≤ i ∧ i ≤ 2147483647) (hu : -2147483648 ≤ u ∧ u ≤ 2147483647) (hk : -2147483648 ≤ k ∧ k ≤ 2147483647) : fX5_isChange N (emM o S w) o (J v) (J i) (J u) (J k) = some (Bp (((0 ≤ v ∧ v < cR C) ∧ 0 ≤ i ∧ i < cP C v.toNat) ∧ ((0 ≤ u ∧ u < cR C) ∧ 0 ≤ k ∧ k < cP C u.toNat))) := by
  unfold fX5_isChange
  simp (disch := omega) only [jn_0, jn_1, jn_2, jn_3, jn_4, jn_5, jn_6, jn_8, jn_9, jn_10, jn_11, jn_12, jn_16, jn_20, jn_24, jn_30, jn_31, jn_32, jn_36, jn_48, jn_57, jn_59, jn_60, jn_63, jn_72, jn_73, jn_96, jn_97, jn_100, jn_122, jn_144, jn_200, jn_240, jn_288, jn_512, jn_840, jn_1200, jn_1600, jn_5040, jn_5390, jn_5400, jn_9999, jn_18688, jn_32400, jn_99999, jn_100000, jn_1000000, jn_858993459, jn_1431655765, jn_252645135, jl_0, jl_1, jl_2, jl_3, jl_8, jl_9, jl_10, jl_20, jl_27, jl_47, jl_96, jl_99, jl_100, jl_200, jl_555, jl_2000, jl_10000, jl_12345, jl_65536, jl_99999, jl_131638, jl_240023, jl_298288, jl_383153, jl_1306021, jl_1960084, jl_4147840, jl_8740238, jl_9872299, jl_175252482, jl_291595537, jl_1103515245, jl_2000000000, jl_2147483648, jl_4721686497, jl_7873079139, J_add, J_sub, J_mul, J_neg, JL_add, JL_sub, JL_mul, JL_neg, J_long, JL_int, ↓remI_fold, ↓remL_fold, Int.reduceAdd, Int.reduceSub, Int.reduceMul, Int.reduceNeg, Int.reduceToNat, Classical.not_not, em_t, Bp_eq0, Bp_eq1, Bp_01, Bp_mk, Bp_mk', Bp_0, Bp_0', Bp_1, Bp_1', if_true, if_false, ite_not, M_isThrow hG, Option.bind_some]
theorem M_change (hG : GdM S 0 C) (hN : 1000000000 ≤ N) {v i u k : Int} (hv : -2147483648 ≤ v ∧ v ≤ 2147483647) (hi : -2147483648 ≤ i ∧ i ≤ 2147483647) (hu : -2147483648 ≤ u ∧ u ≤ 2147483647) (hk : -2147483648 ≤ k ∧ k ≤ 2147483647) : ∃ S', fX5_change N (emM o S w) o (J v) (J i) (J u) (J k) = some (J (sp_change C v i u k), emM o S' w) ∧ FrM S S' := by
  have hG' : GdM (mSI S 0 (J 0)) 0 C := hG
  have hF : FrM S (mSI S 0 (J 0)) := FrM_I S 0 _ (by decide)
  have hP := cP_bd C v.toNat
  have hP' := cP_bd C u.toNat
  unfold fX5_change sp_change
  simp (disch := omega) only [jn_0, jn_1, jn_2, jn_3, jn_4, jn_5, jn_6, jn_8, jn_9, jn_10, jn_11, jn_12, jn_16, jn_20, jn_24, jn_30, jn_31, jn_32, jn_36, jn_48, jn_57, jn_59, jn_60, jn_63, jn_72, jn_73, jn_96, jn_97, jn_100, jn_122, jn_144, jn_200, jn_240, jn_288, jn_512, jn_840, jn_1200, jn_1600, jn_5040, jn_5390, jn_5400, jn_9999, jn_18688, jn_32400, jn_99999, jn_100000, jn_1000000, jn_858993459, jn_1431655765, jn_252645135, jl_0, jl_1, jl_2, jl_3, jl_8, jl_9, jl_10, jl_20, jl_27, jl_47, jl_96, jl_99, jl_100, jl_200, jl_555, jl_2000, jl_10000, jl_12345, jl_65536, jl_99999, jl_131638, jl_240023, jl_298288, jl_383153, jl_1306021, jl_1960084, jl_4147840, jl_8740238, jl_9872299, jl_175252482, jl_291595537, jl_1103515245, jl_2000000000, jl_2147483648, jl_4721686497, jl_7873079139, J_add, J_sub, J_mul, J_neg, JL_add, JL_sub, JL_mul, JL_neg, J_long, JL_int, ↓remI_fold, ↓remL_fold, Int.reduceAdd, Int.reduceSub, Int.reduceMul, Int.reduceNeg, Int.reduceToNat, Classical.not_not, em_t, Bp_eq0, Bp_eq1, Bp_01, Bp_mk, Bp_mk', Bp_0, Bp_0', Bp_1, Bp_1', if_true, if_false, ite_not, mp_0, mp_6, mp_7, mp_8, mp_9, mp_10, mp_11, mp_12, mp_13, mp_14, mp_15, mp_26, mp_30, mp_31, mp_35, mp_36, mp_37, mp_41, mp_43, mp_44, mp_45, M_isChange hG', Option.bind_some]
  by_cases h1 : (0 ≤ v ∧ v < cR C) ∧ 0 ≤ i ∧ i < cP C v.toNat
  case neg => exact ⟨_, by rw [if_neg (fun h => h1 h.1), if_neg h1], hF⟩
  by_cases h2 : (0 ≤ u ∧ u < cR C) ∧ 0 ≤ k ∧ k < cP C u.toNat
  case neg => exact ⟨_, by rw [if_neg (fun h => h2 h.2), if_pos h1, if_neg h2], hF⟩
  rw [if_pos ⟨h1, h2⟩]
  simp only [if_pos h1, if_pos h2]
  obtain ⟨r, hr⟩ : ∃ r : Nat, v = r := ⟨v.toNat, by omega⟩
  subst hr
  obtain ⟨q, hr⟩ : ∃ r : Nat, u = r := ⟨u.toNat, by omega⟩
  subst hr
  simp only [Int.toNat_natCast] at h1 h2 hP hP' ⊢
  have hr' : r < cR C := by omega
  have hs1 := st_lt C r i
  have ⟨S', e, hF', hB⟩ := M_canChange (N := N) (o := o) (w := w) hG' hN hr' (show q < cR C by omega) (i := i) (k := k) (by omega) (by omega)
  refine ⟨S', ?_, FrM_t hF hF'⟩
  rw [e, Option.bind_some]
  simp only [Classical.not_not, em_t, Bp_eq0, Bp_eq1, Bp_01, Bp_mk, Bp_mk', Bp_0, Bp_0', Bp_1, Bp_1', if_true, if_false, ite_not]
  by_cases h3 : solo C r = true
  case neg => rw [if_neg (fun h => h3 h.1), if_neg h3]
  by_cases h4 : solo C q = true
  case neg => rw [if_neg (fun h => h4 h.2.1), if_pos h3, if_neg h4]
  have ⟨B, e', hB'⟩ := hB h3 h4
  have hd := Dst_dist hB' hs1
  by_cases h5 : dist (st C q k) (st C r i) = 1000000
  · rw [if_neg (fun h => h.2.2 h5), if_pos h3, if_pos h4, if_pos h5]
  · rw [if_pos ⟨h3, h4, h5⟩, if_pos h3, if_pos h4, if_neg h5]
    have hG2 : GdM S' 0 C := FrM_G hF' hG'
    subst e'
    simp (disch := omega) only [M_stateOf hG2 (show 1000000 ≤ N by omega) hr', mg_0, mg_1, mg_2, mg_3, mg_4, mg_5, mg_6, mg_7, mg_8, mg_9, mg_10, mg_11, mg_12, mg_13, mg_14, mg_15, mg_16, mg_17, mg_18, mg_19, mg_20, mg_21, mg_22, mg_23, mg_24, mg_25, mg_26, mg_27, mg_28, mg_29, mg_30, mg_31, mg_32, mg_33, mg_34, mg_35, mg_36, mg_37, mg_38, mg_39, mg_40, mg_41, mg_42, mg_43, mg_44, mg_45, mr_1, mr_2, mr_3, mr_4, mr_5, mr_6, mr_7, mr_8, mr_9, mr_10, mr_11, mr_12, mr_13, mr_14, mr_15, mr_16, mr_17, mr_18, mr_19, mr_20, mr_21, mr_22, mr_23, mr_24, mr_25, mi_R, ml_R, ma_R, mb_R, mi_Q, ml_Q, ma_Q, mb_Q, mi_I, mi_L, mi_A, mi_B, ml_I, ml_L, ml_A, ml_B, ma_I, ma_L, ma_A, ma_B, mb_I, mb_L, mb_A, mb_B, Nat.reduceEqDiff, eq_self, if_true, if_false, reduceIte, Int.toNat_natCast, Option.bind_some, hd]
theorem M_ch80 {g x : Nat} (hx : x < 512) {B : Nat → Int} (hB : Dst g B) (h0 : 0 < dist g x) (h1 : dist g x < 1000000) (y z : Int32) (k : Int32 → Option (Int32 × Wd)) {n : Nat} (hn : 10 < n) {m : Nat} (hm : stp g x (dist g x - 1) = some m) : fX5_changes_80 N (emM o (mSR S 23 (fun q => J (B q))) w) o y (J x) z k n (J 0) = k (J m) := by
  have hd := Dst_dist hB hx
  unfold stp at hm
  have key := lp_seek (fun n i => fX5_changes_80 N (emM o (mSR S 23 (fun q => J (B q))) w) o y (J x) z k n (J (i : Int))) (fun i => k (J i)) (10) (fun h => okS x h && decide (dist g (nxS x h) = dist g x - 1)) ?_ hm n (by omega)
  · exact key
  · intro n i hi
    try dsimp only
    have hl : nxS x i < 512 := nxS_lt ⟨x, hx⟩ ⟨i, hi⟩
    have hd2 := Dst_dist hB hl
    have hbd := dist_bd hB hl
    rw [fX5_changes_80]
    simp (disch := omega) only [jn_0, jn_1, jn_2, jn_3, jn_4, jn_5, jn_6, jn_8, jn_9, jn_10, jn_11, jn_12, jn_16, jn_20, jn_24, jn_30, jn_31, jn_32, jn_36, jn_48, jn_57, jn_59, jn_60, jn_63, jn_72, jn_73, jn_96, jn_97, jn_100, jn_122, jn_144, jn_200, jn_240, jn_288, jn_512, jn_840, jn_1200, jn_1600, jn_5040, jn_5390, jn_5400, jn_9999, jn_18688, jn_32400, jn_99999, jn_100000, jn_1000000, jn_858993459, jn_1431655765, jn_252645135, jl_0, jl_1, jl_2, jl_3, jl_8, jl_9, jl_10, jl_20, jl_27, jl_47, jl_96, jl_99, jl_100, jl_200, jl_555, jl_2000, jl_10000, jl_12345, jl_65536, jl_99999, jl_131638, jl_240023, jl_298288, jl_383153, jl_1306021, jl_1960084, jl_4147840, jl_8740238, jl_9872299, jl_175252482, jl_291595537, jl_1103515245, jl_2000000000, jl_2147483648, jl_4721686497, jl_7873079139, J_add, J_sub, J_mul, J_neg, JL_add, JL_sub, JL_mul, JL_neg, J_long, JL_int, ↓remI_fold, ↓remL_fold, Int.reduceAdd, Int.reduceSub, Int.reduceMul, Int.reduceNeg, Int.reduceToNat, M_behind hx hi, castS, Option.bind_some]
    simp only [Bool.and_eq_true, decide_eq_true_iff]
    by_cases h4 : okS x i = true
    · rw [if_pos h4, if_neg (by rw [J_eq (by omega)]; omega)]
      simp (disch := omega) only [jn_0, jn_1, jn_2, jn_3, jn_4, jn_5, jn_6, jn_8, jn_9, jn_10, jn_11, jn_12, jn_16, jn_20, jn_24, jn_30, jn_31, jn_32, jn_36, jn_48, jn_57, jn_59, jn_60, jn_63, jn_72, jn_73, jn_96, jn_97, jn_100, jn_122, jn_144, jn_200, jn_240, jn_288, jn_512, jn_840, jn_1200, jn_1600, jn_5040, jn_5390, jn_5400, jn_9999, jn_18688, jn_32400, jn_99999, jn_100000, jn_1000000, jn_858993459, jn_1431655765, jn_252645135, jl_0, jl_1, jl_2, jl_3, jl_8, jl_9, jl_10, jl_20, jl_27, jl_47, jl_96, jl_99, jl_100, jl_200, jl_555, jl_2000, jl_10000, jl_12345, jl_65536, jl_99999, jl_131638, jl_240023, jl_298288, jl_383153, jl_1306021, jl_1960084, jl_4147840, jl_8740238, jl_9872299, jl_175252482, jl_291595537, jl_1103515245, jl_2000000000, jl_2147483648, jl_4721686497, jl_7873079139, J_add, J_sub, J_mul, J_neg, JL_add, JL_sub, JL_mul, JL_neg, J_long, JL_int, ↓remI_fold, ↓remL_fold, Int.reduceAdd, Int.reduceSub, Int.reduceMul, Int.reduceNeg, Int.reduceToNat, mg_0, mg_1, mg_2, mg_3, mg_4, mg_5, mg_6, mg_7, mg_8, mg_9, mg_10, mg_11, mg_12, mg_13, mg_14, mg_15, mg_16, mg_17, mg_18, mg_19, mg_20, mg_21, mg_22, mg_23, mg_24, mg_25, mg_26, mg_27, mg_28, mg_29, mg_30, mg_31, mg_32, mg_33, mg_34, mg_35, mg_36, mg_37, mg_38, mg_39, mg_40, mg_41, mg_42, mg_43, mg_44, mg_45, mr_1, mr_2, mr_3, mr_4, mr_5, mr_6, mr_7, mr_8, mr_9, mr_10, mr_11, mr_12, mr_13, mr_14, mr_15, mr_16, mr_17, mr_18, mr_19, mr_20, mr_21, mr_22, mr_23, mr_24, mr_25, mi_R, ml_R, ma_R, mb_R, mi_Q, ml_Q, ma_Q, mb_Q, mi_I, mi_L, mi_A, mi_B, ml_I, ml_L, ml_A, ml_B, ma_I, ma_L, ma_A, ma_B, mb_I, mb_L, mb_A, mb_B, Nat.reduceEqDiff, eq_self, if_true, if_false, reduceIte, Int.toNat_natCast, J_eq, Option.bind_some, hd, hd2]
      by_cases h5 : dist g (nxS x i) = dist g x - 1
      · rw [if_pos h5, if_pos ⟨h4, h5⟩]
      · rw [if_neg h5, if_neg (fun h => h5 h.2)]
    · rw [if_neg h4, if_pos rfl, if_neg (fun h => h4 h.1)]
theorem M_changes (hG : GdM S 0 C) (hN : 1000000000 ≤ N) {v i u k m : Int} (hv : -2147483648 ≤ v ∧ v ≤ 2147483647) (hi : -2147483648 ≤ i ∧ i ≤ 2147483647) (hu : -2147483648 ≤ u ∧ u ≤ 2147483647) (hk : -2147483648 ≤ k ∧ k ≤ 2147483647) (hm : -2147483648 ≤ m ∧ m ≤ 2147483647) : ∃ S', fX5_changes N (emM o S w) o (J v) (J i) (J u) (J k) (J m) = some (J (sp_changes C v i u k m), emM o S' w) ∧ FrM S S' := by
  have hG' : GdM (mSI S 0 (J 0)) 0 C := hG
  have hF : FrM S (mSI S 0 (J 0)) := FrM_I S 0 _ (by decide)
  have hP := cP_bd C v.toNat
  have hP' := cP_bd C u.toNat
  unfold fX5_changes sp_changes
  simp (disch := omega) only [jn_0, jn_1, jn_2, jn_3, jn_4, jn_5, jn_6, jn_8, jn_9, jn_10, jn_11, jn_12, jn_16, jn_20, jn_24, jn_30, jn_31, jn_32, jn_36, jn_48, jn_57, jn_59, jn_60, jn_63, jn_72, jn_73, jn_96, jn_97, jn_100, jn_122, jn_144, jn_200, jn_240, jn_288, jn_512, jn_840, jn_1200, jn_1600, jn_5040, jn_5390, jn_5400, jn_9999, jn_18688, jn_32400, jn_99999, jn_100000, jn_1000000, jn_858993459, jn_1431655765, jn_252645135, jl_0, jl_1, jl_2, jl_3, jl_8, jl_9, jl_10, jl_20, jl_27, jl_47, jl_96, jl_99, jl_100, jl_200, jl_555, jl_2000, jl_10000, jl_12345, jl_65536, jl_99999, jl_131638, jl_240023, jl_298288, jl_383153, jl_1306021, jl_1960084, jl_4147840, jl_8740238, jl_9872299, jl_175252482, jl_291595537, jl_1103515245, jl_2000000000, jl_2147483648, jl_4721686497, jl_7873079139, J_add, J_sub, J_mul, J_neg, JL_add, JL_sub, JL_mul, JL_neg, J_long, JL_int, ↓remI_fold, ↓remL_fold, Int.reduceAdd, Int.reduceSub, Int.reduceMul, Int.reduceNeg, Int.reduceToNat, Classical.not_not, em_t, Bp_eq0, Bp_eq1, Bp_01, Bp_mk, Bp_mk', Bp_0, Bp_0', Bp_1, Bp_1', if_true, if_false, ite_not, mp_0, mp_6, mp_7, mp_8, mp_9, mp_10, mp_11, mp_12, mp_13, mp_14, mp_15, mp_26, mp_30, mp_31, mp_35, mp_36, mp_37, mp_41, mp_43, mp_44, mp_45, M_isChange hG', Option.bind_some]
  by_cases h1 : (0 ≤ v ∧ v < cR C) ∧ 0 ≤ i ∧ i < cP C v.toNat
  case neg => exact ⟨_, by rw [if_neg (fun h => h1 h.1), if_neg h1], hF⟩
  by_cases h2 : (0 ≤ u ∧ u < cR C) ∧ 0 ≤ k ∧ k < cP C u.toNat
  case neg => exact ⟨_, by rw [if_neg (fun h => h2 h.2), if_pos h1, if_neg h2], hF⟩
  rw [if_pos ⟨h1, h2⟩]
  simp only [if_pos h1, if_pos h2]
  obtain ⟨r, hr⟩ : ∃ r : Nat, v = r := ⟨v.toNat, by omega⟩
  subst hr
  obtain ⟨q, hr⟩ : ∃ r : Nat, u = r := ⟨u.toNat, by omega⟩
  subst hr
  simp only [Int.toNat_natCast] at h1 h2 hP hP' ⊢
  have hr' : r < cR C := by omega
  have hs1 := st_lt C r i
  have ⟨S', e, hF', hB⟩ := M_canChange (N := N) (o := o) (w := w) hG' hN hr' (show q < cR C by omega) (i := i) (k := k) (by omega) (by omega)
  refine ⟨S', ?_, FrM_t hF hF'⟩
  rw [e, Option.bind_some]
  simp only [Classical.not_not, em_t, Bp_eq0, Bp_eq1, Bp_01, Bp_mk, Bp_mk', Bp_0, Bp_0', Bp_1, Bp_1', if_true, if_false, ite_not]
  by_cases h3 : solo C r = true
  case neg => rw [if_neg (fun h => h3 h.1), if_neg h3]
  by_cases h4 : solo C q = true
  case neg => rw [if_neg (fun h => h4 h.2.1), if_pos h3, if_neg h4]
  have ⟨B, e', hB'⟩ := hB h3 h4
  have hd := Dst_dist hB' hs1
  have hbd := dist_bd hB' hs1
  by_cases h5 : dist (st C q k) (st C r i) = 1000000
  · rw [if_neg (fun h => h.2.2 h5), if_pos h3, if_pos h4, if_pos h5]
  rw [if_pos ⟨h3, h4, h5⟩, if_pos h3, if_pos h4, if_neg h5]
  have hG2 : GdM S' 0 C := FrM_G hF' hG'
  subst e'
  simp (disch := omega) only [M_stateOf hG2 (show 1000000 ≤ N by omega) hr', jn_0, jn_1, jn_2, jn_3, jn_4, jn_5, jn_6, jn_8, jn_9, jn_10, jn_11, jn_12, jn_16, jn_20, jn_24, jn_30, jn_31, jn_32, jn_36, jn_48, jn_57, jn_59, jn_60, jn_63, jn_72, jn_73, jn_96, jn_97, jn_100, jn_122, jn_144, jn_200, jn_240, jn_288, jn_512, jn_840, jn_1200, jn_1600, jn_5040, jn_5390, jn_5400, jn_9999, jn_18688, jn_32400, jn_99999, jn_100000, jn_1000000, jn_858993459, jn_1431655765, jn_252645135, jl_0, jl_1, jl_2, jl_3, jl_8, jl_9, jl_10, jl_20, jl_27, jl_47, jl_96, jl_99, jl_100, jl_200, jl_555, jl_2000, jl_10000, jl_12345, jl_65536, jl_99999, jl_131638, jl_240023, jl_298288, jl_383153, jl_1306021, jl_1960084, jl_4147840, jl_8740238, jl_9872299, jl_175252482, jl_291595537, jl_1103515245, jl_2000000000, jl_2147483648, jl_4721686497, jl_7873079139, J_add, J_sub, J_mul, J_neg, JL_add, JL_sub, JL_mul, JL_neg, J_long, JL_int, ↓remI_fold, ↓remL_fold, Int.reduceAdd, Int.reduceSub, Int.reduceMul, Int.reduceNeg, Int.reduceToNat, Classical.not_not, em_t, Bp_eq0, Bp_eq1, Bp_01, Bp_mk, Bp_mk', Bp_0, Bp_0', Bp_1, Bp_1', if_true, if_false, ite_not, M_in, mg_0, mg_1, mg_2, mg_3, mg_4, mg_5, mg_6, mg_7, mg_8, mg_9, mg_10, mg_11, mg_12, mg_13, mg_14, mg_15, mg_16, mg_17, mg_18, mg_19, mg_20, mg_21, mg_22, mg_23, mg_24, mg_25, mg_26, mg_27, mg_28, mg_29, mg_30, mg_31, mg_32, mg_33, mg_34, mg_35, mg_36, mg_37, mg_38, mg_39, mg_40, mg_41, mg_42, mg_43, mg_44, mg_45, mr_1, mr_2, mr_3, mr_4, mr_5, mr_6, mr_7, mr_8, mr_9, mr_10, mr_11, mr_12, mr_13, mr_14, mr_15, mr_16, mr_17, mr_18, mr_19, mr_20, mr_21, mr_22, mr_23, mr_24, mr_25, mi_R, ml_R, ma_R, mb_R, mi_Q, ml_Q, ma_Q, mb_Q, mi_I, mi_L, mi_A, mi_B, ml_I, ml_L, ml_A, ml_B, ma_I, ma_L, ma_A, ma_B, mb_I, mb_L, mb_A, mb_B, Nat.reduceEqDiff, eq_self, if_true, if_false, reduceIte, Int.toNat_natCast, Option.bind_some, hd]
  generalize st C q k = g at *
  generalize st C r i = x at *
  by_cases h6 : 0 ≤ m ∧ m < dist g x
  case neg => rw [if_neg (by omega), if_neg h6]
  rw [if_pos (by omega), if_pos h6]
  obtain ⟨m, hr⟩ : ∃ r : Nat, m = r := ⟨m.toNat, by omega⟩
  subst hr
  simp only [Int.toNat_natCast]
  have key := lp_fold (fun n j (s : Int) => fX5_changes_70 N (emM o (mSR (mSI S 0 (J 0)) 23 (fun q => J (B q))) w) o (J m) (fun y19 => some (y19, emM o (mSR (mSI S 0 (J 0)) 23 (fun q => J (B q))) w)) n (J (wlk g j x)) (J s) (J (j : Int))) (fun s => some (J s, emM o (mSR (mSI S 0 (J 0)) 23 (fun q => J (B q))) w)) (m + 1) (fun j _ => (((stp g (wlk g j x) (dist g (wlk g j x) - 1)).getD 0 : Nat) : Int)) (fun _ _ => True) ?_ ?_ N (-1) (by omega) trivial
  · exact key.1
  · intro n j s hj _
    refine ⟨?_, trivial⟩
    have ⟨a1, a2⟩ := wlk_ok hs1 hB' (by omega) j (by omega)
    have ⟨h, e1, b1, b2, b3⟩ := stp_ok a1 hB' (by omega) (by omega)
    rw [fX5_changes_70]
    simp (disch := omega) only [jn_0, jn_1, jn_2, jn_3, jn_4, jn_5, jn_6, jn_8, jn_9, jn_10, jn_11, jn_12, jn_16, jn_20, jn_24, jn_30, jn_31, jn_32, jn_36, jn_48, jn_57, jn_59, jn_60, jn_63, jn_72, jn_73, jn_96, jn_97, jn_100, jn_122, jn_144, jn_200, jn_240, jn_288, jn_512, jn_840, jn_1200, jn_1600, jn_5040, jn_5390, jn_5400, jn_9999, jn_18688, jn_32400, jn_99999, jn_100000, jn_1000000, jn_858993459, jn_1431655765, jn_252645135, jl_0, jl_1, jl_2, jl_3, jl_8, jl_9, jl_10, jl_20, jl_27, jl_47, jl_96, jl_99, jl_100, jl_200, jl_555, jl_2000, jl_10000, jl_12345, jl_65536, jl_99999, jl_131638, jl_240023, jl_298288, jl_383153, jl_1306021, jl_1960084, jl_4147840, jl_8740238, jl_9872299, jl_175252482, jl_291595537, jl_1103515245, jl_2000000000, jl_2147483648, jl_4721686497, jl_7873079139, J_add, J_sub, J_mul, J_neg, JL_add, JL_sub, JL_mul, JL_neg, J_long, JL_int, ↓remI_fold, ↓remL_fold, Int.reduceAdd, Int.reduceSub, Int.reduceMul, Int.reduceNeg, Int.reduceToNat, J_lt]
    rw [if_neg (by omega), M_ch80 a1 hB' (by omega) (by omega) _ _ _ (by omega) e1, M_behind a1 b1, if_pos b2]
    simp only [Option.bind_some, wlk, e1, Option.getD_some, castS]
  · intro n s _
    rw [fX5_changes_70]
    simp (disch := omega) only [jn_0, jn_1, jn_2, jn_3, jn_4, jn_5, jn_6, jn_8, jn_9, jn_10, jn_11, jn_12, jn_16, jn_20, jn_24, jn_30, jn_31, jn_32, jn_36, jn_48, jn_57, jn_59, jn_60, jn_63, jn_72, jn_73, jn_96, jn_97, jn_100, jn_122, jn_144, jn_200, jn_240, jn_288, jn_512, jn_840, jn_1200, jn_1600, jn_5040, jn_5390, jn_5400, jn_9999, jn_18688, jn_32400, jn_99999, jn_100000, jn_1000000, jn_858993459, jn_1431655765, jn_252645135, jl_0, jl_1, jl_2, jl_3, jl_8, jl_9, jl_10, jl_20, jl_27, jl_47, jl_96, jl_99, jl_100, jl_200, jl_555, jl_2000, jl_10000, jl_12345, jl_65536, jl_99999, jl_131638, jl_240023, jl_298288, jl_383153, jl_1306021, jl_1960084, jl_4147840, jl_8740238, jl_9872299, jl_175252482, jl_291595537, jl_1103515245, jl_2000000000, jl_2147483648, jl_4721686497, jl_7873079139, J_add, J_sub, J_mul, J_neg, JL_add, JL_sub, JL_mul, JL_neg, J_long, JL_int, ↓remI_fold, ↓remL_fold, Int.reduceAdd, Int.reduceSub, Int.reduceMul, Int.reduceNeg, Int.reduceToNat, J_lt]
    rw [if_pos (by omega)]
end
