/-! the component: set, swap, shift, exchange -/
set_option maxRecDepth 100000
section
variable {N o c : Nat} {S : XS} {w : Wd} {C : Cy} {th : Nat → Nat}
theorem Sep_th (hs : Sep o c th (cR C)) {r : Nat} (hr : r < cR C) : ∀ d, d ≤ 2 → ¬ own o (th r + d) := fun d hd => hs.2.1 r d hr hd
theorem X_setW (h : Hc w c th C) (hs : Sep o c th (cR C)) {r : Nat} (hr : r < cR C) : ∃ F G, (∀ i, i < cP C r → F i = J (cH C r i) ∧ G i = J (cT C r i)) ∧ wT w (th r) (kc (cK C r)) r (J (cP C r)) F G = w ∧ ∀ (i : Int) (x y : Int32), 0 ≤ i ∧ i < 8 → fX2_set N (emX o S w) (th r) (J i) x y = some (emX o S (wT w (th r) (kc (cK C r)) r (J (cP C r)) (upd F i.toNat x) (upd G i.toNat y))) := by
  have ⟨F, G, e, hF⟩ := Hc_thr h hr
  refine ⟨F, G, hF, e, fun i x y hi => ?_⟩
  have t := T_set (N := N) (o := o) (S := S) (w := w) (a := th r) (k := kc (cK C r)) (r := r) (m := J (cP C r)) (F := F) (G := G) (Sep_th hs hr) (kc_in _ (cK_le C r)) hi x y
  rw [e] at t
  exact t
theorem hh_nat (C : Cy) {r i : Nat} (hi : i < cP C r) : hh C r (i : Int) = cH C r i := by unfold hh; rw [pl_nat C r i hi]
theorem tt_nat (C : Cy) {r i : Nat} (hi : i < cP C r) : tt C r (i : Int) = cT C r i := by unfold tt; rw [pl_nat C r i hi]
theorem X_isToss (hg : gR w [0] o 0 = some c) (h' : Hc w c th C) {v h t : Int} (hv : -2147483648 ≤ v ∧ v ≤ 2147483647) (hh : -2147483648 ≤ h ∧ h ≤ 2147483647) (ht : -2147483648 ≤ t ∧ t ≤ 2147483647) : fX0_isToss N w o (J v) (J h) (J t) = some (Bp ((0 ≤ h ∧ h ≤ 9) ∧ (0 ≤ t ∧ t < cR C) ∧ (0 < h ∨ t = v))) := by
  unfold fX0_isToss
  simp (disch := omega) only [jn_0, jn_1, jn_2, jn_3, jn_4, jn_5, jn_6, jn_8, jn_9, jn_10, jn_11, jn_12, jn_16, jn_20, jn_24, jn_30, jn_31, jn_32, jn_36, jn_48, jn_57, jn_59, jn_60, jn_63, jn_72, jn_73, jn_96, jn_97, jn_100, jn_122, jn_144, jn_200, jn_240, jn_288, jn_512, jn_840, jn_1200, jn_1600, jn_5040, jn_5390, jn_5400, jn_9999, jn_18688, jn_32400, jn_99999, jn_100000, jn_1000000, jn_858993459, jn_1431655765, jn_252645135, jl_0, jl_1, jl_2, jl_3, jl_8, jl_9, jl_10, jl_20, jl_27, jl_47, jl_96, jl_99, jl_100, jl_200, jl_555, jl_2000, jl_10000, jl_12345, jl_65536, jl_99999, jl_131638, jl_240023, jl_298288, jl_383153, jl_1306021, jl_1960084, jl_4147840, jl_8740238, jl_9872299, jl_175252482, jl_291595537, jl_1103515245, jl_2000000000, jl_2147483648, jl_4721686497, jl_7873079139, J_add, J_sub, J_mul, J_neg, JL_add, JL_sub, JL_mul, JL_neg, J_long, JL_int, ↓remI_fold, ↓remL_fold, Int.reduceAdd, Int.reduceSub, Int.reduceMul, Int.reduceNeg, Int.reduceToNat, Classical.not_not, em_t, Bp_eq0, Bp_eq1, Bp_01, Bp_mk, Bp_mk', Bp_0, Bp_0', Bp_1, Bp_1', if_true, if_false, ite_not, X_in, X_isRoof hg h', J_lt, J_eq, Option.bind_some]
theorem X_set (hw : Hc w c th C) (hs : Sep o c th (cR C)) (hc : xc S = c) (hN : 1000000 ≤ N) {v i h t : Int} (hv : -2147483648 ≤ v ∧ v ≤ 2147483647) (hi : -2147483648 ≤ i ∧ i ≤ 2147483647) (hh : -2147483648 ≤ h ∧ h ≤ 2147483647) (ht : -2147483648 ≤ t ∧ t ≤ 2147483647) : ∃ w', fX0_set N (emX o S w) o (J v) (J i) (J h) (J t) = some (J (sp_set C v i h t).1, emX o S w') ∧ FrW c th (cR C) w w' ∧ Hc w' c th (sp_set C v i h t).2 := by
  have hx := hX_of hw hs S
  have hg : gR (emX o S w) [0] o 0 = some c := xg hc
  have hR := cR_le C
  have hP := cP_bd C v.toNat
  unfold fX0_set sp_set
  simp only [jn_0, jn_1, jn_2, jn_3, jn_4, jn_5, jn_6, jn_8, jn_9, jn_10, jn_11, jn_12, jn_16, jn_20, jn_24, jn_30, jn_31, jn_32, jn_36, jn_48, jn_57, jn_59, jn_60, jn_63, jn_72, jn_73, jn_96, jn_97, jn_100, jn_122, jn_144, jn_200, jn_240, jn_288, jn_512, jn_840, jn_1200, jn_1600, jn_5040, jn_5390, jn_5400, jn_9999, jn_18688, jn_32400, jn_99999, jn_100000, jn_1000000, jn_858993459, jn_1431655765, jn_252645135, jl_0, jl_1, jl_2, jl_3, jl_8, jl_9, jl_10, jl_20, jl_27, jl_47, jl_96, jl_99, jl_100, jl_200, jl_555, jl_2000, jl_10000, jl_12345, jl_65536, jl_99999, jl_131638, jl_240023, jl_298288, jl_383153, jl_1306021, jl_1960084, jl_4147840, jl_8740238, jl_9872299, jl_175252482, jl_291595537, jl_1103515245, jl_2000000000, jl_2147483648, jl_4721686497, jl_7873079139, J_add, J_sub, J_mul, J_neg, JL_add, JL_sub, JL_mul, JL_neg, J_long, JL_int, ↓remI_fold, ↓remL_fold, Int.reduceAdd, Int.reduceSub, Int.reduceMul, Int.reduceNeg, Int.reduceToNat, Classical.not_not, em_t, Bp_eq0, Bp_eq1, Bp_01, Bp_mk, Bp_mk', Bp_0, Bp_0', Bp_1, Bp_1', if_true, if_false, ite_not, X_isThrow hg hx hv hi, X_isToss hg hx hv hh ht, Option.bind_some]
  by_cases h1 : (0 ≤ v ∧ v < cR C) ∧ 0 ≤ i ∧ i < cP C v.toNat
  case neg => simp only [if_neg h1]; exact ⟨_, rfl, FrW_r _ _ _ _, hw⟩
  simp only [if_pos h1]
  by_cases h2 : 0 ≤ h ∧ h ≤ 9
  case neg => rw [if_neg (fun h => h2 h.1)]; simp only [if_neg h2]; exact ⟨_, rfl, FrW_r _ _ _ _, hw⟩
  by_cases h3 : 0 ≤ t ∧ t < cR C
  case neg => rw [if_neg (fun h => h3 h.2.1)]; simp only [if_pos h2, if_neg h3]; exact ⟨_, rfl, FrW_r _ _ _ _, hw⟩
  by_cases h4 : (h = 0 ∧ t ≠ v)
  case pos => rw [if_neg (by omega)]; simp only [if_pos h2, if_pos h3, if_pos h4]; exact ⟨_, rfl, FrW_r _ _ _ _, hw⟩
  rw [if_pos (by omega)]
  simp only [if_pos h2, if_pos h3, if_neg h4]
  obtain ⟨r, hr⟩ : ∃ r : Nat, v = r := ⟨v.toNat, by omega⟩
  subst hr
  obtain ⟨i, hr⟩ : ∃ r : Nat, i = r := ⟨i.toNat, by omega⟩
  subst hr
  obtain ⟨h, hr⟩ : ∃ r : Nat, h = r := ⟨h.toNat, by omega⟩
  subst hr
  obtain ⟨t, hr⟩ : ∃ r : Nat, t = r := ⟨t.toNat, by omega⟩
  subst hr
  simp only [Int.toNat_natCast] at h1 hP ⊢
  have hr' : r < cR C := by omega
  have hi' : i < cP C r := by omega
  have ⟨F, G, hF, e2, hset⟩ := X_setW (N := N) (S := S) hw hs hr'
  have e3 := hc_at hx (z := (r : Int)) (by omega)
  rw [Int.toNat_natCast] at e3
  have e4 := X_height (N := N) hx hr' (b := (i : Int)) (by omega)
  have e5 := X_to (N := N) hx hr' (b := (i : Int)) (by omega)
  rw [hh_nat C hi'] at e4
  rw [tt_nat C hi'] at e5
  simp only [hg, hc_7 hx, e3, ht_k hx hr', e4, e5, hset i (J h) (J t) (by omega), Option.bind_some, J_mul, J_add, Int.toNat_natCast]
  refine ⟨_, rfl, FrW_T hr', Hc_row hw hs hr' hP (fun j hj => ?_)⟩
  have h6 := cH_le C r j
  have h7 := cT_le C r j
  unfold set1
  by_cases hji : j = i
  · subst hji
    rw [if_pos rfl, if_pos rfl, upd_s, upd_s]
    exact ⟨by omega, by omega, rfl, rfl⟩
  · rw [if_neg hji, if_neg hji, upd_o _ _ hji, upd_o _ _ hji]
    exact ⟨h6, h7, (hF j hj).1, (hF j hj).2⟩
theorem X_swap (hw : Hc w c th C) (hs : Sep o c th (cR C)) (hc : xc S = c) (hN : 1000000 ≤ N) {v i k : Int} (hv : -2147483648 ≤ v ∧ v ≤ 2147483647) (hi : -2147483648 ≤ i ∧ i ≤ 2147483647) (hk : -2147483648 ≤ k ∧ k ≤ 2147483647) : ∃ w', fX0_swap N (emX o S w) o (J v) (J i) (J k) = some (J (sp_swap C v i k).1, emX o S w') ∧ FrW c th (cR C) w w' ∧ Hc w' c th (sp_swap C v i k).2 := by
  have hx := hX_of hw hs S
  have hg : gR (emX o S w) [0] o 0 = some c := xg hc
  have hR := cR_le C
  have hP := cP_bd C v.toNat
  unfold fX0_swap sp_swap
  simp only [jn_0, jn_1, jn_2, jn_3, jn_4, jn_5, jn_6, jn_8, jn_9, jn_10, jn_11, jn_12, jn_16, jn_20, jn_24, jn_30, jn_31, jn_32, jn_36, jn_48, jn_57, jn_59, jn_60, jn_63, jn_72, jn_73, jn_96, jn_97, jn_100, jn_122, jn_144, jn_200, jn_240, jn_288, jn_512, jn_840, jn_1200, jn_1600, jn_5040, jn_5390, jn_5400, jn_9999, jn_18688, jn_32400, jn_99999, jn_100000, jn_1000000, jn_858993459, jn_1431655765, jn_252645135, jl_0, jl_1, jl_2, jl_3, jl_8, jl_9, jl_10, jl_20, jl_27, jl_47, jl_96, jl_99, jl_100, jl_200, jl_555, jl_2000, jl_10000, jl_12345, jl_65536, jl_99999, jl_131638, jl_240023, jl_298288, jl_383153, jl_1306021, jl_1960084, jl_4147840, jl_8740238, jl_9872299, jl_175252482, jl_291595537, jl_1103515245, jl_2000000000, jl_2147483648, jl_4721686497, jl_7873079139, J_add, J_sub, J_mul, J_neg, JL_add, JL_sub, JL_mul, JL_neg, J_long, JL_int, ↓remI_fold, ↓remL_fold, Int.reduceAdd, Int.reduceSub, Int.reduceMul, Int.reduceNeg, Int.reduceToNat, Classical.not_not, em_t, Bp_eq0, Bp_eq1, Bp_01, Bp_mk, Bp_mk', Bp_0, Bp_0', Bp_1, Bp_1', if_true, if_false, ite_not, X_isThrow hg hx hv hi, X_isThrow hg hx hv hk, Option.bind_some]
  by_cases h1 : (0 ≤ v ∧ v < cR C) ∧ 0 ≤ i ∧ i < cP C v.toNat
  case neg => simp only [if_neg h1]; exact ⟨_, rfl, FrW_r _ _ _ _, hw⟩
  simp only [if_pos h1]
  by_cases h2 : (0 ≤ v ∧ v < cR C) ∧ 0 ≤ k ∧ k < cP C v.toNat
  case neg => simp only [if_neg h2]; exact ⟨_, rfl, FrW_r _ _ _ _, hw⟩
  simp only [if_pos h2]
  by_cases h3 : i = k
  case pos => rw [if_pos (by rw [h3])]; simp only [if_pos h3]; exact ⟨_, rfl, FrW_r _ _ _ _, hw⟩
  rw [if_neg (by rw [J_eq (by omega)]; exact h3)]
  simp only [if_neg h3]
  obtain ⟨r, hr⟩ : ∃ r : Nat, v = r := ⟨v.toNat, by omega⟩
  subst hr
  obtain ⟨i, hr⟩ : ∃ r : Nat, i = r := ⟨i.toNat, by omega⟩
  subst hr
  obtain ⟨k, hr⟩ : ∃ r : Nat, k = r := ⟨k.toNat, by omega⟩
  subst hr
  simp only [Int.toNat_natCast] at h1 h2 hP ⊢
  have hr' : r < cR C := by omega
  have hi' : i < cP C r := by omega
  have hk' : k < cP C r := by omega
  have b1 := cH_le C r i
  have b2 := cH_le C r k
  have b3 := cT_le C r i
  have b4 := cT_le C r k
  have ⟨F, G, hF, e2, hset⟩ := X_setW (N := N) (S := S) hw hs hr'
  have e3 := hc_at hx (z := (r : Int)) (by omega)
  rw [Int.toNat_natCast] at e3
  have e4 := X_height (N := N) hx hr' (b := (i : Int)) (by omega)
  have e5 := X_to (N := N) hx hr' (b := (i : Int)) (by omega)
  rw [hh_nat C hi'] at e4
  rw [tt_nat C hi'] at e5
  have e6 := X_height (N := N) hx hr' (b := (k : Int)) (by omega)
  have e7 := X_to (N := N) hx hr' (b := (k : Int)) (by omega)
  rw [hh_nat C hk'] at e6
  rw [tt_nat C hk'] at e7
  have m1 : fX0_isIn N (emX o S w) (JL ((cH C r k : Int) + k - i)) (JL 1) (JL 9) = some (Bp (1 ≤ (cH C r k : Int) + k - i ∧ (cH C r k : Int) + k - i ≤ 9)) := X_in (by omega)
  have m2 : fX0_isIn N (emX o S w) (JL ((cH C r i : Int) - k + i)) (JL 1) (JL 9) = some (Bp (1 ≤ (cH C r i : Int) - k + i ∧ (cH C r i : Int) - k + i ≤ 9)) := X_in (by omega)
  have l1 : (J ((cH C r k : Int) + k - i)).toInt64 = JL ((cH C r k : Int) + k - i) := J_long (by omega)
  have l2 : (J ((cH C r i : Int) - k + i)).toInt64 = JL ((cH C r i : Int) - k + i) := J_long (by omega)
  simp only [hg, hc_7 hx, e3, ht_k hx hr', e4, e5, e6, e7, Option.bind_some, J_add, J_sub, l1, l2, m1, m2, Classical.not_not, em_t, Bp_eq0, Bp_eq1, Bp_01, Bp_mk, Bp_mk', Bp_0, Bp_0', Bp_1, Bp_1', if_true, if_false, ite_not]
  by_cases h4 : cH C r i = 0
  case pos => rw [h4]; simp only [if_true]; exact ⟨_, rfl, FrW_r _ _ _ _, hw⟩
  rw [if_neg (by rw [J_eq (by omega)]; omega)]
  simp only [if_neg h4]
  by_cases h5 : cH C r k = 0
  case pos => rw [h5]; simp only [if_true]; exact ⟨_, rfl, FrW_r _ _ _ _, hw⟩
  rw [if_neg (by rw [J_eq (by omega)]; omega)]
  simp only [if_neg h5]
  by_cases h6 : 1 ≤ (cH C r k : Int) + k - i ∧ (cH C r k : Int) + k - i ≤ 9
  case neg => simp only [if_neg h6]; exact ⟨_, rfl, FrW_r _ _ _ _, hw⟩
  simp only [if_pos h6]
  by_cases h7 : 1 ≤ (cH C r i : Int) + i - k ∧ (cH C r i : Int) + i - k ≤ 9
  case neg => rw [if_neg (by omega)]; simp only [if_neg h7]; exact ⟨_, rfl, FrW_r _ _ _ _, hw⟩
  rw [if_pos (by omega)]
  simp only [if_pos h7]
  rw [hset k _ _ (by omega), Option.bind_some, T_k (Sep_th hs hr') (kc_in _ (cK_le C r)), Option.bind_some, T_set (Sep_th hs hr') (kc_in _ (cK_le C r)) (by omega), Option.bind_some]
  refine ⟨_, rfl, FrW_T hr', Hc_row hw hs hr' hP (fun j hj => ?_)⟩
  have h8 := cH_le C r j
  have h9 := cT_le C r j
  unfold set1
  simp only [Int.toNat_natCast]
  by_cases hji : j = i
  · subst hji
    rw [if_pos rfl, if_pos rfl, upd_s, upd_s]
    exact ⟨by omega, b4, by congr 1; omega, rfl⟩
  · rw [if_neg hji, if_neg hji, upd_o _ _ hji, upd_o _ _ hji]
    by_cases hjk : j = k
    · subst hjk
      rw [if_pos rfl, if_pos rfl, upd_s, upd_s]
      exact ⟨by omega, b3, by congr 1; omega, rfl⟩
    · rw [if_neg hjk, if_neg hjk, upd_o _ _ hjk, upd_o _ _ hjk]
      exact ⟨h8, h9, (hF j hj).1, (hF j hj).2⟩
theorem X_exchange (hw : Hc w c th C) (hs : Sep o c th (cR C)) (hc : xc S = c) (hN : 1000000 ≤ N) {v i u k : Int} (hv : -2147483648 ≤ v ∧ v ≤ 2147483647) (hi : -2147483648 ≤ i ∧ i ≤ 2147483647) (hu : -2147483648 ≤ u ∧ u ≤ 2147483647) (hk : -2147483648 ≤ k ∧ k ≤ 2147483647) : ∃ w', fX0_exchange N (emX o S w) o (J v) (J i) (J u) (J k) = some (J (sp_exchange C v i u k).1, emX o S w') ∧ FrW c th (cR C) w w' ∧ Hc w' c th (sp_exchange C v i u k).2 := by
  have hx := hX_of hw hs S
  have hg : gR (emX o S w) [0] o 0 = some c := xg hc
  have hR := cR_le C
  have hP := cP_bd C v.toNat
  have hP' := cP_bd C u.toNat
  unfold fX0_exchange sp_exchange
  simp only [jn_0, jn_1, jn_2, jn_3, jn_4, jn_5, jn_6, jn_8, jn_9, jn_10, jn_11, jn_12, jn_16, jn_20, jn_24, jn_30, jn_31, jn_32, jn_36, jn_48, jn_57, jn_59, jn_60, jn_63, jn_72, jn_73, jn_96, jn_97, jn_100, jn_122, jn_144, jn_200, jn_240, jn_288, jn_512, jn_840, jn_1200, jn_1600, jn_5040, jn_5390, jn_5400, jn_9999, jn_18688, jn_32400, jn_99999, jn_100000, jn_1000000, jn_858993459, jn_1431655765, jn_252645135, jl_0, jl_1, jl_2, jl_3, jl_8, jl_9, jl_10, jl_20, jl_27, jl_47, jl_96, jl_99, jl_100, jl_200, jl_555, jl_2000, jl_10000, jl_12345, jl_65536, jl_99999, jl_131638, jl_240023, jl_298288, jl_383153, jl_1306021, jl_1960084, jl_4147840, jl_8740238, jl_9872299, jl_175252482, jl_291595537, jl_1103515245, jl_2000000000, jl_2147483648, jl_4721686497, jl_7873079139, J_add, J_sub, J_mul, J_neg, JL_add, JL_sub, JL_mul, JL_neg, J_long, JL_int, ↓remI_fold, ↓remL_fold, Int.reduceAdd, Int.reduceSub, Int.reduceMul, Int.reduceNeg, Int.reduceToNat, Classical.not_not, em_t, Bp_eq0, Bp_eq1, Bp_01, Bp_mk, Bp_mk', Bp_0, Bp_0', Bp_1, Bp_1', if_true, if_false, ite_not, X_isThrow hg hx hv hi, X_isThrow hg hx hu hk, Option.bind_some]
  by_cases h1 : (0 ≤ v ∧ v < cR C) ∧ 0 ≤ i ∧ i < cP C v.toNat
  case neg => simp only [if_neg h1]; exact ⟨_, rfl, FrW_r _ _ _ _, hw⟩
  simp only [if_pos h1]
  by_cases h2 : (0 ≤ u ∧ u < cR C) ∧ 0 ≤ k ∧ k < cP C u.toNat
  case neg => simp only [if_neg h2]; exact ⟨_, rfl, FrW_r _ _ _ _, hw⟩
  simp only [if_pos h2]
  by_cases h3 : v = u
  case pos => rw [if_pos (by rw [h3])]; simp only [if_pos h3]; exact ⟨_, rfl, FrW_r _ _ _ _, hw⟩
  rw [if_neg (by rw [J_eq (by omega)]; exact h3)]
  simp only [if_neg h3]
  obtain ⟨r, hr⟩ : ∃ r : Nat, v = r := ⟨v.toNat, by omega⟩
  subst hr
  obtain ⟨q, hr⟩ : ∃ r : Nat, u = r := ⟨u.toNat, by omega⟩
  subst hr
  obtain ⟨i, hr⟩ : ∃ r : Nat, i = r := ⟨i.toNat, by omega⟩
  subst hr
  obtain ⟨k, hr⟩ : ∃ r : Nat, k = r := ⟨k.toNat, by omega⟩
  subst hr
  simp only [Int.toNat_natCast] at h1 h2 hP hP' ⊢
  have hr' : r < cR C := by omega
  have hq' : q < cR C := by omega
  have hrq : r ≠ q := by omega
  have hi' : i < cP C r := by omega
  have hk' : k < cP C q := by omega
  have b1 := cH_le C r i
  have b2 := cH_le C q k
  have b3 := cT_le C r i
  have b4 := cT_le C q k
  have ⟨F, G, hF, e2, hset⟩ := X_setW (N := N) (S := S) hw hs hq'
  have e3 := hc_at hx (z := (r : Int)) (by omega)
  have e3' := hc_at hx (z := (q : Int)) (by omega)
  rw [Int.toNat_natCast] at e3 e3'
  have e4 := X_height (N := N) hx hr' (b := (i : Int)) (by omega)
  have e5 := X_to (N := N) hx hr' (b := (i : Int)) (by omega)
  rw [hh_nat C hi'] at e4
  rw [tt_nat C hi'] at e5
  have e6 := X_height (N := N) hx hq' (b := (k : Int)) (by omega)
  have e7 := X_to (N := N) hx hq' (b := (k : Int)) (by omega)
  rw [hh_nat C hk'] at e6
  rw [tt_nat C hk'] at e7
  have m1 : fX0_isIn N (emX o S w) (JL ((cH C q k : Int) + k - i)) (JL 1) (JL 9) = some (Bp (1 ≤ (cH C q k : Int) + k - i ∧ (cH C q k : Int) + k - i ≤ 9)) := X_in (by omega)
  have m2 : fX0_isIn N (emX o S w) (JL ((cH C r i : Int) - k + i)) (JL 1) (JL 9) = some (Bp (1 ≤ (cH C r i : Int) - k + i ∧ (cH C r i : Int) - k + i ≤ 9)) := X_in (by omega)
  have l1 : (J ((cH C q k : Int) + k - i)).toInt64 = JL ((cH C q k : Int) + k - i) := J_long (by omega)
  have l2 : (J ((cH C r i : Int) - k + i)).toInt64 = JL ((cH C r i : Int) - k + i) := J_long (by omega)
  simp only [hg, hc_7 hx, e3, e3', ht_k hx hr', ht_k hx hq', ht_3 hx hr', ht_3 hx hq', e4, e5, e6, e7, Option.bind_some, J_add, J_sub, l1, l2, m1, m2, Classical.not_not, em_t, Bp_eq0, Bp_eq1, Bp_01, Bp_mk, Bp_mk', Bp_0, Bp_0', Bp_1, Bp_1', if_true, if_false, ite_not]
  by_cases h8 : cP C r = cP C q
  case neg => rw [if_neg (by rw [J_eq (by omega)]; omega)]; simp only [if_neg h8]; exact ⟨_, rfl, FrW_r _ _ _ _, hw⟩
  rw [if_pos (by rw [h8])]
  simp only [if_pos h8]
  by_cases h4 : cH C r i = 0
  case pos => rw [h4]; simp only [if_true]; exact ⟨_, rfl, FrW_r _ _ _ _, hw⟩
  rw [if_neg (by rw [J_eq (by omega)]; omega)]
  simp only [if_neg h4]
  by_cases h5 : cH C q k = 0
  case pos => rw [h5]; simp only [if_true]; exact ⟨_, rfl, FrW_r _ _ _ _, hw⟩
  rw [if_neg (by rw [J_eq (by omega)]; omega)]
  simp only [if_neg h5]
  by_cases h6 : 1 ≤ (cH C q k : Int) + k - i ∧ (cH C q k : Int) + k - i ≤ 9
  case neg => simp only [if_neg h6]; exact ⟨_, rfl, FrW_r _ _ _ _, hw⟩
  simp only [if_pos h6]
  by_cases h7 : 1 ≤ (cH C r i : Int) + i - k ∧ (cH C r i : Int) + i - k ≤ 9
  case neg => rw [if_neg (by omega)]; simp only [if_neg h7]; exact ⟨_, rfl, FrW_r _ _ _ _, hw⟩
  rw [if_pos (by omega)]
  simp only [if_pos h7]
  rw [hset k _ _ (by omega), Option.bind_some, Int.toNat_natCast]
  have hw1 : Hc (wT w (th q) (kc (cK C q)) q (J (cP C q)) (upd F k (J ((cH C r i : Int) - k + i))) (upd G k (J (cT C r i)))) c th (cRow C q (cP C q) (set1 (cH C q) k ((cH C r i : Int) + i - k).toNat) (set1 (cT C q) k (cT C r i))) := by
    refine Hc_row hw hs hq' hP' (fun j hj => ?_)
    have h8 := cH_le C q j
    have h9 := cT_le C q j
    unfold set1
    by_cases hjk : j = k
    · subst hjk
      rw [if_pos rfl, if_pos rfl, upd_s, upd_s]
      exact ⟨by omega, b3, by congr 1; omega, rfl⟩
    · rw [if_neg hjk, if_neg hjk, upd_o _ _ hjk, upd_o _ _ hjk]
      exact ⟨h8, h9, (hF j hj).1, (hF j hj).2⟩
  have hFw := FrW_T (c := c) (th := th) (w := w) (r := q) (k := kc (cK C q)) (n := J (cP C q)) (F := upd F k (J ((cH C r i : Int) - k + i))) (G := upd G k (J (cT C r i))) hq'
  generalize wT w (th q) (kc (cK C q)) q (J (cP C q)) (upd F k (J ((cH C r i : Int) - k + i))) (upd G k (J (cT C r i))) = w1 at hw1 hFw ⊢
  have hs1 : Sep o c th (cR (cRow C q (cP C q) (set1 (cH C q) k ((cH C r i : Int) + i - k).toNat) (set1 (cT C q) k (cT C r i)))) := hs
  have ⟨F', G', hF', e2', hset'⟩ := X_setW (N := N) (S := S) hw1 hs1 hr'
  have hx1 := hX_of hw1 hs1 S
  have hk1 := ht_k hx1 hr'
  rw [hk1, Option.bind_some, hset' i _ _ (by omega), Option.bind_some, Int.toNat_natCast]
  have hP1 : cP (cRow C q (cP C q) (set1 (cH C q) k ((cH C r i : Int) + i - k).toNat) (set1 (cT C q) k (cT C r i))) r = cP C r := by rw [cRow_P hP', if_neg hrq]
  rw [hP1]
  refine ⟨_, rfl, FrW_t hFw (FrW_T hr'), Hc_row hw1 hs1 hr' hP (fun j hj => ?_)⟩
  have h8 := cH_le C r j
  have h9 := cT_le C r j
  unfold set1
  by_cases hji : j = i
  · subst hji
    rw [if_pos rfl, if_pos rfl, upd_s, upd_s]
    exact ⟨by omega, b4, by congr 1; omega, rfl⟩
  · rw [if_neg hji, if_neg hji, upd_o _ _ hji, upd_o _ _ hji]
    have ⟨z1, z2⟩ := hF' j (by rw [hP1]; exact hj)
    rw [cRow_Hq (by omega) hrq] at z1
    rw [cRow_Tq (by omega) hrq] at z2
    exact ⟨h8, h9, z1, z2⟩
def cp8 (f g : Nat → Int32) : Nat → Int32 := fun k => if k < 8 then f k else g k
theorem cpI_8 {w : Wd} {a0 a : Nat} {f g : Nat → Int32} (h0 : w a0 = some (.inl (0, 8, .inl f))) (h1 : w a = some (.inl (0, 8, .inl g))) : cpI 0 w a0 (J 0) a (J 0) (J 8) = some (wup w a (.inl (0, 8, .inl (cp8 f g)))) := by
  unfold cpI
  rw [h0, h1]
  simp only
  have e0 : (J 0).toNatClampNeg = 0 := J_nn (by omega)
  have e8 : (J 8).toNatClampNeg = 8 := J_nn (by omega)
  rw [e0, e8, jn_0]
  have c0 : ¬ J 0 < J 0 := by rw [J_lt (by omega)]; omega
  have c8 : ¬ J 8 < J 0 := by rw [J_lt (by omega)]; omega
  rw [if_pos ⟨⟨trivial, trivial, c0, c0, c8, by decide, by decide⟩, Or.inl trivial⟩]
  congr 6
  funext k
  unfold va_cpy cp8
  by_cases h : k < 8
  · rw [if_pos (by omega), if_pos h, Nat.zero_add, Nat.sub_zero]
  · rw [if_neg (by omega), if_neg h]
theorem emX_upR (S : XS) (w : Wd) (a : Nat) (f : Nat → Int32) (h : a = 10 ∨ a = 11) : wup (emX o S w) (o + a) (.inl (0, 8, .inl f)) = emX o (xSR S a f) w := by
  rcases h with h | h <;> subst h
  · exact emX_up (by decide) rfl (fun d hd => xCell_R o S 10 _ d hd)
  · exact emX_up (by decide) rfl (fun d hd => xCell_R o S 11 _ d hd)
/-- the spare thrower is made like another -/
def spr (S : XS) (F G : Nat → Int32) (n : Int32) : XS := xSI (xSR (xSR S 10 (cp8 F (xa S 10))) 11 (cp8 G (xa S 11))) 41 n
theorem spr_Fr (S : XS) (F G : Nat → Int32) (n : Int32) : FrX S (spr S F G n) := FrX_t (FrX_R S 10 _ (by decide)) (FrX_t (FrX_R _ 11 _ (by decide)) (FrX_I _ 41 _ (by decide)))
theorem X_beS {a k r : Nat} {m : Int32} {F G : Nat → Int32} (ha : ∀ d, d ≤ 2 → ¬ own o (a + d)) (hk : k ∈ [2, 8, 9, 10, 11]) : fX2_be N (emX o S (wT w a k r m F G)) (o + 9) a = some (emX o (spr S F G m) (wT w a k r m F G)) := by
  unfold fX2_be
  rw [gR_of (emT_0 ha) hk rfl, Option.bind_some, xg_s1, Option.bind_some]
  simp only [jn_0, jn_1, jn_2, jn_3, jn_4, jn_5, jn_6, jn_8, jn_9, jn_10, jn_11, jn_12, jn_16, jn_20, jn_24, jn_30, jn_31, jn_32, jn_36, jn_48, jn_57, jn_59, jn_60, jn_63, jn_72, jn_73, jn_96, jn_97, jn_100, jn_122, jn_144, jn_200, jn_240, jn_288, jn_512, jn_840, jn_1200, jn_1600, jn_5040, jn_5390, jn_5400, jn_9999, jn_18688, jn_32400, jn_99999, jn_100000, jn_1000000, jn_858993459, jn_1431655765, jn_252645135, jl_0, jl_1, jl_2, jl_3, jl_8, jl_9, jl_10, jl_20, jl_27, jl_47, jl_96, jl_99, jl_100, jl_200, jl_555, jl_2000, jl_10000, jl_12345, jl_65536, jl_99999, jl_131638, jl_240023, jl_298288, jl_383153, jl_1306021, jl_1960084, jl_4147840, jl_8740238, jl_9872299, jl_175252482, jl_291595537, jl_1103515245, jl_2000000000, jl_2147483648, jl_4721686497, jl_7873079139, J_add, J_sub, J_mul, J_neg, JL_add, JL_sub, JL_mul, JL_neg, J_long, JL_int, ↓remI_fold, ↓remL_fold, Int.reduceAdd, Int.reduceSub, Int.reduceMul, Int.reduceNeg, Int.reduceToNat]
  rw [cpI_8 (emT_1 ha) (xm_10 o S _), Option.bind_some, emX_upR _ _ _ _ (Or.inl rfl), gR_of (emT_0 ha) hk rfl, Option.bind_some, xg_s2, Option.bind_some, cpI_8 (emT_2 ha) (xm_11 o _ _), Option.bind_some, emX_upR _ _ _ _ (Or.inr rfl), gI_of (emT_0 ha) hk rfl, Option.bind_some, xp_s3, Option.bind_some]
  rfl
theorem X_beT {a k r : Nat} {m : Int32} {F G : Nat → Int32} (ha : ∀ d, d ≤ 2 → ¬ own o (a + d)) (hk : k ∈ [2, 8, 9, 10, 11]) : fX2_be N (emX o S (wT w a k r m F G)) a (o + 9) = some (emX o S (wT w a k r (xi S 41) (cp8 (xa S 10) F) (cp8 (xa S 11) G))) := by
  unfold fX2_be
  rw [xg_s1, Option.bind_some, gR_of (emT_0 ha) hk rfl, Option.bind_some]
  simp only [jn_0, jn_1, jn_2, jn_3, jn_4, jn_5, jn_6, jn_8, jn_9, jn_10, jn_11, jn_12, jn_16, jn_20, jn_24, jn_30, jn_31, jn_32, jn_36, jn_48, jn_57, jn_59, jn_60, jn_63, jn_72, jn_73, jn_96, jn_97, jn_100, jn_122, jn_144, jn_200, jn_240, jn_288, jn_512, jn_840, jn_1200, jn_1600, jn_5040, jn_5390, jn_5400, jn_9999, jn_18688, jn_32400, jn_99999, jn_100000, jn_1000000, jn_858993459, jn_1431655765, jn_252645135, jl_0, jl_1, jl_2, jl_3, jl_8, jl_9, jl_10, jl_20, jl_27, jl_47, jl_96, jl_99, jl_100, jl_200, jl_555, jl_2000, jl_10000, jl_12345, jl_65536, jl_99999, jl_131638, jl_240023, jl_298288, jl_383153, jl_1306021, jl_1960084, jl_4147840, jl_8740238, jl_9872299, jl_175252482, jl_291595537, jl_1103515245, jl_2000000000, jl_2147483648, jl_4721686497, jl_7873079139, J_add, J_sub, J_mul, J_neg, JL_add, JL_sub, JL_mul, JL_neg, J_long, JL_int, ↓remI_fold, ↓remL_fold, Int.reduceAdd, Int.reduceSub, Int.reduceMul, Int.reduceNeg, Int.reduceToNat]
  rw [cpI_8 (xm_10 o S _) (emT_1 ha), Option.bind_some, emX_wup (ha 1 (by omega)), wT_up1, xg_s2, Option.bind_some, gR_of (emT_0 ha) hk rfl, Option.bind_some, cpI_8 (xm_11 o S _) (emT_2 ha), Option.bind_some, emX_wup (ha 2 (by omega)), wT_up2, xg_s3, Option.bind_some, T_many ha hk, Option.bind_some]
theorem X_sprH {n : Nat} (hn : 1 ≤ n ∧ n ≤ 8) (h41 : xi S 41 = J n) {H : Nat → Nat} (hH : ∀ i, i < n → xa S 10 i = J (H i)) {b : Nat} (hb : b ≤ 1000) : fX2_height N (emX o S w) (o + 9) (J b) = some (J (H (b % n))) := by
  have hm := Nat.mod_lt b (show n > 0 by omega)
  unfold fX2_height fX2_place
  rw [xg_s1, Option.bind_some, xk_s, Option.bind_some, xg_s3, Option.bind_some, h41, X_floorMod (by omega), Option.bind_some, Option.bind_some, show (b : Int) % (n : Int) = ((b % n : Nat) : Int) by rw [Int.natCast_emod], xr_10 o S w (by omega), Option.bind_some, Int.toNat_natCast, hH _ hm]
theorem X_sprT {n : Nat} (hn : 1 ≤ n ∧ n ≤ 8) (h41 : xi S 41 = J n) {T : Nat → Nat} (hT : ∀ i, i < n → xa S 11 i = J (T i)) {b : Nat} (hb : b ≤ 1000) : fX2_to N (emX o S w) (o + 9) (J b) = some (J (T (b % n))) := by
  have hm := Nat.mod_lt b (show n > 0 by omega)
  unfold fX2_to fX2_place
  rw [xg_s2, Option.bind_some, xk_s, Option.bind_some, xg_s3, Option.bind_some, h41, X_floorMod (by omega), Option.bind_some, Option.bind_some, show (b : Int) % (n : Int) = ((b % n : Nat) : Int) by rw [Int.natCast_emod], xr_11 o S w (by omega), Option.bind_some, Int.toNat_natCast, hT _ hm]
theorem X_shift (hw : Hc w c th C) (hs : Sep o c th (cR C)) (hc : xc S = c) (hN : 1000000 ≤ N) {v n : Int} (hv : -2147483648 ≤ v ∧ v ≤ 2147483647) (hn : -2147483648 ≤ n ∧ n ≤ 2147483647) : ∃ S' w', fX0_shift N (emX o S w) o (J v) (J n) = some (J (sp_shift C v n).1, emX o S' w') ∧ FrX S S' ∧ FrW c th (cR C) w w' ∧ Hc w' c th (sp_shift C v n).2 := by
  have hx := hX_of hw hs S
  have hg : gR (emX o S w) [0] o 0 = some c := xg hc
  have hR := cR_le C
  have hP := cP_bd C v.toNat
  unfold fX0_shift sp_shift
  simp only [jn_0, jn_1, jn_2, jn_3, jn_4, jn_5, jn_6, jn_8, jn_9, jn_10, jn_11, jn_12, jn_16, jn_20, jn_24, jn_30, jn_31, jn_32, jn_36, jn_48, jn_57, jn_59, jn_60, jn_63, jn_72, jn_73, jn_96, jn_97, jn_100, jn_122, jn_144, jn_200, jn_240, jn_288, jn_512, jn_840, jn_1200, jn_1600, jn_5040, jn_5390, jn_5400, jn_9999, jn_18688, jn_32400, jn_99999, jn_100000, jn_1000000, jn_858993459, jn_1431655765, jn_252645135, jl_0, jl_1, jl_2, jl_3, jl_8, jl_9, jl_10, jl_20, jl_27, jl_47, jl_96, jl_99, jl_100, jl_200, jl_555, jl_2000, jl_10000, jl_12345, jl_65536, jl_99999, jl_131638, jl_240023, jl_298288, jl_383153, jl_1306021, jl_1960084, jl_4147840, jl_8740238, jl_9872299, jl_175252482, jl_291595537, jl_1103515245, jl_2000000000, jl_2147483648, jl_4721686497, jl_7873079139, J_add, J_sub, J_mul, J_neg, JL_add, JL_sub, JL_mul, JL_neg, J_long, JL_int, ↓remI_fold, ↓remL_fold, Int.reduceAdd, Int.reduceSub, Int.reduceMul, Int.reduceNeg, Int.reduceToNat, Classical.not_not, em_t, Bp_eq0, Bp_eq1, Bp_01, Bp_mk, Bp_mk', Bp_0, Bp_0', Bp_1, Bp_1', if_true, if_false, ite_not, X_isThrow hg hx hv hn, Option.bind_some]
  by_cases h1 : (0 ≤ v ∧ v < cR C) ∧ 0 ≤ n ∧ n < cP C v.toNat
  case neg => simp only [if_neg h1]; exact ⟨_, _, rfl, FrX_r S, FrW_r _ _ _ _, hw⟩
  simp only [if_pos h1]
  obtain ⟨r, hr⟩ : ∃ r : Nat, v = r := ⟨v.toNat, by omega⟩
  subst hr
  obtain ⟨m, hr⟩ : ∃ r : Nat, n = r := ⟨n.toNat, by omega⟩
  subst hr
  simp only [Int.toNat_natCast] at h1 hP ⊢
  have hr' : r < cR C := by omega
  have ⟨F, G, e, hF⟩ := Hc_thr hw hr'
  have hk := kc_in _ (cK_le C r)
  have ha := Sep_th hs hr'
  have e3 := hc_at hx (z := (r : Int)) (by omega)
  rw [Int.toNat_natCast] at e3
  have eb := X_beS (N := N) (o := o) (S := S) (w := w) (r := r) (m := J (cP C r)) (F := F) (G := G) ha hk
  rw [e] at eb
  simp only [hg, hc_7 hx, e3, xg_5, xk_s, eb, Option.bind_some]
  have q41 : xi (spr S F G (J (cP C r))) 41 = J (cP C r) := rfl
  have q10 : ∀ i, i < cP C r → xa (spr S F G (J (cP C r))) 10 i = J (cH C r i) := by
    intro i hi
    show cp8 F (xa S 10) i = _
    unfold cp8
    rw [if_pos (by omega)]; exact (hF i hi).1
  have q11 : ∀ i, i < cP C r → xa (spr S F G (J (cP C r))) 11 i = J (cT C r i) := by
    intro i hi
    show cp8 G (xa S 11) i = _
    unfold cp8
    rw [if_pos (by omega)]; exact (hF i hi).2
  refine ⟨spr S F G (J (cP C r)), wT w (th r) (kc (cK C r)) r (J (cP C r)) (fun j => if j < cP C r then J (cH C r ((j + m) % cP C r)) else F j) (fun j => if j < cP C r then J (cT C r ((j + m) % cP C r)) else G j), ?_, spr_Fr _ _ _ _, FrW_T hr', Hc_row hw hs hr' hP (fun j hj => ⟨cH_le _ _ _, cT_le _ _ _, by rw [if_pos hj], by rw [if_pos hj]⟩)⟩
  generalize spr S F G (J (cP C r)) = U at *
  have key := lp_cnt (fun n i => fX0_shift_33 N o (J m) (th r) (fun w18 => (gI w18 [2, 8, 9, 10, 11] (th r) 3).bind fun x19 => some (x19, w18)) n (J (i : Int)) (emX o U (wT w (th r) (kc (cK C r)) r (J (cP C r)) (fun j => if j < i then J (cH C r ((j + m) % cP C r)) else F j) (fun j => if j < i then J (cT C r ((j + m) % cP C r)) else G j)))) (some (J (cP C r), emX o U (wT w (th r) (kc (cK C r)) r (J (cP C r)) (fun j => if j < cP C r then J (cH C r ((j + m) % cP C r)) else F j) (fun j => if j < cP C r then J (cT C r ((j + m) % cP C r)) else G j)))) (cP C r) ?_ ?_ N (by omega)
  · have e1 : (fun j => if j < 0 then J (cH C r ((j + m) % cP C r)) else F j) = F := by funext j; rw [if_neg (by omega)]
    have e2 : (fun j => if j < 0 then J (cT C r ((j + m) % cP C r)) else G j) = G := by funext j; rw [if_neg (by omega)]
    rw [e1, e2, e] at key
    exact key
  · intro n i hi
    try dsimp only
    rw [fX0_shift_33]
    simp (disch := omega) only [jn_0, jn_1, jn_2, jn_3, jn_4, jn_5, jn_6, jn_8, jn_9, jn_10, jn_11, jn_12, jn_16, jn_20, jn_24, jn_30, jn_31, jn_32, jn_36, jn_48, jn_57, jn_59, jn_60, jn_63, jn_72, jn_73, jn_96, jn_97, jn_100, jn_122, jn_144, jn_200, jn_240, jn_288, jn_512, jn_840, jn_1200, jn_1600, jn_5040, jn_5390, jn_5400, jn_9999, jn_18688, jn_32400, jn_99999, jn_100000, jn_1000000, jn_858993459, jn_1431655765, jn_252645135, jl_0, jl_1, jl_2, jl_3, jl_8, jl_9, jl_10, jl_20, jl_27, jl_47, jl_96, jl_99, jl_100, jl_200, jl_555, jl_2000, jl_10000, jl_12345, jl_65536, jl_99999, jl_131638, jl_240023, jl_298288, jl_383153, jl_1306021, jl_1960084, jl_4147840, jl_8740238, jl_9872299, jl_175252482, jl_291595537, jl_1103515245, jl_2000000000, jl_2147483648, jl_4721686497, jl_7873079139, J_add, J_sub, J_mul, J_neg, JL_add, JL_sub, JL_mul, JL_neg, J_long, JL_int, ↓remI_fold, ↓remL_fold, Int.reduceAdd, Int.reduceSub, Int.reduceMul, Int.reduceNeg, Int.reduceToNat, T_3 ha hk, xg_5, xk_s, T_k ha hk, J_le, castS, Option.bind_some]
    rw [if_neg (by omega), show (i : Int) + (m : Int) = ((i + m : Nat) : Int) by omega, X_sprH hP q41 q10 (by omega), Option.bind_some, X_sprT hP q41 q11 (by omega), Option.bind_some, T_set ha hk (by omega), Option.bind_some, Int.toNat_natCast, lt_upd (fun j => J (cH C r ((j + m) % cP C r))) F i, lt_upd (fun j => J (cT C r ((j + m) % cP C r))) G i]
  · intro n
    try dsimp only
    rw [fX0_shift_33]
    simp (disch := omega) only [jn_0, jn_1, jn_2, jn_3, jn_4, jn_5, jn_6, jn_8, jn_9, jn_10, jn_11, jn_12, jn_16, jn_20, jn_24, jn_30, jn_31, jn_32, jn_36, jn_48, jn_57, jn_59, jn_60, jn_63, jn_72, jn_73, jn_96, jn_97, jn_100, jn_122, jn_144, jn_200, jn_240, jn_288, jn_512, jn_840, jn_1200, jn_1600, jn_5040, jn_5390, jn_5400, jn_9999, jn_18688, jn_32400, jn_99999, jn_100000, jn_1000000, jn_858993459, jn_1431655765, jn_252645135, jl_0, jl_1, jl_2, jl_3, jl_8, jl_9, jl_10, jl_20, jl_27, jl_47, jl_96, jl_99, jl_100, jl_200, jl_555, jl_2000, jl_10000, jl_12345, jl_65536, jl_99999, jl_131638, jl_240023, jl_298288, jl_383153, jl_1306021, jl_1960084, jl_4147840, jl_8740238, jl_9872299, jl_175252482, jl_291595537, jl_1103515245, jl_2000000000, jl_2147483648, jl_4721686497, jl_7873079139, J_add, J_sub, J_mul, J_neg, JL_add, JL_sub, JL_mul, JL_neg, J_long, JL_int, ↓remI_fold, ↓remL_fold, Int.reduceAdd, Int.reduceSub, Int.reduceMul, Int.reduceNeg, Int.reduceToNat, T_3 ha hk, xg_5, xk_s, T_k ha hk, J_le, castS, Option.bind_some]
    rw [if_pos (by omega)]
end
