/-! the reference: set, swap, shift, exchange -/
set_option maxRecDepth 100000
def thG (C : Cy) (v i : Int) : Prop := (0 ≤ v ∧ v < cR C) ∧ 0 ≤ i ∧ i < cP C v.toNat
def set1 (f : Nat → Nat) (i x : Nat) : Nat → Nat := fun j => if j = i then x else f j
/-- what set answers, and the city behind it -/
def sp_set (C : Cy) (v i h t : Int) : Int × Cy := if (0 ≤ v ∧ v < cR C) ∧ 0 ≤ i ∧ i < cP C v.toNat then if 0 ≤ h ∧ h ≤ 9 then if 0 ≤ t ∧ t < cR C then if h = 0 ∧ t ≠ v then (-2, C) else (10 * cH C v.toNat i.toNat + cT C v.toNat i.toNat, cRow C v.toNat (cP C v.toNat) (set1 (cH C v.toNat) i.toNat h.toNat) (set1 (cT C v.toNat) i.toNat t.toNat)) else (-2, C) else (-2, C) else (-2, C)
def sp_swap (C : Cy) (v i k : Int) : Int × Cy := if (0 ≤ v ∧ v < cR C) ∧ 0 ≤ i ∧ i < cP C v.toNat then if (0 ≤ v ∧ v < cR C) ∧ 0 ≤ k ∧ k < cP C v.toNat then if i = k then (-2, C) else
  if cH C v.toNat i.toNat = 0 then (-5, C) else if cH C v.toNat k.toNat = 0 then (-5, C) else if 1 ≤ cH C v.toNat k.toNat + k - i ∧ cH C v.toNat k.toNat + k - i ≤ 9 then if 1 ≤ cH C v.toNat i.toNat + i - k ∧ cH C v.toNat i.toNat + i - k ≤ 9 then
  (0, cRow C v.toNat (cP C v.toNat) (set1 (set1 (cH C v.toNat) k.toNat (cH C v.toNat i.toNat + i - k).toNat) i.toNat (cH C v.toNat k.toNat + k - i).toNat) (set1 (set1 (cT C v.toNat) k.toNat (cT C v.toNat i.toNat)) i.toNat (cT C v.toNat k.toNat))) else (-5, C) else (-5, C) else (-2, C) else (-2, C)
def sp_shift (C : Cy) (v n : Int) : Int × Cy := if (0 ≤ v ∧ v < cR C) ∧ 0 ≤ n ∧ n < cP C v.toNat then (cP C v.toNat, cRow C v.toNat (cP C v.toNat) (fun i => cH C v.toNat ((i + n.toNat) % cP C v.toNat)) (fun i => cT C v.toNat ((i + n.toNat) % cP C v.toNat))) else (-2, C)
def sp_exchange (C : Cy) (v i u k : Int) : Int × Cy := if (0 ≤ v ∧ v < cR C) ∧ 0 ≤ i ∧ i < cP C v.toNat then if (0 ≤ u ∧ u < cR C) ∧ 0 ≤ k ∧ k < cP C u.toNat then if v = u then (-2, C) else
  if cP C v.toNat = cP C u.toNat then if cH C v.toNat i.toNat = 0 then (-5, C) else if cH C u.toNat k.toNat = 0 then (-5, C) else if 1 ≤ cH C u.toNat k.toNat + k - i ∧ cH C u.toNat k.toNat + k - i ≤ 9 then if 1 ≤ cH C v.toNat i.toNat + i - k ∧ cH C v.toNat i.toNat + i - k ≤ 9 then
  (0, cRow (cRow C u.toNat (cP C u.toNat) (set1 (cH C u.toNat) k.toNat (cH C v.toNat i.toNat + i - k).toNat) (set1 (cT C u.toNat) k.toNat (cT C v.toNat i.toNat))) v.toNat (cP C v.toNat) (set1 (cH C v.toNat) i.toNat (cH C u.toNat k.toNat + k - i).toNat) (set1 (cT C v.toNat) i.toNat (cT C u.toNat k.toNat))) else (-5, C) else (-5, C) else (-5, C) else (-2, C) else (-2, C)
section
variable {N o : Nat} {S : MS} {w : Wd} {C : Cy}
theorem FrC_I0 (S : MS) : FrC S (mSI S 0 (J 0)) := FrM_C (FrM_I S 0 _ (by decide))
/-- a throw is laid into the reference's city -/
def mTh (S : MS) (p : Nat) (x y : Int32) : MS := mSA (mSA S 10 p x) 11 p y
theorem mTh_C (S : MS) {p : Nat} (hp : p < 48) (x y : Int32) : FrC S (mTh S p x y) := FrC_t (FrC_A S 10 p x (by omega) (Or.inl hp)) (FrC_A _ 11 p y (by omega) (Or.inl hp))
theorem mTh_10 (S : MS) (p : Nat) (x y : Int32) : ma (mTh S p x y) 10 = upd (ma S 10) p x := rfl
theorem mTh_11 (S : MS) (p : Nat) (x y : Int32) : ma (mTh S p x y) 11 = upd (ma S 11) p y := rfl
theorem upd_s (f : Nat → Int32) (p : Nat) (x : Int32) : upd f p x p = x := by unfold upd; rw [if_pos rfl]
theorem upd_o (f : Nat → Int32) {p q : Nat} (x : Int32) (h : q ≠ p) : upd f p x q = f q := by unfold upd; rw [if_neg h]
theorem GdM_th (hG : GdM S 0 C) {r i : Nat} (hr : r < cR C) (hi : i < cP C r) {h t : Nat} (hh9 : h ≤ 9) (ht : t ≤ 5) : GdM (mTh S (8 * r + i) (J h) (J t)) 0 (cRow C r (cP C r) (set1 (cH C r) i h) (set1 (cT C r) i t)) := by
  have hP := cP_bd C r
  refine GdM_row hG hr hP (gm_P hG hr) (fun _ _ _ => rfl) (fun j hj => ?_) (fun q j hq hqr hj => ?_) (fun a ha => ?_)
  · unfold set1
    have h1 := cH_le C r j
    have h2 := cT_le C r j
    rw [mTh_10, mTh_11]
    by_cases hji : j = i
    · subst hji
      rw [if_pos rfl, if_pos rfl, upd_s, upd_s]
      exact ⟨hh9, ht, rfl, rfl⟩
    · rw [if_neg hji, if_neg hji, upd_o _ _ (by omega), upd_o _ _ (by omega)]
      exact ⟨h1, h2, gm_H hG hr hj, gm_T hG hr hj⟩
  · rw [mTh_10, mTh_11, upd_o _ _ (by omega), upd_o _ _ (by omega)]
    exact ⟨rfl, rfl⟩
  · unfold mTh
    rw [ma_A, if_neg (by omega), ma_A, if_neg (by omega)]
theorem M_set (hG : GdM S 0 C) (hN : 1000000 ≤ N) {v i h t : Int} (hv : -2147483648 ≤ v ∧ v ≤ 2147483647) (hi : -2147483648 ≤ i ∧ i ≤ 2147483647) (hh : -2147483648 ≤ h ∧ h ≤ 2147483647) (ht : -2147483648 ≤ t ∧ t ≤ 2147483647) : ∃ S', fX5_set N (emM o S w) o (J v) (J i) (J h) (J t) = some (J (sp_set C v i h t).1, emM o S' w) ∧ FrC S S' ∧ GdM S' 0 (sp_set C v i h t).2 := by
  have hG' : GdM (mSI S 0 (J 0)) 0 C := hG
  have hF := FrC_I0 S
  have hR := cR_le C
  have hP := cP_bd C v.toNat
  unfold fX5_set fX5_set_48 sp_set
  simp (disch := omega) only [jn_0, jn_1, jn_2, jn_3, jn_4, jn_5, jn_6, jn_8, jn_9, jn_10, jn_11, jn_12, jn_16, jn_20, jn_24, jn_30, jn_31, jn_32, jn_36, jn_48, jn_57, jn_59, jn_60, jn_63, jn_72, jn_73, jn_96, jn_97, jn_100, jn_122, jn_144, jn_200, jn_240, jn_288, jn_512, jn_840, jn_1200, jn_1600, jn_5040, jn_5390, jn_5400, jn_9999, jn_18688, jn_32400, jn_99999, jn_100000, jn_1000000, jn_858993459, jn_1431655765, jn_252645135, jl_0, jl_1, jl_2, jl_3, jl_8, jl_9, jl_10, jl_20, jl_27, jl_47, jl_96, jl_99, jl_100, jl_200, jl_555, jl_2000, jl_10000, jl_12345, jl_65536, jl_99999, jl_131638, jl_240023, jl_298288, jl_383153, jl_1306021, jl_1960084, jl_4147840, jl_8740238, jl_9872299, jl_175252482, jl_291595537, jl_1103515245, jl_2000000000, jl_2147483648, jl_4721686497, jl_7873079139, J_add, J_sub, J_mul, J_neg, JL_add, JL_sub, JL_mul, JL_neg, J_long, JL_int, ↓remI_fold, ↓remL_fold, Int.reduceAdd, Int.reduceSub, Int.reduceMul, Int.reduceNeg, Int.reduceToNat, Classical.not_not, em_t, Bp_eq0, Bp_eq1, Bp_01, Bp_mk, Bp_mk', Bp_0, Bp_0', Bp_1, Bp_1', if_true, if_false, ite_not, mp_0, mp_6, mp_7, mp_8, mp_9, mp_10, mp_11, mp_12, mp_13, mp_14, mp_15, mp_26, mp_30, mp_31, mp_35, mp_36, mp_37, mp_41, mp_43, mp_44, mp_45, M_isThrow hG', M_isRoof hG', M_in, Option.bind_some, J_eq]
  by_cases h1 : (0 ≤ v ∧ v < cR C) ∧ 0 ≤ i ∧ i < cP C v.toNat
  case neg => simp only [if_neg h1]; exact ⟨_, rfl, hF, hG'⟩
  simp only [if_pos h1]
  by_cases h2 : 0 ≤ h ∧ h ≤ 9
  case neg => simp only [if_neg h2]; exact ⟨_, rfl, hF, hG'⟩
  simp only [if_pos h2]
  by_cases h3 : 0 ≤ t ∧ t < cR C
  case neg => simp only [if_neg h3]; exact ⟨_, rfl, hF, hG'⟩
  simp only [if_pos h3]
  obtain ⟨r, hr⟩ : ∃ r : Nat, v = r := ⟨v.toNat, by omega⟩
  subst hr
  obtain ⟨i, hr⟩ : ∃ r : Nat, i = r := ⟨i.toNat, by omega⟩
  subst hr
  obtain ⟨h, hr⟩ : ∃ r : Nat, h = r := ⟨h.toNat, by omega⟩
  subst hr
  obtain ⟨t, hr⟩ : ∃ r : Nat, t = r := ⟨t.toNat, by omega⟩
  subst hr
  simp only [Int.toNat_natCast] at h1 hP ⊢
  by_cases h4 : ((h : Int) = 0 ∧ (t : Int) ≠ r)
  · rw [if_pos h4.1, if_neg h4.2]
    simp only [if_pos h4]; exact ⟨_, rfl, hF, hG'⟩
  simp only [if_neg h4]
  have e : (8 * (r : Int) + (i : Int)).toNat = 8 * r + i := by omega
  have main : ∃ S', (some (J (10 * cH C r i + cT C r i), emM o (mTh (mSI S 0 (J 0)) (8 * r + i) (J h) (J t)) w) : Option (Int32 × Wd)) = some (J (10 * cH C r i + cT C r i), emM o S' w) ∧ FrC S S' ∧ GdM S' 0 (cRow C r (cP C r) (set1 (cH C r) i h) (set1 (cT C r) i t)) := ⟨_, rfl, FrC_t hF (mTh_C _ (by omega) _ _), GdM_th hG' (by omega) (by omega) (by omega) (by omega)⟩
  have hH := gm_H hG' (show r < cR C by omega) (show i < cP C r by omega)
  have hT := gm_T hG' (show r < cR C by omega) (show i < cP C r by omega)
  simp (disch := omega) only [mg_0, mg_1, mg_2, mg_3, mg_4, mg_5, mg_6, mg_7, mg_8, mg_9, mg_10, mg_11, mg_12, mg_13, mg_14, mg_15, mg_16, mg_17, mg_18, mg_19, mg_20, mg_21, mg_22, mg_23, mg_24, mg_25, mg_26, mg_27, mg_28, mg_29, mg_30, mg_31, mg_32, mg_33, mg_34, mg_35, mg_36, mg_37, mg_38, mg_39, mg_40, mg_41, mg_42, mg_43, mg_44, mg_45, mr_1, mr_2, mr_3, mr_4, mr_5, mr_6, mr_7, mr_8, mr_9, mr_10, mr_11, mr_12, mr_13, mr_14, mr_15, mr_16, mr_17, mr_18, mr_19, mr_20, mr_21, mr_22, mr_23, mr_24, mr_25, mw_1, mw_2, mw_3, mw_4, mw_5, mw_6, mw_7, mw_8, mw_9, mw_10, mw_11, mw_12, mw_13, mw_14, mw_15, mw_16, mw_17, mw_18, mw_19, mw_20, mw_21, mw_22, mw_23, mw_24, mw_25, mi_R, ml_R, ma_R, mb_R, mi_Q, ml_Q, ma_Q, mb_Q, mi_I, mi_L, mi_A, mi_B, ml_I, ml_L, ml_A, ml_B, ma_I, ma_L, ma_A, ma_B, mb_I, mb_L, mb_A, mb_B, Nat.reduceEqDiff, eq_self, if_true, if_false, reduceIte, Option.bind_some, e]
  rw [show ma S 10 (8 * r + i) = J (cH C r i) from hH, show ma S 11 (8 * r + i) = J (cT C r i) from hT]
  simp only [J_mul, J_add]
  by_cases h5 : (h : Int) = 0
  · have h6 : (t : Int) = r := Classical.byContradiction (fun h7 => h4 ⟨h5, h7⟩)
    rw [if_pos h5, if_pos h6]; exact main
  · rw [if_neg h5]; exact main
def mSw (S : MS) (a b : Nat) (x y z u : Int32) : MS := mSA (mSA (mSA (mSA S 10 a x) 10 b y) 11 a z) 11 b u
theorem mSw_10 (S : MS) (a b : Nat) (x y z u : Int32) : ma (mSw S a b x y z u) 10 = upd (upd (ma S 10) a x) b y := rfl
theorem mSw_11 (S : MS) (a b : Nat) (x y z u : Int32) : ma (mSw S a b x y z u) 11 = upd (upd (ma S 11) a z) b u := rfl
theorem mSw_o (S : MS) (a b : Nat) (x y z u : Int32) {q : Nat} (h : q ≠ 10 ∧ q ≠ 11) : ma (mSw S a b x y z u) q = ma S q := by
  unfold mSw
  rw [ma_A, if_neg (by omega), ma_A, if_neg (by omega), ma_A, if_neg (by omega), ma_A, if_neg (by omega)]
theorem mSw_C (S : MS) {a b : Nat} (ha : a < 48) (hb : b < 48) (x y z u : Int32) : FrC S (mSw S a b x y z u) :=
  FrC_t (FrC_A S 10 a x (by omega) (Or.inl ha)) (FrC_t (FrC_A _ 10 b y (by omega) (Or.inl hb)) (FrC_t (FrC_A _ 11 a z (by omega) (Or.inl ha)) (FrC_A _ 11 b u (by omega) (Or.inl hb))))
theorem M_swap (hG : GdM S 0 C) (hN : 1000000 ≤ N) {v i k : Int} (hv : -2147483648 ≤ v ∧ v ≤ 2147483647) (hi : -2147483648 ≤ i ∧ i ≤ 2147483647) (hk : -2147483648 ≤ k ∧ k ≤ 2147483647) : ∃ S', fX5_swap N (emM o S w) o (J v) (J i) (J k) = some (J (sp_swap C v i k).1, emM o S' w) ∧ FrC S S' ∧ GdM S' 0 (sp_swap C v i k).2 := by
  have hG' : GdM (mSI S 0 (J 0)) 0 C := hG
  have hF := FrC_I0 S
  have hR := cR_le C
  have hP := cP_bd C v.toNat
  unfold fX5_swap sp_swap
  simp only [jn_0, jn_1, jn_2, jn_3, jn_4, jn_5, jn_6, jn_8, jn_9, jn_10, jn_11, jn_12, jn_16, jn_20, jn_24, jn_30, jn_31, jn_32, jn_36, jn_48, jn_57, jn_59, jn_60, jn_63, jn_72, jn_73, jn_96, jn_97, jn_100, jn_122, jn_144, jn_200, jn_240, jn_288, jn_512, jn_840, jn_1200, jn_1600, jn_5040, jn_5390, jn_5400, jn_9999, jn_18688, jn_32400, jn_99999, jn_100000, jn_1000000, jn_858993459, jn_1431655765, jn_252645135, jl_0, jl_1, jl_2, jl_3, jl_8, jl_9, jl_10, jl_20, jl_27, jl_47, jl_96, jl_99, jl_100, jl_200, jl_555, jl_2000, jl_10000, jl_12345, jl_65536, jl_99999, jl_131638, jl_240023, jl_298288, jl_383153, jl_1306021, jl_1960084, jl_4147840, jl_8740238, jl_9872299, jl_175252482, jl_291595537, jl_1103515245, jl_2000000000, jl_2147483648, jl_4721686497, jl_7873079139, J_add, J_sub, J_mul, J_neg, JL_add, JL_sub, JL_mul, JL_neg, J_long, JL_int, ↓remI_fold, ↓remL_fold, Int.reduceAdd, Int.reduceSub, Int.reduceMul, Int.reduceNeg, Int.reduceToNat, Classical.not_not, em_t, Bp_eq0, Bp_eq1, Bp_01, Bp_mk, Bp_mk', Bp_0, Bp_0', Bp_1, Bp_1', if_true, if_false, ite_not, mp_0, mp_6, mp_7, mp_8, mp_9, mp_10, mp_11, mp_12, mp_13, mp_14, mp_15, mp_26, mp_30, mp_31, mp_35, mp_36, mp_37, mp_41, mp_43, mp_44, mp_45, M_isThrow hG' hv hi, M_isThrow hG' hv hk, Option.bind_some]
  by_cases h1 : (0 ≤ v ∧ v < cR C) ∧ 0 ≤ i ∧ i < cP C v.toNat
  case neg => simp only [if_neg h1]; exact ⟨_, rfl, hF, hG'⟩
  simp only [if_pos h1]
  by_cases h2 : (0 ≤ v ∧ v < cR C) ∧ 0 ≤ k ∧ k < cP C v.toNat
  case neg => simp only [if_neg h2]; exact ⟨_, rfl, hF, hG'⟩
  simp only [if_pos h2]
  by_cases h3 : i = k
  case pos => rw [if_pos (by rw [h3])]; simp only [if_pos h3]; exact ⟨_, rfl, hF, hG'⟩
  rw [if_neg (by rw [J_eq (by omega)]; exact h3)]
  simp only [if_neg h3]
  obtain ⟨r, hr⟩ : ∃ r : Nat, v = r := ⟨v.toNat, by omega⟩
  subst hr
  obtain ⟨i, hr⟩ : ∃ r : Nat, i = r := ⟨i.toNat, by omega⟩
  subst hr
  obtain ⟨k, hr⟩ : ∃ r : Nat, k = r := ⟨k.toNat, by omega⟩
  subst hr
  simp only [Int.toNat_natCast] at h1 h2 hP ⊢
  have e : (8 * (r : Int) + (i : Int)).toNat = 8 * r + i := by omega
  have e' : (8 * (r : Int) + (k : Int)).toNat = 8 * r + k := by omega
  have hr' : r < cR C := by omega
  have hH : ma S 10 (8 * r + i) = J (cH C r i) := gm_H hG hr' (show i < cP C r by omega)
  have hT : ma S 11 (8 * r + i) = J (cT C r i) := gm_T hG hr' (show i < cP C r by omega)
  have hH' : ma S 10 (8 * r + k) = J (cH C r k) := gm_H hG hr' (show k < cP C r by omega)
  have hT' : ma S 11 (8 * r + k) = J (cT C r k) := gm_T hG hr' (show k < cP C r by omega)
  have b1 := cH_le C r i
  have b2 := cH_le C r k
  have b3 := cT_le C r i
  have b4 := cT_le C r k
  have ra : ∀ S, aI 0 (emM o S w) (o + 10) (J (8 * (r : Int) + i)) = some (ma S 10 (8 * r + i)) := fun S => by rw [mr_10 o S w (by omega), e]
  have rb : ∀ S, aI 0 (emM o S w) (o + 10) (J (8 * (r : Int) + k)) = some (ma S 10 (8 * r + k)) := fun S => by rw [mr_10 o S w (by omega), e']
  have rc : ∀ S, aI 0 (emM o S w) (o + 11) (J (8 * (r : Int) + i)) = some (ma S 11 (8 * r + i)) := fun S => by rw [mr_11 o S w (by omega), e]
  have rd : ∀ S, aI 0 (emM o S w) (o + 11) (J (8 * (r : Int) + k)) = some (ma S 11 (8 * r + k)) := fun S => by rw [mr_11 o S w (by omega), e']
  have wa : ∀ S x, sI 0 (emM o S w) (o + 10) (J (8 * (r : Int) + i)) x = some (emM o (mSA S 10 (8 * r + i) x) w) := fun S x => by rw [mw_10 o S w x (by omega), e]
  have wb : ∀ S x, sI 0 (emM o S w) (o + 10) (J (8 * (r : Int) + k)) x = some (emM o (mSA S 10 (8 * r + k) x) w) := fun S x => by rw [mw_10 o S w x (by omega), e']
  have wc : ∀ S x, sI 0 (emM o S w) (o + 11) (J (8 * (r : Int) + i)) x = some (emM o (mSA S 11 (8 * r + i) x) w) := fun S x => by rw [mw_11 o S w x (by omega), e]
  have wd : ∀ S x, sI 0 (emM o S w) (o + 11) (J (8 * (r : Int) + k)) x = some (emM o (mSA S 11 (8 * r + k) x) w) := fun S x => by rw [mw_11 o S w x (by omega), e']
  have rp : ∀ S, aI 0 (emM o S w) (o + 9) (J (r : Int)) = some (ma S 9 r) := fun S => by rw [mr_9 o S w (by omega), Int.toNat_natCast]
  have rq : ∀ S, aI 0 (emM o S w) (o + 9) (J (r : Int)) = some (ma S 9 r) := fun S => by rw [mr_9 o S w (by omega), Int.toNat_natCast]
  have m1 : fX5_in N (emM o (mSI S 0 (J 0)) w) (JL ((cH C r k : Int) + k - i)) (JL 1) (JL 9) = some (Bp (1 ≤ (cH C r k : Int) + k - i ∧ (cH C r k : Int) + k - i ≤ 9)) := M_in (by omega)
  have m2 : fX5_in N (emM o (mSI S 0 (J 0)) w) (JL ((cH C r i : Int) + i - k)) (JL 1) (JL 9) = some (Bp (1 ≤ (cH C r i : Int) + i - k ∧ (cH C r i : Int) + i - k ≤ 9)) := M_in (by omega)
  have l1 : (J ((cH C r k : Int) + k - i)).toInt64 = JL ((cH C r k : Int) + k - i) := J_long (by omega)
  have l2 : (J ((cH C r i : Int) + i - k)).toInt64 = JL ((cH C r i : Int) + i - k) := J_long (by omega)
  simp only [jn_0, jn_1, jn_2, jn_3, jn_4, jn_5, jn_6, jn_8, jn_9, jn_10, jn_11, jn_12, jn_16, jn_20, jn_24, jn_30, jn_31, jn_32, jn_36, jn_48, jn_57, jn_59, jn_60, jn_63, jn_72, jn_73, jn_96, jn_97, jn_100, jn_122, jn_144, jn_200, jn_240, jn_288, jn_512, jn_840, jn_1200, jn_1600, jn_5040, jn_5390, jn_5400, jn_9999, jn_18688, jn_32400, jn_99999, jn_100000, jn_1000000, jn_858993459, jn_1431655765, jn_252645135, jl_0, jl_1, jl_2, jl_3, jl_8, jl_9, jl_10, jl_20, jl_27, jl_47, jl_96, jl_99, jl_100, jl_200, jl_555, jl_2000, jl_10000, jl_12345, jl_65536, jl_99999, jl_131638, jl_240023, jl_298288, jl_383153, jl_1306021, jl_1960084, jl_4147840, jl_8740238, jl_9872299, jl_175252482, jl_291595537, jl_1103515245, jl_2000000000, jl_2147483648, jl_4721686497, jl_7873079139, J_add, J_sub, J_mul, J_neg, JL_add, JL_sub, JL_mul, JL_neg, J_long, JL_int, ↓remI_fold, ↓remL_fold, Int.reduceAdd, Int.reduceSub, Int.reduceMul, Int.reduceNeg, Int.reduceToNat, Classical.not_not, em_t, Bp_eq0, Bp_eq1, Bp_01, Bp_mk, Bp_mk', Bp_0, Bp_0', Bp_1, Bp_1', if_true, if_false, ite_not, mg_19, mg_20, mg_21, ra, rb, rc, rd, rp, rq, wa, wb, wc, wd, mi_R, ml_R, ma_R, mb_R, mi_Q, ml_Q, ma_Q, mb_Q, mi_I, mi_L, mi_A, mi_B, ml_I, ml_L, ml_A, ml_B, ma_I, ma_L, ma_A, ma_B, mb_I, mb_L, mb_A, mb_B, Nat.reduceEqDiff, eq_self, if_true, if_false, reduceIte, Option.bind_some, hH, hT, hH', hT', m1, m2, l1, l2]
  by_cases h4 : cH C r i = 0
  case pos => rw [h4]; simp only [if_true]; exact ⟨_, rfl, hF, hG'⟩
  rw [if_neg (by rw [J_eq (by omega)]; omega)]
  simp only [if_neg h4]
  by_cases h5 : cH C r k = 0
  case pos => rw [h5]; simp only [if_true]; exact ⟨_, rfl, hF, hG'⟩
  rw [if_neg (by rw [J_eq (by omega)]; omega)]
  simp only [if_neg h5]
  by_cases h6 : 1 ≤ (cH C r k : Int) + k - i ∧ (cH C r k : Int) + k - i ≤ 9
  case neg => simp only [if_neg h6]; exact ⟨_, rfl, hF, hG'⟩
  simp only [if_pos h6]
  by_cases h7 : 1 ≤ (cH C r i : Int) + i - k ∧ (cH C r i : Int) + i - k ≤ 9
  case neg => simp only [if_neg h7]; exact ⟨_, rfl, hF, hG'⟩
  simp only [if_pos h7]
  refine ⟨mSw (mSI S 0 (J 0)) (8 * r + i) (8 * r + k) (J ((cH C r k : Int) + k - i)) (J ((cH C r i : Int) + i - k)) (J (cT C r k)) (J (cT C r i)), rfl, FrC_t hF (mSw_C _ (by omega) (by omega) _ _ _ _), ?_⟩
  refine GdM_row hG' hr' hP (gm_P hG' hr') (fun _ _ _ => by rw [mSw_o _ _ _ _ _ _ _ (by omega)]) (fun j hj => ?_) (fun q j hq hqr hj => ?_) (fun a ha => mSw_o _ _ _ _ _ _ _ (by omega))
  · unfold set1
    have h1 := cH_le C r j
    have h2 := cT_le C r j
    rw [mSw_10, mSw_11]
    by_cases hji : j = i
    · subst hji
      rw [if_pos rfl, if_pos rfl, upd_o _ _ (by omega), upd_s, upd_o _ _ (by omega), upd_s]
      exact ⟨by omega, b4, by congr 1; omega, rfl⟩
    · rw [if_neg hji, if_neg hji]
      by_cases hjk : j = k
      · subst hjk
        rw [if_pos rfl, if_pos rfl, upd_s, upd_s]
        exact ⟨by omega, b3, by congr 1; omega, rfl⟩
      · rw [if_neg hjk, if_neg hjk, upd_o _ _ (by omega), upd_o _ _ (by omega), upd_o _ _ (by omega), upd_o _ _ (by omega)]
        exact ⟨h1, h2, gm_H hG' hr' hj, gm_T hG' hr' hj⟩
  · rw [mSw_10, mSw_11, upd_o _ _ (by omega), upd_o _ _ (by omega), upd_o _ _ (by omega), upd_o _ _ (by omega)]
    exact ⟨rfl, rfl⟩
theorem M_exchange (hG : GdM S 0 C) (hN : 1000000 ≤ N) {v i u k : Int} (hv : -2147483648 ≤ v ∧ v ≤ 2147483647) (hi : -2147483648 ≤ i ∧ i ≤ 2147483647) (hu : -2147483648 ≤ u ∧ u ≤ 2147483647) (hk : -2147483648 ≤ k ∧ k ≤ 2147483647) : ∃ S', fX5_exchange N (emM o S w) o (J v) (J i) (J u) (J k) = some (J (sp_exchange C v i u k).1, emM o S' w) ∧ FrC S S' ∧ GdM S' 0 (sp_exchange C v i u k).2 := by
  have hG' : GdM (mSI S 0 (J 0)) 0 C := hG
  have hF := FrC_I0 S
  have hR := cR_le C
  have hP := cP_bd C v.toNat
  have hP' := cP_bd C u.toNat
  unfold fX5_exchange sp_exchange
  simp only [jn_0, jn_1, jn_2, jn_3, jn_4, jn_5, jn_6, jn_8, jn_9, jn_10, jn_11, jn_12, jn_16, jn_20, jn_24, jn_30, jn_31, jn_32, jn_36, jn_48, jn_57, jn_59, jn_60, jn_63, jn_72, jn_73, jn_96, jn_97, jn_100, jn_122, jn_144, jn_200, jn_240, jn_288, jn_512, jn_840, jn_1200, jn_1600, jn_5040, jn_5390, jn_5400, jn_9999, jn_18688, jn_32400, jn_99999, jn_100000, jn_1000000, jn_858993459, jn_1431655765, jn_252645135, jl_0, jl_1, jl_2, jl_3, jl_8, jl_9, jl_10, jl_20, jl_27, jl_47, jl_96, jl_99, jl_100, jl_200, jl_555, jl_2000, jl_10000, jl_12345, jl_65536, jl_99999, jl_131638, jl_240023, jl_298288, jl_383153, jl_1306021, jl_1960084, jl_4147840, jl_8740238, jl_9872299, jl_175252482, jl_291595537, jl_1103515245, jl_2000000000, jl_2147483648, jl_4721686497, jl_7873079139, J_add, J_sub, J_mul, J_neg, JL_add, JL_sub, JL_mul, JL_neg, J_long, JL_int, ↓remI_fold, ↓remL_fold, Int.reduceAdd, Int.reduceSub, Int.reduceMul, Int.reduceNeg, Int.reduceToNat, Classical.not_not, em_t, Bp_eq0, Bp_eq1, Bp_01, Bp_mk, Bp_mk', Bp_0, Bp_0', Bp_1, Bp_1', if_true, if_false, ite_not, mp_0, mp_6, mp_7, mp_8, mp_9, mp_10, mp_11, mp_12, mp_13, mp_14, mp_15, mp_26, mp_30, mp_31, mp_35, mp_36, mp_37, mp_41, mp_43, mp_44, mp_45, M_isThrow hG' hv hi, M_isThrow hG' hu hk, Option.bind_some]
  by_cases h1 : (0 ≤ v ∧ v < cR C) ∧ 0 ≤ i ∧ i < cP C v.toNat
  case neg => simp only [if_neg h1]; exact ⟨_, rfl, hF, hG'⟩
  simp only [if_pos h1]
  by_cases h2 : (0 ≤ u ∧ u < cR C) ∧ 0 ≤ k ∧ k < cP C u.toNat
  case neg => simp only [if_neg h2]; exact ⟨_, rfl, hF, hG'⟩
  simp only [if_pos h2]
  by_cases h3 : v = u
  case pos => rw [if_pos (by rw [h3])]; simp only [if_pos h3]; exact ⟨_, rfl, hF, hG'⟩
  rw [if_neg (by rw [J_eq (by omega)]; exact h3)]
  simp only [if_neg h3]
  obtain ⟨r, hr⟩ : ∃ r : Nat, v = r := ⟨v.toNat, by omega⟩
  subst hr
  obtain ⟨q, hr⟩ : ∃ r : Nat, u = r := ⟨u.toNat, by omega⟩
  subst hr
  obtain ⟨i, hr⟩ : ∃ r : Nat, i = r := ⟨i.toNat, by omega⟩
  subst hr
  obtain ⟨k, hr⟩ : ∃ r : Nat, k = r := ⟨k.toNat, by omega⟩
  subst hr
  simp only [Int.toNat_natCast] at h1 h2 hP hP' ⊢
  have e : (8 * (r : Int) + (i : Int)).toNat = 8 * r + i := by omega
  have e' : (8 * (q : Int) + (k : Int)).toNat = 8 * q + k := by omega
  have hr' : r < cR C := by omega
  have hq' : q < cR C := by omega
  have hrq : r ≠ q := by omega
  have hH : ma S 10 (8 * r + i) = J (cH C r i) := gm_H hG hr' (show i < cP C r by omega)
  have hT : ma S 11 (8 * r + i) = J (cT C r i) := gm_T hG hr' (show i < cP C r by omega)
  have hH' : ma S 10 (8 * q + k) = J (cH C q k) := gm_H hG hq' (show k < cP C q by omega)
  have hT' : ma S 11 (8 * q + k) = J (cT C q k) := gm_T hG hq' (show k < cP C q by omega)
  have hPr : ma S 9 r = J (cP C r) := gm_P hG hr'
  have hPq : ma S 9 q = J (cP C q) := gm_P hG hq'
  have b1 := cH_le C r i
  have b2 := cH_le C q k
  have b3 := cT_le C r i
  have b4 := cT_le C q k
  have ra : ∀ S, aI 0 (emM o S w) (o + 10) (J (8 * (r : Int) + i)) = some (ma S 10 (8 * r + i)) := fun S => by rw [mr_10 o S w (by omega), e]
  have rb : ∀ S, aI 0 (emM o S w) (o + 10) (J (8 * (q : Int) + k)) = some (ma S 10 (8 * q + k)) := fun S => by rw [mr_10 o S w (by omega), e']
  have rc : ∀ S, aI 0 (emM o S w) (o + 11) (J (8 * (r : Int) + i)) = some (ma S 11 (8 * r + i)) := fun S => by rw [mr_11 o S w (by omega), e]
  have rd : ∀ S, aI 0 (emM o S w) (o + 11) (J (8 * (q : Int) + k)) = some (ma S 11 (8 * q + k)) := fun S => by rw [mr_11 o S w (by omega), e']
  have wa : ∀ S x, sI 0 (emM o S w) (o + 10) (J (8 * (r : Int) + i)) x = some (emM o (mSA S 10 (8 * r + i) x) w) := fun S x => by rw [mw_10 o S w x (by omega), e]
  have wb : ∀ S x, sI 0 (emM o S w) (o + 10) (J (8 * (q : Int) + k)) x = some (emM o (mSA S 10 (8 * q + k) x) w) := fun S x => by rw [mw_10 o S w x (by omega), e']
  have wc : ∀ S x, sI 0 (emM o S w) (o + 11) (J (8 * (r : Int) + i)) x = some (emM o (mSA S 11 (8 * r + i) x) w) := fun S x => by rw [mw_11 o S w x (by omega), e]
  have wd : ∀ S x, sI 0 (emM o S w) (o + 11) (J (8 * (q : Int) + k)) x = some (emM o (mSA S 11 (8 * q + k) x) w) := fun S x => by rw [mw_11 o S w x (by omega), e']
  have rp : ∀ S, aI 0 (emM o S w) (o + 9) (J (r : Int)) = some (ma S 9 r) := fun S => by rw [mr_9 o S w (by omega), Int.toNat_natCast]
  have rq : ∀ S, aI 0 (emM o S w) (o + 9) (J (q : Int)) = some (ma S 9 q) := fun S => by rw [mr_9 o S w (by omega), Int.toNat_natCast]
  have m1 : fX5_in N (emM o (mSI S 0 (J 0)) w) (JL ((cH C q k : Int) + k - i)) (JL 1) (JL 9) = some (Bp (1 ≤ (cH C q k : Int) + k - i ∧ (cH C q k : Int) + k - i ≤ 9)) := M_in (by omega)
  have m2 : fX5_in N (emM o (mSI S 0 (J 0)) w) (JL ((cH C r i : Int) + i - k)) (JL 1) (JL 9) = some (Bp (1 ≤ (cH C r i : Int) + i - k ∧ (cH C r i : Int) + i - k ≤ 9)) := M_in (by omega)
  have l1 : (J ((cH C q k : Int) + k - i)).toInt64 = JL ((cH C q k : Int) + k - i) := J_long (by omega)
  have l2 : (J ((cH C r i : Int) + i - k)).toInt64 = JL ((cH C r i : Int) + i - k) := J_long (by omega)
  simp only [jn_0, jn_1, jn_2, jn_3, jn_4, jn_5, jn_6, jn_8, jn_9, jn_10, jn_11, jn_12, jn_16, jn_20, jn_24, jn_30, jn_31, jn_32, jn_36, jn_48, jn_57, jn_59, jn_60, jn_63, jn_72, jn_73, jn_96, jn_97, jn_100, jn_122, jn_144, jn_200, jn_240, jn_288, jn_512, jn_840, jn_1200, jn_1600, jn_5040, jn_5390, jn_5400, jn_9999, jn_18688, jn_32400, jn_99999, jn_100000, jn_1000000, jn_858993459, jn_1431655765, jn_252645135, jl_0, jl_1, jl_2, jl_3, jl_8, jl_9, jl_10, jl_20, jl_27, jl_47, jl_96, jl_99, jl_100, jl_200, jl_555, jl_2000, jl_10000, jl_12345, jl_65536, jl_99999, jl_131638, jl_240023, jl_298288, jl_383153, jl_1306021, jl_1960084, jl_4147840, jl_8740238, jl_9872299, jl_175252482, jl_291595537, jl_1103515245, jl_2000000000, jl_2147483648, jl_4721686497, jl_7873079139, J_add, J_sub, J_mul, J_neg, JL_add, JL_sub, JL_mul, JL_neg, J_long, JL_int, ↓remI_fold, ↓remL_fold, Int.reduceAdd, Int.reduceSub, Int.reduceMul, Int.reduceNeg, Int.reduceToNat, Classical.not_not, em_t, Bp_eq0, Bp_eq1, Bp_01, Bp_mk, Bp_mk', Bp_0, Bp_0', Bp_1, Bp_1', if_true, if_false, ite_not, mg_19, mg_20, mg_21, ra, rb, rc, rd, rp, rq, wa, wb, wc, wd, mi_R, ml_R, ma_R, mb_R, mi_Q, ml_Q, ma_Q, mb_Q, mi_I, mi_L, mi_A, mi_B, ml_I, ml_L, ml_A, ml_B, ma_I, ma_L, ma_A, ma_B, mb_I, mb_L, mb_A, mb_B, Nat.reduceEqDiff, eq_self, if_true, if_false, reduceIte, Option.bind_some, hH, hT, hH', hT', hPr, hPq, m1, m2, l1, l2]
  by_cases h8 : cP C r = cP C q
  case neg => rw [if_neg (by rw [J_eq (by omega)]; omega)]; simp only [if_neg h8]; exact ⟨_, rfl, hF, hG'⟩
  rw [if_pos (by rw [h8])]
  simp only [if_pos h8]
  by_cases h4 : cH C r i = 0
  case pos => rw [h4]; simp only [if_true]; exact ⟨_, rfl, hF, hG'⟩
  rw [if_neg (by rw [J_eq (by omega)]; omega)]
  simp only [if_neg h4]
  by_cases h5 : cH C q k = 0
  case pos => rw [h5]; simp only [if_true]; exact ⟨_, rfl, hF, hG'⟩
  rw [if_neg (by rw [J_eq (by omega)]; omega)]
  simp only [if_neg h5]
  by_cases h6 : 1 ≤ (cH C q k : Int) + k - i ∧ (cH C q k : Int) + k - i ≤ 9
  case neg => simp only [if_neg h6]; exact ⟨_, rfl, hF, hG'⟩
  simp only [if_pos h6]
  by_cases h7 : 1 ≤ (cH C r i : Int) + i - k ∧ (cH C r i : Int) + i - k ≤ 9
  case neg => simp only [if_neg h7]; exact ⟨_, rfl, hF, hG'⟩
  simp only [if_pos h7]
  refine ⟨mSw (mSI S 0 (J 0)) (8 * r + i) (8 * q + k) (J ((cH C q k : Int) + k - i)) (J ((cH C r i : Int) + i - k)) (J (cT C q k)) (J (cT C r i)), rfl, FrC_t hF (mSw_C _ (by omega) (by omega) _ _ _ _), ?_⟩
  have g1 := GdM_th hG' hq' (show k < cP C q by omega) (h := ((cH C r i : Int) + i - k).toNat) (t := cT C r i) (by omega) b3
  have hr2 : r < cR (cRow C q (cP C q) (set1 (cH C q) k ((cH C r i : Int) + i - k).toNat) (set1 (cT C q) k (cT C r i))) := hr'
  refine GdM_row g1 hr2 hP ?_ (fun p hp hpr => by rw [mSw_o _ _ _ _ _ _ _ (by omega)]; rfl) (fun j hj => ?_) (fun p j hp hpr hj => ?_) (fun a ha => ?_)
  · rw [mSw_o _ _ _ _ _ _ _ (by omega)]; exact hPr
  · unfold set1
    have h1 := cH_le C r j
    have h2 := cT_le C r j
    rw [mSw_10, mSw_11]
    by_cases hji : j = i
    · subst hji
      rw [if_pos rfl, if_pos rfl, upd_o _ _ (by omega), upd_s, upd_o _ _ (by omega), upd_s]
      exact ⟨by omega, b4, by congr 1; omega, rfl⟩
    · rw [if_neg hji, if_neg hji, upd_o _ _ (by omega), upd_o _ _ (by omega), upd_o _ _ (by omega), upd_o _ _ (by omega)]
      exact ⟨h1, h2, gm_H hG' hr' hj, gm_T hG' hr' hj⟩
  · rw [mSw_10, mSw_11, mTh_10, mTh_11]
    by_cases hpq : 8 * p + j = 8 * q + k
    · rw [hpq, upd_s, upd_s, upd_s, upd_s]
      exact ⟨by congr 1; omega, rfl⟩
    · have hpr' : 8 * p + j ≠ 8 * r + i := by omega
      exact ⟨by rw [upd_o _ _ hpq, upd_o _ _ hpr', upd_o _ _ hpq], by rw [upd_o _ _ hpq, upd_o _ _ hpr', upd_o _ _ hpq]⟩
  · rw [mSw_o _ _ _ _ _ _ _ (by omega)]
    unfold mTh
    rw [ma_A, if_neg (by omega), ma_A, if_neg (by omega)]
theorem mSA_Rc (S : MS) {a b : Nat} (h : a ≠ b) (g : Nat → Int32) (i : Nat) (x : Int32) : mSA (mSR S b g) a i x = mSR (mSA S a i x) b g := by
  unfold mSA mSR
  refine Prod.ext rfl (Prod.ext rfl (Prod.ext (funext fun j => ?_) rfl))
  simp only
  by_cases h1 : j = a
  · by_cases h2 : j = b
    · omega
    · simp [h1, h]
  · by_cases h2 : j = b
    · subst h2; simp [h1]
    · simp [h1, h2]
/-- what the first part of a shift lays aside -/
def mS1 (S : MS) (r i : Nat) : MS := mSR (mSR S 17 (fun j => if j < i then ma S 10 (8 * r + j) else ma S 17 j)) 18 (fun j => if j < i then ma S 11 (8 * r + j) else ma S 18 j)
theorem mS1_0 (S : MS) (r : Nat) : mS1 S r 0 = S := by
  unfold mS1
  have e1 : (fun j => if j < 0 then ma S 10 (8 * r + j) else ma S 17 j) = ma S 17 := by funext j; rw [if_neg (by omega)]
  have e2 : (fun j => if j < 0 then ma S 11 (8 * r + j) else ma S 18 j) = ma S 18 := by funext j; rw [if_neg (by omega)]
  rw [e1, e2, mSR_id, mSR_id]
theorem lt_upd (f g : Nat → Int32) (i : Nat) : upd (fun j => if j < i then f j else g j) i (f i) = fun j => if j < i + 1 then f j else g j := by
  funext j
  unfold upd
  by_cases h : j = i
  · rw [if_pos h, if_pos (by omega), h]
  · rw [if_neg h]
    simp only
    by_cases h2 : j < i
    · rw [if_pos h2, if_pos (by omega)]
    · rw [if_neg h2, if_neg (by omega)]
theorem mS1_s (S : MS) (r i : Nat) : mSA (mSA (mS1 S r i) 17 i (ma S 10 (8 * r + i))) 18 i (ma S 11 (8 * r + i)) = mS1 S r (i + 1) := by
  unfold mS1
  rw [mSA_Rc _ (by decide), mSA_R, mSA_R, lt_upd (fun j => ma S 10 (8 * r + j)), lt_upd (fun j => ma S 11 (8 * r + j))]
theorem mS1_9 (S : MS) (r i a : Nat) (h : a ≠ 17 ∧ a ≠ 18) : ma (mS1 S r i) a = ma S a := by
  unfold mS1
  rw [ma_R, if_neg h.2, ma_R, if_neg h.1]
theorem M_sh19 (hG : GdM S 0 C) {r : Nat} (hr : r < cR C) (y : Int32) (k : Wd → Option (Int32 × Wd)) {n : Nat} (hn : 8 < n) : fX5_shift_19 N o (J r) y k n (J 0) (emM o S w) = k (emM o (mS1 S r (cP C r)) w) := by
  have hR := cR_le C
  have hP := cP_bd C r
  have rp : ∀ S, aI 0 (emM o S w) (o + 9) (J (r : Int)) = some (ma S 9 r) := fun S => by rw [mr_9 o S w (by omega), Int.toNat_natCast]
  have key := lp_cnt (fun n i => fX5_shift_19 N o (J r) y k n (J (i : Int)) (emM o (mS1 S r i) w)) (k (emM o (mS1 S r (cP C r)) w)) (cP C r) ?_ ?_ n (by omega)
  · rw [mS1_0] at key
    exact key
  · intro n i hi
    try dsimp only
    have e : (8 * (r : Int) + (i : Int)).toNat = 8 * r + i := by omega
    have e10 : ma (mS1 S r i) 10 = ma S 10 := mS1_9 _ _ _ _ (by decide)
    have e11 : ma (mS1 S r i) 11 = ma S 11 := mS1_9 _ _ _ _ (by decide)
    rw [fX5_shift_19]
    simp (disch := omega) only [jn_0, jn_1, jn_2, jn_3, jn_4, jn_5, jn_6, jn_8, jn_9, jn_10, jn_11, jn_12, jn_16, jn_20, jn_24, jn_30, jn_31, jn_32, jn_36, jn_48, jn_57, jn_59, jn_60, jn_63, jn_72, jn_73, jn_96, jn_97, jn_100, jn_122, jn_144, jn_200, jn_240, jn_288, jn_512, jn_840, jn_1200, jn_1600, jn_5040, jn_5390, jn_5400, jn_9999, jn_18688, jn_32400, jn_99999, jn_100000, jn_1000000, jn_858993459, jn_1431655765, jn_252645135, jl_0, jl_1, jl_2, jl_3, jl_8, jl_9, jl_10, jl_20, jl_27, jl_47, jl_96, jl_99, jl_100, jl_200, jl_555, jl_2000, jl_10000, jl_12345, jl_65536, jl_99999, jl_131638, jl_240023, jl_298288, jl_383153, jl_1306021, jl_1960084, jl_4147840, jl_8740238, jl_9872299, jl_175252482, jl_291595537, jl_1103515245, jl_2000000000, jl_2147483648, jl_4721686497, jl_7873079139, J_add, J_sub, J_mul, J_neg, JL_add, JL_sub, JL_mul, JL_neg, J_long, JL_int, ↓remI_fold, ↓remL_fold, Int.reduceAdd, Int.reduceSub, Int.reduceMul, Int.reduceNeg, Int.reduceToNat, mg_19, rp, mS1_9 S r _ 9 (by decide), gm_P hG hr, J_le, castS, Option.bind_some, mg_0, mg_1, mg_2, mg_3, mg_4, mg_5, mg_6, mg_7, mg_8, mg_9, mg_10, mg_11, mg_12, mg_13, mg_14, mg_15, mg_16, mg_17, mg_18, mg_19, mg_20, mg_21, mg_22, mg_23, mg_24, mg_25, mg_26, mg_27, mg_28, mg_29, mg_30, mg_31, mg_32, mg_33, mg_34, mg_35, mg_36, mg_37, mg_38, mg_39, mg_40, mg_41, mg_42, mg_43, mg_44, mg_45, mr_10, mr_11, mw_17, mw_18, e, e10, e11, Int.toNat_natCast, mi_R, ml_R, ma_R, mb_R, mi_Q, ml_Q, ma_Q, mb_Q, mi_I, mi_L, mi_A, mi_B, ml_I, ml_L, ml_A, ml_B, ma_I, ma_L, ma_A, ma_B, mb_I, mb_L, mb_A, mb_B, Nat.reduceEqDiff, eq_self, if_true, if_false, reduceIte]
    rw [if_neg (by omega), mS1_s]
  · intro n
    try dsimp only
    rw [fX5_shift_19]
    simp (disch := omega) only [jn_0, jn_1, jn_2, jn_3, jn_4, jn_5, jn_6, jn_8, jn_9, jn_10, jn_11, jn_12, jn_16, jn_20, jn_24, jn_30, jn_31, jn_32, jn_36, jn_48, jn_57, jn_59, jn_60, jn_63, jn_72, jn_73, jn_96, jn_97, jn_100, jn_122, jn_144, jn_200, jn_240, jn_288, jn_512, jn_840, jn_1200, jn_1600, jn_5040, jn_5390, jn_5400, jn_9999, jn_18688, jn_32400, jn_99999, jn_100000, jn_1000000, jn_858993459, jn_1431655765, jn_252645135, jl_0, jl_1, jl_2, jl_3, jl_8, jl_9, jl_10, jl_20, jl_27, jl_47, jl_96, jl_99, jl_100, jl_200, jl_555, jl_2000, jl_10000, jl_12345, jl_65536, jl_99999, jl_131638, jl_240023, jl_298288, jl_383153, jl_1306021, jl_1960084, jl_4147840, jl_8740238, jl_9872299, jl_175252482, jl_291595537, jl_1103515245, jl_2000000000, jl_2147483648, jl_4721686497, jl_7873079139, J_add, J_sub, J_mul, J_neg, JL_add, JL_sub, JL_mul, JL_neg, J_long, JL_int, ↓remI_fold, ↓remL_fold, Int.reduceAdd, Int.reduceSub, Int.reduceMul, Int.reduceNeg, Int.reduceToNat, mg_19, rp, mS1_9 S r _ 9 (by decide), gm_P hG hr, J_le, castS, Option.bind_some]
    rw [if_pos (by omega)]
/-- what the second part of a shift lays -/
def mS2 (S : MS) (r i : Nat) (f g : Nat → Int32) : MS := mSR (mSR S 10 (fun p => if p < 8 * r + i then (if 8 * r ≤ p then f (p - 8 * r) else ma S 10 p) else ma S 10 p)) 11 (fun p => if p < 8 * r + i then (if 8 * r ≤ p then g (p - 8 * r) else ma S 11 p) else ma S 11 p)
theorem mS2_0 (S : MS) (r : Nat) (f g : Nat → Int32) : mS2 S r 0 f g = S := by
  unfold mS2
  have e1 : (fun p => if p < 8 * r + 0 then (if 8 * r ≤ p then f (p - 8 * r) else ma S 10 p) else ma S 10 p) = ma S 10 := by
    funext p
    by_cases h : p < 8 * r + 0
    · rw [if_pos h, if_neg (by omega)]
    · rw [if_neg h]
  have e2 : (fun p => if p < 8 * r + 0 then (if 8 * r ≤ p then g (p - 8 * r) else ma S 11 p) else ma S 11 p) = ma S 11 := by
    funext p
    by_cases h : p < 8 * r + 0
    · rw [if_pos h, if_neg (by omega)]
    · rw [if_neg h]
  rw [e1, e2, mSR_id, mSR_id]
theorem lt_upd2 (f h : Nat → Int32) (r i : Nat) : upd (fun p => if p < 8 * r + i then (if 8 * r ≤ p then f (p - 8 * r) else h p) else h p) (8 * r + i) (f i) = fun p => if p < 8 * r + (i + 1) then (if 8 * r ≤ p then f (p - 8 * r) else h p) else h p := by
  funext p
  unfold upd
  by_cases e : p = 8 * r + i
  · rw [if_pos e, if_pos (by omega), if_pos (by omega), e, Nat.add_sub_cancel_left]
  · rw [if_neg e]
    simp only
    by_cases h2 : p < 8 * r + i
    · rw [if_pos h2, if_pos (show p < 8 * r + (i + 1) by omega)]
    · rw [if_neg h2, if_neg (show ¬ p < 8 * r + (i + 1) by omega)]
theorem mS2_s (S : MS) (r i : Nat) (f g : Nat → Int32) : mSA (mSA (mS2 S r i f g) 10 (8 * r + i) (f i)) 11 (8 * r + i) (g i) = mS2 S r (i + 1) f g := by
  unfold mS2
  rw [mSA_Rc _ (by decide), mSA_R, mSA_R, lt_upd2, lt_upd2]
theorem mS2_9 (S : MS) (r i a : Nat) (f g : Nat → Int32) (h : a ≠ 10 ∧ a ≠ 11) : ma (mS2 S r i f g) a = ma S a := by
  unfold mS2
  rw [ma_R, if_neg h.2, ma_R, if_neg h.1]
theorem mS2_C (S : MS) {r i : Nat} (hr : r < 6) (hi : i ≤ 8) (f g : Nat → Int32) : FrC S (mS2 S r i f g) := by
  refine ⟨fun a ha => mS2_9 _ _ _ _ _ _ (by omega), fun a j h1 h2 h3 h4 => ?_, rfl, rfl, rfl, rfl⟩
  by_cases h10 : a = 10
  · subst h10
    have hb : bdS.getD 10 0 = 48 := rfl
    unfold mS2
    rw [ma_R, if_neg (by decide), ma_R, if_pos rfl, if_neg (by omega)]
  · by_cases h11 : a = 11
    · subst h11
      have hb : bdS.getD 11 0 = 48 := rfl
      unfold mS2
      rw [ma_R, if_pos rfl, if_neg (by omega)]
    · rw [mS2_9 _ _ _ _ _ _ ⟨h10, h11⟩]
theorem mS2_G (hG : GdM S 0 C) {r n : Nat} (hr : r < cR C) (h9 : ma S 9 r = J n) (hn : 1 ≤ n ∧ n ≤ 8) {H T : Nat → Nat} {f g : Nat → Int32} (hf : ∀ i, i < n → H i ≤ 9 ∧ T i ≤ 5 ∧ f i = J (H i) ∧ g i = J (T i)) (S0 : MS) (hG0 : GdM S0 0 C) (h0 : ∀ a, a ≠ 9 → ma S a = ma S0 a) (h1 : ∀ q, q ≠ r → ma S 9 q = ma S0 9 q) : GdM (mS2 S r n f g) 0 (cRow C r n H T) := by
  have hR := cR_le C
  refine GdM_row hG0 hr hn ?_ (fun q hq hqr => ?_) (fun j hj => ?_) (fun q j hq hqr hj => ?_) (fun a ha => ?_)
  · rw [mS2_9 _ _ _ _ _ _ (by decide)]; exact h9
  · rw [mS2_9 _ _ _ _ _ _ (by decide)]; exact h1 q hqr
  · have ⟨a, b, c, d⟩ := hf j hj
    unfold mS2
    refine ⟨a, b, ?_, ?_⟩
    · rw [ma_R, if_neg (by decide), ma_R, if_pos rfl, if_pos (by omega), if_pos (by omega), Nat.add_sub_cancel_left]; exact c
    · rw [ma_R, if_pos rfl, if_pos (by omega), if_pos (by omega), Nat.add_sub_cancel_left]; exact d
  · unfold mS2
    refine ⟨?_, ?_⟩
    · rw [ma_R, if_neg (by decide), ma_R, if_pos rfl, ← h0 10 (by decide)]
      by_cases h : 8 * q + j < 8 * r + n
      · rw [if_pos h, if_neg (by omega)]
      · rw [if_neg h]
    · rw [ma_R, if_pos rfl, ← h0 11 (by decide)]
      by_cases h : 8 * q + j < 8 * r + n
      · rw [if_pos h, if_neg (by omega)]
      · rw [if_neg h]
  · rw [mS2_9 _ _ _ _ _ _ (by omega)]; exact h0 a (by omega)
theorem FrC_R (S : MS) (a : Nat) (f : Nat → Int32) (h : 17 ≤ a) : FrC S (mSR S a f) := FrM_C (FrM_R S a f h)
theorem M_shift (hG : GdM S 0 C) (hN : 1000000 ≤ N) {v n : Int} (hv : -2147483648 ≤ v ∧ v ≤ 2147483647) (hn : -2147483648 ≤ n ∧ n ≤ 2147483647) : ∃ S', fX5_shift N (emM o S w) o (J v) (J n) = some (J (sp_shift C v n).1, emM o S' w) ∧ FrC S S' ∧ GdM S' 0 (sp_shift C v n).2 := by
  have hG' : GdM (mSI S 0 (J 0)) 0 C := hG
  have hF := FrC_I0 S
  have hR := cR_le C
  have hP := cP_bd C v.toNat
  unfold fX5_shift sp_shift
  simp only [jn_0, jn_1, jn_2, jn_3, jn_4, jn_5, jn_6, jn_8, jn_9, jn_10, jn_11, jn_12, jn_16, jn_20, jn_24, jn_30, jn_31, jn_32, jn_36, jn_48, jn_57, jn_59, jn_60, jn_63, jn_72, jn_73, jn_96, jn_97, jn_100, jn_122, jn_144, jn_200, jn_240, jn_288, jn_512, jn_840, jn_1200, jn_1600, jn_5040, jn_5390, jn_5400, jn_9999, jn_18688, jn_32400, jn_99999, jn_100000, jn_1000000, jn_858993459, jn_1431655765, jn_252645135, jl_0, jl_1, jl_2, jl_3, jl_8, jl_9, jl_10, jl_20, jl_27, jl_47, jl_96, jl_99, jl_100, jl_200, jl_555, jl_2000, jl_10000, jl_12345, jl_65536, jl_99999, jl_131638, jl_240023, jl_298288, jl_383153, jl_1306021, jl_1960084, jl_4147840, jl_8740238, jl_9872299, jl_175252482, jl_291595537, jl_1103515245, jl_2000000000, jl_2147483648, jl_4721686497, jl_7873079139, J_add, J_sub, J_mul, J_neg, JL_add, JL_sub, JL_mul, JL_neg, J_long, JL_int, ↓remI_fold, ↓remL_fold, Int.reduceAdd, Int.reduceSub, Int.reduceMul, Int.reduceNeg, Int.reduceToNat, Classical.not_not, em_t, Bp_eq0, Bp_eq1, Bp_01, Bp_mk, Bp_mk', Bp_0, Bp_0', Bp_1, Bp_1', if_true, if_false, ite_not, mp_0, mp_6, mp_7, mp_8, mp_9, mp_10, mp_11, mp_12, mp_13, mp_14, mp_15, mp_26, mp_30, mp_31, mp_35, mp_36, mp_37, mp_41, mp_43, mp_44, mp_45, M_isThrow hG' hv hn, Option.bind_some]
  by_cases h1 : (0 ≤ v ∧ v < cR C) ∧ 0 ≤ n ∧ n < cP C v.toNat
  case neg => simp only [if_neg h1]; exact ⟨_, rfl, hF, hG'⟩
  simp only [if_pos h1]
  obtain ⟨r, hr⟩ : ∃ r : Nat, v = r := ⟨v.toNat, by omega⟩
  subst hr
  obtain ⟨m, hr⟩ : ∃ r : Nat, n = r := ⟨n.toNat, by omega⟩
  subst hr
  simp only [Int.toNat_natCast] at h1 hP ⊢
  have hr' : r < cR C := by omega
  rw [M_sh19 hG' hr' _ _ (by omega)]
  have hF1 : FrC S (mS1 (mSI S 0 (J 0)) r (cP C r)) := FrC_t hF (FrC_t (FrC_R _ 17 _ (by decide)) (FrC_R _ 18 _ (by decide)))
  have hU : ∀ a, a ≠ 17 ∧ a ≠ 18 → ma (mS1 (mSI S 0 (J 0)) r (cP C r)) a = ma S a := fun a ha => mS1_9 _ _ _ _ ha
  have hG1 : GdM (mS1 (mSI S 0 (J 0)) r (cP C r)) 0 C := by
    unfold GdM
    rw [hU 6 (by decide), hU 7 (by decide), hU 8 (by decide), hU 9 (by decide), hU 10 (by decide), hU 11 (by decide), hU 12 (by decide), hU 13 (by decide), hU 14 (by decide), hU 15 (by decide)]
    exact hG
  have q17 : ∀ j, j < cP C r → ma (mS1 (mSI S 0 (J 0)) r (cP C r)) 17 j = J (cH C r j) := by
    intro j hj
    unfold mS1
    rw [ma_R, if_neg (by decide), ma_R, if_pos rfl, if_pos hj]; exact gm_H hG' hr' hj
  have q18 : ∀ j, j < cP C r → ma (mS1 (mSI S 0 (J 0)) r (cP C r)) 18 j = J (cT C r j) := by
    intro j hj
    unfold mS1
    rw [ma_R, if_pos rfl, if_pos hj]; exact gm_T hG' hr' hj
  generalize mS1 (mSI S 0 (J 0)) r (cP C r) = U at *
  refine ⟨mS2 U r (cP C r) (fun i => J (cH C r ((i + m) % cP C r))) (fun i => J (cT C r ((i + m) % cP C r))), ?_, FrC_t hF1 (mS2_C U (by omega) (by omega) _ _), mS2_G hG1 hr' (gm_P hG1 hr') hP (fun i hi => ⟨cH_le _ _ _, cT_le _ _ _, rfl, rfl⟩) U hG1 (fun _ _ => rfl) (fun _ _ => rfl)⟩
  have rp : ∀ S, aI 0 (emM o S w) (o + 9) (J (r : Int)) = some (ma S 9 r) := fun S => by rw [mr_9 o S w (by omega), Int.toNat_natCast]
  have key := lp_cnt (fun n i => fX5_shift_71 N o (J r) (J m) (fun w30 => (gR w30 [5] o 19).bind fun x31 => (aI 0 w30 x31 (J r)).bind fun x32 => some (x32, w30)) n (J (i : Int)) (emM o (mS2 U r i (fun i => J (cH C r ((i + m) % cP C r))) (fun i => J (cT C r ((i + m) % cP C r)))) w)) (some (J (cP C r), emM o (mS2 U r (cP C r) (fun i => J (cH C r ((i + m) % cP C r))) (fun i => J (cT C r ((i + m) % cP C r)))) w)) (cP C r) ?_ ?_ N (by omega)
  · rw [mS2_0] at key
    exact key
  · intro n i hi
    try dsimp only
    have e : (8 * (r : Int) + (i : Int)).toNat = 8 * r + i := by omega
    have hm := Nat.mod_lt (i + m) (show cP C r > 0 by omega)
    have em : ((i : Int) + (m : Int)) % (cP C r : Int) = (((i + m) % cP C r : Nat) : Int) := by rw [Int.natCast_emod, Int.natCast_add]
    have r17 : ∀ S : MS, (∀ j, j < cP C r → ma S 17 j = J (cH C r j)) → aI 0 (emM o S w) (o + 17) (J (((i + m) % cP C r : Nat) : Int)) = some (J (cH C r ((i + m) % cP C r))) := fun S hS => by rw [mr_17 o S w (by omega), Int.toNat_natCast, hS _ hm]
    have r18 : ∀ S : MS, (∀ j, j < cP C r → ma S 18 j = J (cT C r j)) → aI 0 (emM o S w) (o + 18) (J (((i + m) % cP C r : Nat) : Int)) = some (J (cT C r ((i + m) % cP C r))) := fun S hS => by rw [mr_18 o S w (by omega), Int.toNat_natCast, hS _ hm]
    rw [fX5_shift_71]
    simp (disch := omega) only [jn_0, jn_1, jn_2, jn_3, jn_4, jn_5, jn_6, jn_8, jn_9, jn_10, jn_11, jn_12, jn_16, jn_20, jn_24, jn_30, jn_31, jn_32, jn_36, jn_48, jn_57, jn_59, jn_60, jn_63, jn_72, jn_73, jn_96, jn_97, jn_100, jn_122, jn_144, jn_200, jn_240, jn_288, jn_512, jn_840, jn_1200, jn_1600, jn_5040, jn_5390, jn_5400, jn_9999, jn_18688, jn_32400, jn_99999, jn_100000, jn_1000000, jn_858993459, jn_1431655765, jn_252645135, jl_0, jl_1, jl_2, jl_3, jl_8, jl_9, jl_10, jl_20, jl_27, jl_47, jl_96, jl_99, jl_100, jl_200, jl_555, jl_2000, jl_10000, jl_12345, jl_65536, jl_99999, jl_131638, jl_240023, jl_298288, jl_383153, jl_1306021, jl_1960084, jl_4147840, jl_8740238, jl_9872299, jl_175252482, jl_291595537, jl_1103515245, jl_2000000000, jl_2147483648, jl_4721686497, jl_7873079139, J_add, J_sub, J_mul, J_neg, JL_add, JL_sub, JL_mul, JL_neg, J_long, JL_int, ↓remI_fold, ↓remL_fold, Int.reduceAdd, Int.reduceSub, Int.reduceMul, Int.reduceNeg, Int.reduceToNat, mg_19, rp, mS2_9 U r _ 9 _ _ (by decide), gm_P hG1 hr', J_le, castS, Option.bind_some]
    rw [if_neg (by omega)]
    simp (disch := omega) only [mg_0, mg_1, mg_2, mg_3, mg_4, mg_5, mg_6, mg_7, mg_8, mg_9, mg_10, mg_11, mg_12, mg_13, mg_14, mg_15, mg_16, mg_17, mg_18, mg_19, mg_20, mg_21, mg_22, mg_23, mg_24, mg_25, mg_26, mg_27, mg_28, mg_29, mg_30, mg_31, mg_32, mg_33, mg_34, mg_35, mg_36, mg_37, mg_38, mg_39, mg_40, mg_41, mg_42, mg_43, mg_44, mg_45, J_eq, J_rem, em, Option.bind_some]
    rw [if_neg (by omega), r17 _ (fun j hj => by rw [mS2_9 _ _ _ _ _ _ (by decide)]; exact q17 j hj), Option.bind_some, mw_10 o _ w _ (by omega), Option.bind_some, e]
    simp (disch := omega) only [mg_0, mg_1, mg_2, mg_3, mg_4, mg_5, mg_6, mg_7, mg_8, mg_9, mg_10, mg_11, mg_12, mg_13, mg_14, mg_15, mg_16, mg_17, mg_18, mg_19, mg_20, mg_21, mg_22, mg_23, mg_24, mg_25, mg_26, mg_27, mg_28, mg_29, mg_30, mg_31, mg_32, mg_33, mg_34, mg_35, mg_36, mg_37, mg_38, mg_39, mg_40, mg_41, mg_42, mg_43, mg_44, mg_45, rp, mi_R, ml_R, ma_R, mb_R, mi_Q, ml_Q, ma_Q, mb_Q, mi_I, mi_L, mi_A, mi_B, ml_I, ml_L, ml_A, ml_B, ma_I, ma_L, ma_A, ma_B, mb_I, mb_L, mb_A, mb_B, Nat.reduceEqDiff, eq_self, if_true, if_false, reduceIte, mS2_9 U r _ 9 _ _ (by decide), gm_P hG1 hr', J_eq, J_rem, em, Option.bind_some]
    rw [if_neg (by omega), r18 _ (fun j hj => by rw [ma_A, if_neg (by decide), mS2_9 _ _ _ _ _ _ (by decide)]; exact q18 j hj), Option.bind_some, mw_11 o _ w _ (by omega), Option.bind_some, e]
    have := mS2_s U r i (fun i => J (cH C r ((i + m) % cP C r))) (fun i => J (cT C r ((i + m) % cP C r)))
    rw [this]
  · intro n
    try dsimp only
    rw [fX5_shift_71]
    simp (disch := omega) only [jn_0, jn_1, jn_2, jn_3, jn_4, jn_5, jn_6, jn_8, jn_9, jn_10, jn_11, jn_12, jn_16, jn_20, jn_24, jn_30, jn_31, jn_32, jn_36, jn_48, jn_57, jn_59, jn_60, jn_63, jn_72, jn_73, jn_96, jn_97, jn_100, jn_122, jn_144, jn_200, jn_240, jn_288, jn_512, jn_840, jn_1200, jn_1600, jn_5040, jn_5390, jn_5400, jn_9999, jn_18688, jn_32400, jn_99999, jn_100000, jn_1000000, jn_858993459, jn_1431655765, jn_252645135, jl_0, jl_1, jl_2, jl_3, jl_8, jl_9, jl_10, jl_20, jl_27, jl_47, jl_96, jl_99, jl_100, jl_200, jl_555, jl_2000, jl_10000, jl_12345, jl_65536, jl_99999, jl_131638, jl_240023, jl_298288, jl_383153, jl_1306021, jl_1960084, jl_4147840, jl_8740238, jl_9872299, jl_175252482, jl_291595537, jl_1103515245, jl_2000000000, jl_2147483648, jl_4721686497, jl_7873079139, J_add, J_sub, J_mul, J_neg, JL_add, JL_sub, JL_mul, JL_neg, J_long, JL_int, ↓remI_fold, ↓remL_fold, Int.reduceAdd, Int.reduceSub, Int.reduceMul, Int.reduceNeg, Int.reduceToNat, mg_19, rp, mS2_9 U r _ 9 _ _ (by decide), gm_P hG1 hr', J_le, castS, Option.bind_some]
    rw [if_pos (by omega)]
end
