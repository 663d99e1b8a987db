/-! the reference: the wind -/
set_option maxRecDepth 100000
def mWn (S : MS) (s : Wn) (f : Nat → Int32) : MS := mSR (mSI (mSI (mSI (mSL S 41 (JL s.1)) 43 (J s.2.1)) 44 (J s.2.2.1)) 45 (J s.2.2.2.1)) 25 f
section
variable {N o : Nat} {S : MS} {w : Wd} {C : Cy}
theorem mWn_41 (S : MS) (s : Wn) (f : Nat → Int32) : ml (mWn S s f) 41 = JL s.1 := rfl
theorem mWn_43 (S : MS) (s : Wn) (f : Nat → Int32) : mi (mWn S s f) 43 = J s.2.1 := rfl
theorem mWn_44 (S : MS) (s : Wn) (f : Nat → Int32) : mi (mWn S s f) 44 = J s.2.2.1 := rfl
theorem mWn_45 (S : MS) (s : Wn) (f : Nat → Int32) : mi (mWn S s f) 45 = J s.2.2.2.1 := rfl
theorem mWn_25 (S : MS) (s : Wn) (f : Nat → Int32) : ma (mWn S s f) 25 = f := rfl
theorem mWn_a (S : MS) (s : Wn) (f : Nat → Int32) {a : Nat} (h : a ≠ 25) : ma (mWn S s f) a = ma S a := by unfold mWn; rw [ma_R, if_neg h]; rfl
theorem mWn_s41 (S : MS) (s : Wn) (f : Nat → Int32) (x : Int) : mSL (mWn S s f) 41 (JL x) = mWn S (x, s.2) f := by
  unfold mWn mSL mSI mSR
  refine Prod.ext rfl (Prod.ext (funext fun j => ?_) rfl)
  simp only
  by_cases h : j = 41 <;> simp [h]
theorem mWn_s43 (S : MS) (s : Wn) (f : Nat → Int32) (x : Int) : mSI (mWn S s f) 43 (J x) = mWn S (s.1, x, s.2.2) f := by
  unfold mWn mSL mSI mSR
  refine Prod.ext (funext fun j => ?_) rfl
  simp only
  by_cases h : j = 43
  · simp [h]
  · by_cases h2 : j = 44 <;> by_cases h3 : j = 45 <;> simp [h, h2, h3]
theorem mWn_s44 (S : MS) (s : Wn) (f : Nat → Int32) (x : Int) : mSI (mWn S s f) 44 (J x) = mWn S (s.1, s.2.1, x, s.2.2.2) f := by
  unfold mWn mSL mSI mSR
  refine Prod.ext (funext fun j => ?_) rfl
  simp only
  by_cases h : j = 44
  · simp [h]
  · by_cases h2 : j = 43 <;> by_cases h3 : j = 45 <;> simp [h, h2, h3]
theorem mWn_s45 (S : MS) (s : Wn) (f : Nat → Int32) (x : Int) : mSI (mWn S s f) 45 (J x) = mWn S (s.1, s.2.1, s.2.2.1, x, s.2.2.2.2) f := by
  unfold mWn mSL mSI mSR
  refine Prod.ext (funext fun j => ?_) rfl
  simp only
  by_cases h : j = 45
  · simp [h]
  · by_cases h2 : j = 43 <;> by_cases h3 : j = 44 <;> simp [h, h2, h3]
theorem mWn_sA (S : MS) (s : Wn) (f : Nat → Int32) (i : Nat) (x : Int32) : mSA (mWn S s f) 25 i x = mWn S s (upd f i x) := by
  unfold mWn; rw [mSA_R]
theorem mWn_ms (S : MS) (s : Wn) (f : Nat → Int32) (g : Nat → Nat → Bool) : mWn S (s.1, s.2.1, s.2.2.1, s.2.2.2.1, g) f = mWn S s f := rfl
theorem mWn_G (hG : GdM S 0 C) (s : Wn) (f : Nat → Int32) : GdM (mWn S s f) 0 C := FrM_G (FrM_t (FrM_t (FrM_t (FrM_t (FrM_L S 41 _) (FrM_I _ 43 _ (by decide))) (FrM_I _ 44 _ (by decide))) (FrM_I _ 45 _ (by decide))) (FrM_R _ 25 _ (by decide))) hG
theorem mWn_Fr (S : MS) (s : Wn) (f : Nat → Int32) : FrM S (mWn S s f) := FrM_t (FrM_t (FrM_t (FrM_t (FrM_L S 41 _) (FrM_I _ 43 _ (by decide))) (FrM_I _ 44 _ (by decide))) (FrM_I _ 45 _ (by decide))) (FrM_R _ 25 _ (by decide))
theorem M_bl163 (hG : GdM S 0 C) (ho : OkC C) {r t : Nat} (hr : r < cR C) (ht : t ≤ 2000) (s : Wn) (f : Nat → Int32) (P : Prop) [Decidable P] : fX5_blowsAt_163 N (emM o (mWn S s f) w) o (J r) (J t) (J (hh C r t)) (Bp P) = some (emM o (mWn S s (if P then upd f (16 * tt C r t + (t + hh C r t) % 16) (J 1) else f)) w) := by
  have hR := cR_le C
  have h9 := hh_le C r t
  have h5 := tt_le C r t
  have hG' := mWn_G hG s f
  unfold fX5_blowsAt_163
  simp only [jn_0, jn_1, jn_2, jn_3, jn_4, jn_5, jn_6, jn_8, jn_9, jn_10, jn_11, jn_12, jn_16, jn_20, jn_24, jn_30, jn_31, jn_32, jn_36, jn_48, jn_57, jn_59, jn_60, jn_63, jn_72, jn_73, jn_96, jn_97, jn_100, jn_122, jn_144, jn_200, jn_240, jn_288, jn_512, jn_840, jn_1200, jn_1600, jn_5040, jn_5390, jn_5400, jn_9999, jn_18688, jn_32400, jn_99999, jn_100000, jn_1000000, jn_858993459, jn_1431655765, jn_252645135, jl_0, jl_1, jl_2, jl_3, jl_8, jl_9, jl_10, jl_20, jl_27, jl_47, jl_96, jl_99, jl_100, jl_200, jl_555, jl_2000, jl_10000, jl_12345, jl_65536, jl_99999, jl_131638, jl_240023, jl_298288, jl_383153, jl_1306021, jl_1960084, jl_4147840, jl_8740238, jl_9872299, jl_175252482, jl_291595537, jl_1103515245, jl_2000000000, jl_2147483648, jl_4721686497, jl_7873079139, J_add, J_sub, J_mul, J_neg, JL_add, JL_sub, JL_mul, JL_neg, J_long, JL_int, ↓remI_fold, ↓remL_fold, Int.reduceAdd, Int.reduceSub, Int.reduceMul, Int.reduceNeg, Int.reduceToNat, Classical.not_not, em_t, Bp_eq0, Bp_eq1, Bp_01, Bp_mk, Bp_mk', Bp_0, Bp_0', Bp_1, Bp_1', if_true, if_false, ite_not]
  by_cases hP : P
  · rw [if_pos hP, if_pos hP, mg_42, Option.bind_some, M_toOf hG' hr (by omega), Option.bind_some, J_rem (by omega), J_mul, J_add, mw_25 o _ w _ (by omega), Option.bind_some, nar_31, mWn_sA, show (16 * (tt C r t : Int) + ((t : Int) + (hh C r t : Int)) % 16).toNat = 16 * tt C r t + (t + hh C r t) % 16 by omega]
  · rw [if_neg hP, if_neg hP]
theorem M_bl106 (hG : GdM S 0 C) (ho : OkC C) {r t : Nat} (hr : r < cR C) (ht : t ≤ 2000) (s : Wn) (hW : WI C t r s) (f : Nat → Int32) (P : Prop) [Decidable P] : fX5_blowsAt_106 N (emM o (mWn S s f) w) o (J r) (J t) (J (hh C r t)) (Bp P) = some (emM o (mWn S (s.1, if P then s.2.1 + 1 else s.2.1, if P then (if s.2.1 = 0 then (t : Int) else s.2.2.1) else s.2.2.1, if P then (if s.2.1 = 0 then (r : Int) else s.2.2.2.1) else s.2.2.2.1, s.2.2.2.2) (if P then upd f (16 * tt C r t + (t + hh C r t) % 16) (J 1) else f)) w) := by
  obtain ⟨h1, h2, h3, h4, h5, h6⟩ := hW
  unfold fX5_blowsAt_106
  simp only [jn_0, jn_1, jn_2, jn_3, jn_4, jn_5, jn_6, jn_8, jn_9, jn_10, jn_11, jn_12, jn_16, jn_20, jn_24, jn_30, jn_31, jn_32, jn_36, jn_48, jn_57, jn_59, jn_60, jn_63, jn_72, jn_73, jn_96, jn_97, jn_100, jn_122, jn_144, jn_200, jn_240, jn_288, jn_512, jn_840, jn_1200, jn_1600, jn_5040, jn_5390, jn_5400, jn_9999, jn_18688, jn_32400, jn_99999, jn_100000, jn_1000000, jn_858993459, jn_1431655765, jn_252645135, jl_0, jl_1, jl_2, jl_3, jl_8, jl_9, jl_10, jl_20, jl_27, jl_47, jl_96, jl_99, jl_100, jl_200, jl_555, jl_2000, jl_10000, jl_12345, jl_65536, jl_99999, jl_131638, jl_240023, jl_298288, jl_383153, jl_1306021, jl_1960084, jl_4147840, jl_8740238, jl_9872299, jl_175252482, jl_291595537, jl_1103515245, jl_2000000000, jl_2147483648, jl_4721686497, jl_7873079139, J_add, J_sub, J_mul, J_neg, JL_add, JL_sub, JL_mul, JL_neg, J_long, JL_int, ↓remI_fold, ↓remL_fold, Int.reduceAdd, Int.reduceSub, Int.reduceMul, Int.reduceNeg, Int.reduceToNat, Classical.not_not, em_t, Bp_eq0, Bp_eq1, Bp_01, Bp_mk, Bp_mk', Bp_0, Bp_0', Bp_1, Bp_1', if_true, if_false, ite_not]
  by_cases hP : P
  · simp only [if_pos hP]
    rw [mg_43, Option.bind_some, mWn_43, J_add, mp_43, Option.bind_some, mWn_s43, mg_44, Option.bind_some, mWn_44]
    unfold fX5_blowsAt_140 fX5_blowsAt_160
    by_cases h0 : s.2.1 = 0
    · have h7 := h3.1 h0
      simp only [if_pos h0]
      rw [if_pos (by rw [h7]), mp_45, Option.bind_some, mWn_s45, mg_44, Option.bind_some, mWn_44]
      simp only [jn_0, jn_1, jn_2, jn_3, jn_4, jn_5, jn_6, jn_8, jn_9, jn_10, jn_11, jn_12, jn_16, jn_20, jn_24, jn_30, jn_31, jn_32, jn_36, jn_48, jn_57, jn_59, jn_60, jn_63, jn_72, jn_73, jn_96, jn_97, jn_100, jn_122, jn_144, jn_200, jn_240, jn_288, jn_512, jn_840, jn_1200, jn_1600, jn_5040, jn_5390, jn_5400, jn_9999, jn_18688, jn_32400, jn_99999, jn_100000, jn_1000000, jn_858993459, jn_1431655765, jn_252645135, jl_0, jl_1, jl_2, jl_3, jl_8, jl_9, jl_10, jl_20, jl_27, jl_47, jl_96, jl_99, jl_100, jl_200, jl_555, jl_2000, jl_10000, jl_12345, jl_65536, jl_99999, jl_131638, jl_240023, jl_298288, jl_383153, jl_1306021, jl_1960084, jl_4147840, jl_8740238, jl_9872299, jl_175252482, jl_291595537, jl_1103515245, jl_2000000000, jl_2147483648, jl_4721686497, jl_7873079139, J_add, J_sub, J_mul, J_neg, JL_add, JL_sub, JL_mul, JL_neg, J_long, JL_int, ↓remI_fold, ↓remL_fold, Int.reduceAdd, Int.reduceSub, Int.reduceMul, Int.reduceNeg, Int.reduceToNat]
      rw [if_pos (by rw [h7]), mp_44, Option.bind_some, mWn_s44, M_bl163 hG ho hr ht, if_pos hP]
    · have h7 : s.2.2.1 ≠ -1 := fun h => h0 (h3.2 h)
      simp only [if_neg h0]
      rw [if_neg (by rw [J_eq (by omega)]; exact h7), mg_45, Option.bind_some, mWn_45, mp_45, Option.bind_some, mWn_s45, mg_44, Option.bind_some, mWn_44]
      simp only [jn_0, jn_1, jn_2, jn_3, jn_4, jn_5, jn_6, jn_8, jn_9, jn_10, jn_11, jn_12, jn_16, jn_20, jn_24, jn_30, jn_31, jn_32, jn_36, jn_48, jn_57, jn_59, jn_60, jn_63, jn_72, jn_73, jn_96, jn_97, jn_100, jn_122, jn_144, jn_200, jn_240, jn_288, jn_512, jn_840, jn_1200, jn_1600, jn_5040, jn_5390, jn_5400, jn_9999, jn_18688, jn_32400, jn_99999, jn_100000, jn_1000000, jn_858993459, jn_1431655765, jn_252645135, jl_0, jl_1, jl_2, jl_3, jl_8, jl_9, jl_10, jl_20, jl_27, jl_47, jl_96, jl_99, jl_100, jl_200, jl_555, jl_2000, jl_10000, jl_12345, jl_65536, jl_99999, jl_131638, jl_240023, jl_298288, jl_383153, jl_1306021, jl_1960084, jl_4147840, jl_8740238, jl_9872299, jl_175252482, jl_291595537, jl_1103515245, jl_2000000000, jl_2147483648, jl_4721686497, jl_7873079139, J_add, J_sub, J_mul, J_neg, JL_add, JL_sub, JL_mul, JL_neg, J_long, JL_int, ↓remI_fold, ↓remL_fold, Int.reduceAdd, Int.reduceSub, Int.reduceMul, Int.reduceNeg, Int.reduceToNat]
      rw [if_neg (by rw [J_eq (by omega)]; exact h7), Option.bind_some, mp_44, Option.bind_some, mWn_s44, M_bl163 hG ho hr ht, if_pos hP]
  · simp only [if_neg hP]
    rw [M_bl163 hG ho hr ht, if_neg hP]
theorem M_blowsAt (hG : GdM S 0 C) (ho : OkC C) {r t : Nat} (hr : r < cR C) (ht : t ≤ 2000) (s : Wn) (hW : WI C t r s) (f : Nat → Int32) (hf : Rg C 16 t r f s.2.2.2.2) : fX5_blowsAt N (emM o (mWn S s f) w) o (J r) (J t) = some (emM o (mWn S (wst C t r s) (if hh C r t = 0 then f else rgS C 16 t r s f)) w) := by
  have hR := cR_le C
  have h9 := hh_le C r t
  have hG' := mWn_G hG s f
  have hslot := hf r t hr (by rw [if_neg (by omega)]; omega)
  have hgb := cG_bd C
  have hob := cO_le C
  have hx := rnx_bd hW.1.1
  have hx0 := hW.1
  unfold fX5_blowsAt
  rw [M_highOf hG' hr (by omega), Option.bind_some]
  simp only [jn_0, jn_1, jn_2, jn_3, jn_4, jn_5, jn_6, jn_8, jn_9, jn_10, jn_11, jn_12, jn_16, jn_20, jn_24, jn_30, jn_31, jn_32, jn_36, jn_48, jn_57, jn_59, jn_60, jn_63, jn_72, jn_73, jn_96, jn_97, jn_100, jn_122, jn_144, jn_200, jn_240, jn_288, jn_512, jn_840, jn_1200, jn_1600, jn_5040, jn_5390, jn_5400, jn_9999, jn_18688, jn_32400, jn_99999, jn_100000, jn_1000000, jn_858993459, jn_1431655765, jn_252645135, jl_0, jl_1, jl_2, jl_3, jl_8, jl_9, jl_10, jl_20, jl_27, jl_47, jl_96, jl_99, jl_100, jl_200, jl_555, jl_2000, jl_10000, jl_12345, jl_65536, jl_99999, jl_131638, jl_240023, jl_298288, jl_383153, jl_1306021, jl_1960084, jl_4147840, jl_8740238, jl_9872299, jl_175252482, jl_291595537, jl_1103515245, jl_2000000000, jl_2147483648, jl_4721686497, jl_7873079139, J_add, J_sub, J_mul, J_neg, JL_add, JL_sub, JL_mul, JL_neg, J_long, JL_int, ↓remI_fold, ↓remL_fold, Int.reduceAdd, Int.reduceSub, Int.reduceMul, Int.reduceNeg, Int.reduceToNat]
  by_cases h0 : hh C r t = 0
  · rw [if_pos (by rw [h0]; rfl), if_pos h0]
    unfold wst
    rw [if_pos h0]
  rw [if_neg (by rw [J_eq (by omega)]; omega), if_neg h0, mg_42, Option.bind_some, J_rem (by omega), J_add]
  have es : (16 * (r : Int) + (t : Int) % 16).toNat = 16 * r + t % 16 := by omega
  rw [mr_25 o _ w (by omega), Option.bind_some, es, mWn_25, hslot, Option.bind_some, mw_25 o _ w _ (by omega), Option.bind_some, es, nar_30, mWn_sA]
  simp only [Classical.not_not, em_t, Bp_eq0, Bp_eq1, Bp_01, Bp_mk, Bp_mk', Bp_0, Bp_0', Bp_1, Bp_1', if_true, if_false, ite_not]
  generalize hF : upd f (16 * r + t % 16) (J 0) = f0
  have hG2 := mWn_G hG s f0
  have e15 : ∀ s' : Wn, aI 0 (emM o (mWn S s' f0) w) (o + 15) (J 0) = some (J (cG C)) := fun s' => by
    rw [mr_15 o _ w (by omega), mWn_a _ _ _ (by decide)]; exact congrArg some (gm_G hG (by omega))
  have e16 : ∀ s' : Wn, aI 0 (emM o (mWn S s' f0) w) (o + 15) (J 1) = some (J (cO C)) := fun s' => by
    rw [mr_15 o _ w (by omega), mWn_a _ _ _ (by decide)]; exact congrArg some (gm_O hG (by omega))
  unfold rgS wst
  rw [if_neg h0, if_neg h0]
  by_cases hm : s.2.2.2.2 r t = true
  · have hd : drw C r t s = false := by unfold drw; rw [hm]; rfl
    have hg : gon C r t s = true := by unfold gon; rw [hm]; rfl
    rw [if_pos hm, M_bl163 hG ho hr ht, if_pos hm, hF]
    simp only [hd, hg, Bool.false_and, Bool.false_eq_true, if_false, if_true]
    exact (congrArg (fun z => some (emM o z w)) (mWn_ms S s _ _)).symm
  · rw [if_neg hm, mg_25, Option.bind_some, e15, Option.bind_some]
    by_cases hgh : cG C ≤ hh C r t
    · have hd : drw C r t s = true := by unfold drw; simp [hm, hgh]
      rw [if_neg (by rw [J_lt (by omega)]; omega), mg_41, Option.bind_some, mWn_41]
      have e1 : JL 1103515245 * JL s.1 + JL 12345 = JL (1103515245 * s.1 + 12345) := by rw [JL_mul, JL_add]
      have e2 : remL (JL (1103515245 * s.1 + 12345)) (JL 2147483648) = JL (rnx s.1) := JL_rem (by omega)
      have d1 : JL (rnx s.1) / JL 65536 = JL (rnx s.1 / 65536) := JL_div (by omega)
      have d2 : remL (JL (rnx s.1 / 65536)) (JL 100) = JL (rnx s.1 / 65536 % 100) := JL_rem (by omega)
      have d3 : (J (cO C : Int)).toInt64 = JL (cO C) := J_long (by omega)
      rw [e1, e2, mp_41, Option.bind_some, mWn_s41, mg_41, Option.bind_some, mWn_41, mg_25, Option.bind_some, e16, Option.bind_some]
      simp only [d1, d2, d3]
      have ec : (J 0 ≤ lg_cmp (JL (rnx s.1 / 65536 % 100)) (JL (cO C))) = ((cO C : Int) ≤ rnx s.1 / 65536 % 100) := cmp_ge0 (by omega)
      have hh1 : hit C s.1 = decide (rnx s.1 / 65536 % 100 < cO C) := rfl
      have hW' : WI C t r (rnx s.1, s.2) := ⟨by show 0 ≤ rnx s.1 ∧ rnx s.1 ≤ 2147483648; omega, hW.2⟩
      by_cases hc : rnx s.1 / 65536 % 100 < cO C
      · have hh2 : hit C s.1 = true := by rw [hh1, decide_eq_true_iff]; exact hc
        have hg : gon C r t s = true := by unfold gon; rw [hd, hh2]; simp
        have q := M_bl106 (N := N) (o := o) (w := w) hG ho hr ht _ hW' f0 True
        rw [Bp_t trivial] at q
        rw [if_neg (by rw [ec]; omega), q]
        simp only [if_true, hd, hh2, hg, Bool.and_self, hF]
        exact (congrArg (fun z => some (emM o z w)) (mWn_ms S (rnx s.1, s.2.1 + 1, if s.2.1 = 0 then (t : Int) else s.2.2.1, if s.2.1 = 0 then (r : Int) else s.2.2.2.1, s.2.2.2.2) _ _)).symm
      · have hh2 : hit C s.1 = false := by rw [hh1, decide_eq_false_iff_not]; exact hc
        have hg : gon C r t s = false := by unfold gon; rw [hd, hh2]; simpa using hm
        have q := M_bl106 (N := N) (o := o) (w := w) hG ho hr ht _ hW' f0 False
        rw [Bp_f (fun h => h)] at q
        rw [if_pos (by rw [ec]; omega), q]
        simp only [if_false, if_true, hd, hh2, hg, Bool.and_false, Bool.false_eq_true, hF]
    · have hd : drw C r t s = false := by unfold drw; simp [hgh]
      have hg : gon C r t s = false := by unfold gon; rw [hd]; simpa using hm
      rw [if_pos (by rw [J_lt (by omega)]; omega), M_bl163 hG ho hr ht, if_neg hm]
      simp only [hd, hg, Bool.false_and, Bool.false_eq_true, if_false, hF]
theorem rgS_0 {m t r : Nat} {s : Wn} {f : Nat → Int32} (hm : 0 < m) (hr : r < cR C) (hW : WI C t r s) (hf : Rg C m t r f s.2.2.2.2) (h0 : hh C r t = 0) : rgS C m t r s f = f := by
  unfold rgS
  rw [if_pos h0]
  have hslot := hf r t hr (by rw [if_neg (by omega)]; omega)
  have hm0 : ¬ s.2.2.2.2 r t = true := fun h => by have := (hW.2.2.2.2.2 r t h).2.2; omega
  rw [Bp_f hm0] at hslot
  funext j
  unfold upd
  by_cases h : j = m * r + t % m
  · rw [if_pos h, h, hslot]
  · rw [if_neg h]
theorem WI_0 {C : Cy} {x : Int} (hx : 0 ≤ x ∧ x ≤ 2147483648) : WI C 0 0 (x, 0, -1, -1, fun _ _ => false) := ⟨hx, by simp, by simp, by simp, by simp, fun q b h => by simp at h⟩
/-- a state of the wind with a ring -/
def wr1 (C : Cy) (m t r : Nat) (p : Wn × (Nat → Int32)) : Wn × (Nat → Int32) := (wst C t r p.1, rgS C m t r p.1 p.2)
def wrT (C : Cy) (m t : Nat) (p : Wn × (Nat → Int32)) : Wn × (Nat → Int32) := fo (fun r p => wr1 C m t r p) (cR C) p
theorem wrT_1 (C : Cy) (m t k : Nat) (p : Wn × (Nat → Int32)) : (fo (fun r p => wr1 C m t r p) k p).1 = fo (fun r s => wst C t r s) k p.1 := by
  induction k with
  | zero => rfl
  | succ k ih =>
    show wst C t k (fo (fun r p => wr1 C m t r p) k p).1 = wst C t k (fo (fun r s => wst C t r s) k p.1)
    rw [ih]
theorem wrT_I (hk : kp C = true) (ho : OkC C) {m t : Nat} (hm : 10 ≤ m) {p : Wn × (Nat → Int32)} (hW : WI C t 0 p.1) (hR : Rg C m t 0 p.2 p.1.2.2.2.2) : WI C (t + 1) 0 (wrT C m t p).1 ∧ Rg C m (t + 1) 0 (wrT C m t p).2 (wrT C m t p).1.2.2.2.2 := by
  have := fo_inv (fun r p => wr1 C m t r p) (fun r p => WI C t r p.1 ∧ Rg C m t r p.2 p.1.2.2.2.2) (cR C) p ⟨hW, hR⟩ (fun r q hr hq => ⟨wst_WI hk ho hr hq.1, Rg_step hm hr ho hq.1 hq.2⟩)
  exact ⟨WI_next this.1, Rg_next this.2⟩
theorem M_bl56 (hG : GdM S 0 C) (ho : OkC C) (hk : kp C = true) {t : Nat} (ht : t ≤ 2000) (x : Int32) (k : Wd → Option Wd) {n : Nat} (hn : 6 < n) (p : Wn × (Nat → Int32)) (hW : WI C t 0 p.1) (hf : Rg C 16 t 0 p.2 p.1.2.2.2.2) : fX5_blows_56 N o x (J t) k n (J 0) (emM o (mWn S p.1 p.2) w) = k (emM o (mWn S (wrT C 16 t p).1 (wrT C 16 t p).2) w) := by
  have hR := cR_le C
  have key := lp_fold (fun n i (p : Wn × (Nat → Int32)) => fX5_blows_56 N o x (J t) k n (J (i : Int)) (emM o (mWn S p.1 p.2) w)) (fun p => k (emM o (mWn S p.1 p.2) w)) (cR C) (fun r p => wr1 C 16 t r p) (fun r p => WI C t r p.1 ∧ Rg C 16 t r p.2 p.1.2.2.2.2) ?_ ?_ n p (by omega) ⟨hW, hf⟩
  · exact key.1
  · intro n i s hi hI
    try dsimp only
    refine ⟨?_, ?_⟩
    rotate_left
    exact ⟨wst_WI hk ho hi hI.1, Rg_step (by omega) hi ho hI.1 hI.2⟩
    rw [fX5_blows_56]
    simp (disch := omega) only [jn_0, jn_1, jn_2, jn_3, jn_4, jn_5, jn_6, jn_8, jn_9, jn_10, jn_11, jn_12, jn_16, jn_20, jn_24, jn_30, jn_31, jn_32, jn_36, jn_48, jn_57, jn_59, jn_60, jn_63, jn_72, jn_73, jn_96, jn_97, jn_100, jn_122, jn_144, jn_200, jn_240, jn_288, jn_512, jn_840, jn_1200, jn_1600, jn_5040, jn_5390, jn_5400, jn_9999, jn_18688, jn_32400, jn_99999, jn_100000, jn_1000000, jn_858993459, jn_1431655765, jn_252645135, jl_0, jl_1, jl_2, jl_3, jl_8, jl_9, jl_10, jl_20, jl_27, jl_47, jl_96, jl_99, jl_100, jl_200, jl_555, jl_2000, jl_10000, jl_12345, jl_65536, jl_99999, jl_131638, jl_240023, jl_298288, jl_383153, jl_1306021, jl_1960084, jl_4147840, jl_8740238, jl_9872299, jl_175252482, jl_291595537, jl_1103515245, jl_2000000000, jl_2147483648, jl_4721686497, jl_7873079139, J_add, J_sub, J_mul, J_neg, JL_add, JL_sub, JL_mul, JL_neg, J_long, JL_int, ↓remI_fold, ↓remL_fold, Int.reduceAdd, Int.reduceSub, Int.reduceMul, Int.reduceNeg, Int.reduceToNat, mg_17, mr_7, mWn_a _ _ _ (show 7 ≠ 25 by decide), gm_R hG, J_le, castS, Option.bind_some]
    rw [if_neg (by omega), M_blowsAt hG ho hi ht s.1 hI.1 s.2 hI.2, Option.bind_some]
    unfold wr1
    by_cases h0 : hh C i t = 0
    · rw [if_pos h0, rgS_0 (by omega) hi hI.1 hI.2 h0]
    · rw [if_neg h0]
  · intro n s hI
    try dsimp only
    rw [fX5_blows_56]
    simp (disch := omega) only [jn_0, jn_1, jn_2, jn_3, jn_4, jn_5, jn_6, jn_8, jn_9, jn_10, jn_11, jn_12, jn_16, jn_20, jn_24, jn_30, jn_31, jn_32, jn_36, jn_48, jn_57, jn_59, jn_60, jn_63, jn_72, jn_73, jn_96, jn_97, jn_100, jn_122, jn_144, jn_200, jn_240, jn_288, jn_512, jn_840, jn_1200, jn_1600, jn_5040, jn_5390, jn_5400, jn_9999, jn_18688, jn_32400, jn_99999, jn_100000, jn_1000000, jn_858993459, jn_1431655765, jn_252645135, jl_0, jl_1, jl_2, jl_3, jl_8, jl_9, jl_10, jl_20, jl_27, jl_47, jl_96, jl_99, jl_100, jl_200, jl_555, jl_2000, jl_10000, jl_12345, jl_65536, jl_99999, jl_131638, jl_240023, jl_298288, jl_383153, jl_1306021, jl_1960084, jl_4147840, jl_8740238, jl_9872299, jl_175252482, jl_291595537, jl_1103515245, jl_2000000000, jl_2147483648, jl_4721686497, jl_7873079139, J_add, J_sub, J_mul, J_neg, JL_add, JL_sub, JL_mul, JL_neg, J_long, JL_int, ↓remI_fold, ↓remL_fold, Int.reduceAdd, Int.reduceSub, Int.reduceMul, Int.reduceNeg, Int.reduceToNat, mg_17, mr_7, mWn_a _ _ _ (show 7 ≠ 25 by decide), gm_R hG, J_le, castS, Option.bind_some]
    rw [if_pos (by omega)]
theorem M_blows (hG : GdM S 0 C) (ho : OkC C) (hk : kp C = true) (hN : 1000000 ≤ N) {x : Int} (hx : 0 ≤ x ∧ x ≤ 2147483647) {m : Nat} (hm : m ≤ 2000) : ∃ f, fX5_blows N (emM o S w) o (JL x) (J m) = some (emM o (mWn S (wnd C x m) f) w) := by
  have hR := cR_le C
  unfold fX5_blows
  simp only [jn_0, jn_1, jn_2, jn_3, jn_4, jn_5, jn_6, jn_8, jn_9, jn_10, jn_11, jn_12, jn_16, jn_20, jn_24, jn_30, jn_31, jn_32, jn_36, jn_48, jn_57, jn_59, jn_60, jn_63, jn_72, jn_73, jn_96, jn_97, jn_100, jn_122, jn_144, jn_200, jn_240, jn_288, jn_512, jn_840, jn_1200, jn_1600, jn_5040, jn_5390, jn_5400, jn_9999, jn_18688, jn_32400, jn_99999, jn_100000, jn_1000000, jn_858993459, jn_1431655765, jn_252645135, jl_0, jl_1, jl_2, jl_3, jl_8, jl_9, jl_10, jl_20, jl_27, jl_47, jl_96, jl_99, jl_100, jl_200, jl_555, jl_2000, jl_10000, jl_12345, jl_65536, jl_99999, jl_131638, jl_240023, jl_298288, jl_383153, jl_1306021, jl_1960084, jl_4147840, jl_8740238, jl_9872299, jl_175252482, jl_291595537, jl_1103515245, jl_2000000000, jl_2147483648, jl_4721686497, jl_7873079139, J_add, J_sub, J_mul, J_neg, JL_add, JL_sub, JL_mul, JL_neg, J_long, JL_int, ↓remI_fold, ↓remL_fold, Int.reduceAdd, Int.reduceSub, Int.reduceMul, Int.reduceNeg, Int.reduceToNat, mp_41, mp_43, mp_44, mp_45, Option.bind_some]
  have e0 : mSI (mSI (mSI (mSL S 41 (JL x)) 43 (J 0)) 44 (J (-1))) 45 (J (-1)) = mWn S (x, 0, -1, -1, fun _ _ => false) (ma S 25) := by
    unfold mWn
    exact (mSR_id (mSI (mSI (mSI (mSL S 41 (JL x)) 43 (J 0)) 44 (J (-1))) 45 (J (-1))) 25).symm
  rw [e0]
  have k1 := lp_cnt (fun n i => fX5_blows_23 N o (J m) (fun w8 => fX5_blows_47 N o (J m) (fun w15 => some w15) N (J 0) w8) n (J (i : Int)) (emM o (mWn S (x, 0, -1, -1, fun _ _ => false) (fun j => if j < i then J 0 else ma S 25 j)) w)) (fX5_blows_47 N o (J m) (fun w15 => some w15) N (J 0) (emM o (mWn S (x, 0, -1, -1, fun _ _ => false) (fun j => if j < 96 then J 0 else ma S 25 j)) w)) 96 ?_ ?_ N (by omega)
  · have e1 : (fun j => if j < 0 then J 0 else ma S 25 j) = ma S 25 := by funext j; rw [if_neg (by omega)]
    rw [e1] at k1
    rw [show J ((0 : Nat) : Int) = J 0 from rfl] at k1
    rw [k1]
    have hf0 : Rg C 16 0 0 (fun j => if j < 96 then J 0 else ma S 25 j) (fun _ _ => false) := Rg_0 C 16 _ (fun q b hq => by
      have := Nat.mod_lt b (show 16 > 0 by decide)
      rw [if_pos (by omega)])
    have hW0 : WI C 0 0 (x, 0, -1, -1, fun _ _ => false) := WI_0 (by omega)
    have key := lp_fold (fun n i (p : Wn × (Nat → Int32)) => fX5_blows_47 N o (J m) (fun w15 => some w15) n (J (i : Int)) (emM o (mWn S p.1 p.2) w)) (fun p => some (emM o (mWn S p.1 p.2) w)) m (fun t p => wrT C 16 t p) (fun t p => WI C t 0 p.1 ∧ Rg C 16 t 0 p.2 p.1.2.2.2.2) ?_ ?_ N ((x, 0, -1, -1, fun _ _ => false), fun j => if j < 96 then J 0 else ma S 25 j) (by omega) ⟨hW0, hf0⟩
    · have ew : ∀ k, (fo (fun t p => wrT C 16 t p) k (((x, 0, -1, -1, fun _ _ => false), fun j => if j < 96 then J 0 else ma S 25 j) : Wn × (Nat → Int32))).1 = fo (fun t s => wnT C t s) k (x, 0, -1, -1, fun _ _ => false) := by
        intro k
        induction k with
        | zero => rfl
        | succ k ih =>
          show (wrT C 16 k _).1 = wnT C k _
          rw [← ih]
          exact wrT_1 C 16 k (cR C) _
      refine ⟨(fo (fun t p => wrT C 16 t p) m (((x, 0, -1, -1, fun _ _ => false), fun j => if j < 96 then J 0 else ma S 25 j) : Wn × (Nat → Int32))).2, ?_⟩
      have := key.1
      rw [ew m] at this
      exact this
    · intro n i s hi hI
      refine ⟨?_, wrT_I hk ho (by omega) hI.1 hI.2⟩
      rw [fX5_blows_47]
      simp (disch := omega) only [jn_0, jn_1, jn_2, jn_3, jn_4, jn_5, jn_6, jn_8, jn_9, jn_10, jn_11, jn_12, jn_16, jn_20, jn_24, jn_30, jn_31, jn_32, jn_36, jn_48, jn_57, jn_59, jn_60, jn_63, jn_72, jn_73, jn_96, jn_97, jn_100, jn_122, jn_144, jn_200, jn_240, jn_288, jn_512, jn_840, jn_1200, jn_1600, jn_5040, jn_5390, jn_5400, jn_9999, jn_18688, jn_32400, jn_99999, jn_100000, jn_1000000, jn_858993459, jn_1431655765, jn_252645135, jl_0, jl_1, jl_2, jl_3, jl_8, jl_9, jl_10, jl_20, jl_27, jl_47, jl_96, jl_99, jl_100, jl_200, jl_555, jl_2000, jl_10000, jl_12345, jl_65536, jl_99999, jl_131638, jl_240023, jl_298288, jl_383153, jl_1306021, jl_1960084, jl_4147840, jl_8740238, jl_9872299, jl_175252482, jl_291595537, jl_1103515245, jl_2000000000, jl_2147483648, jl_4721686497, jl_7873079139, J_add, J_sub, J_mul, J_neg, JL_add, JL_sub, JL_mul, JL_neg, J_long, JL_int, ↓remI_fold, ↓remL_fold, Int.reduceAdd, Int.reduceSub, Int.reduceMul, Int.reduceNeg, Int.reduceToNat, J_le, castS, Option.bind_some]
      rw [if_neg (by omega), M_bl56 hG ho hk (by omega) _ _ (by omega) s hI.1 hI.2]
    · intro n s _
      rw [fX5_blows_47]
      simp (disch := omega) only [jn_0, jn_1, jn_2, jn_3, jn_4, jn_5, jn_6, jn_8, jn_9, jn_10, jn_11, jn_12, jn_16, jn_20, jn_24, jn_30, jn_31, jn_32, jn_36, jn_48, jn_57, jn_59, jn_60, jn_63, jn_72, jn_73, jn_96, jn_97, jn_100, jn_122, jn_144, jn_200, jn_240, jn_288, jn_512, jn_840, jn_1200, jn_1600, jn_5040, jn_5390, jn_5400, jn_9999, jn_18688, jn_32400, jn_99999, jn_100000, jn_1000000, jn_858993459, jn_1431655765, jn_252645135, jl_0, jl_1, jl_2, jl_3, jl_8, jl_9, jl_10, jl_20, jl_27, jl_47, jl_96, jl_99, jl_100, jl_200, jl_555, jl_2000, jl_10000, jl_12345, jl_65536, jl_99999, jl_131638, jl_240023, jl_298288, jl_383153, jl_1306021, jl_1960084, jl_4147840, jl_8740238, jl_9872299, jl_175252482, jl_291595537, jl_1103515245, jl_2000000000, jl_2147483648, jl_4721686497, jl_7873079139, J_add, J_sub, J_mul, J_neg, JL_add, JL_sub, JL_mul, JL_neg, J_long, JL_int, ↓remI_fold, ↓remL_fold, Int.reduceAdd, Int.reduceSub, Int.reduceMul, Int.reduceNeg, Int.reduceToNat, J_le]
      rw [if_pos (by omega)]
  · intro n i hi
    rw [fX5_blows_23]
    simp (disch := omega) only [jn_0, jn_1, jn_2, jn_3, jn_4, jn_5, jn_6, jn_8, jn_9, jn_10, jn_11, jn_12, jn_16, jn_20, jn_24, jn_30, jn_31, jn_32, jn_36, jn_48, jn_57, jn_59, jn_60, jn_63, jn_72, jn_73, jn_96, jn_97, jn_100, jn_122, jn_144, jn_200, jn_240, jn_288, jn_512, jn_840, jn_1200, jn_1600, jn_5040, jn_5390, jn_5400, jn_9999, jn_18688, jn_32400, jn_99999, jn_100000, jn_1000000, jn_858993459, jn_1431655765, jn_252645135, jl_0, jl_1, jl_2, jl_3, jl_8, jl_9, jl_10, jl_20, jl_27, jl_47, jl_96, jl_99, jl_100, jl_200, jl_555, jl_2000, jl_10000, jl_12345, jl_65536, jl_99999, jl_131638, jl_240023, jl_298288, jl_383153, jl_1306021, jl_1960084, jl_4147840, jl_8740238, jl_9872299, jl_175252482, jl_291595537, jl_1103515245, jl_2000000000, jl_2147483648, jl_4721686497, jl_7873079139, J_add, J_sub, J_mul, J_neg, JL_add, JL_sub, JL_mul, JL_neg, J_long, JL_int, ↓remI_fold, ↓remL_fold, Int.reduceAdd, Int.reduceSub, Int.reduceMul, Int.reduceNeg, Int.reduceToNat, J_le, mg_42, mw_25, nar_30, mWn_sA, Int.toNat_natCast, castS, Option.bind_some]
    rw [if_neg (by omega), lt_upd (fun _ => J 0) (ma S 25) i]
  · intro n
    rw [fX5_blows_23]
    simp (disch := omega) only [jn_0, jn_1, jn_2, jn_3, jn_4, jn_5, jn_6, jn_8, jn_9, jn_10, jn_11, jn_12, jn_16, jn_20, jn_24, jn_30, jn_31, jn_32, jn_36, jn_48, jn_57, jn_59, jn_60, jn_63, jn_72, jn_73, jn_96, jn_97, jn_100, jn_122, jn_144, jn_200, jn_240, jn_288, jn_512, jn_840, jn_1200, jn_1600, jn_5040, jn_5390, jn_5400, jn_9999, jn_18688, jn_32400, jn_99999, jn_100000, jn_1000000, jn_858993459, jn_1431655765, jn_252645135, jl_0, jl_1, jl_2, jl_3, jl_8, jl_9, jl_10, jl_20, jl_27, jl_47, jl_96, jl_99, jl_100, jl_200, jl_555, jl_2000, jl_10000, jl_12345, jl_65536, jl_99999, jl_131638, jl_240023, jl_298288, jl_383153, jl_1306021, jl_1960084, jl_4147840, jl_8740238, jl_9872299, jl_175252482, jl_291595537, jl_1103515245, jl_2000000000, jl_2147483648, jl_4721686497, jl_7873079139, J_add, J_sub, J_mul, J_neg, JL_add, JL_sub, JL_mul, JL_neg, J_long, JL_int, ↓remI_fold, ↓remL_fold, Int.reduceAdd, Int.reduceSub, Int.reduceMul, Int.reduceNeg, Int.reduceToNat, J_le]
    rw [if_pos (by omega)]
theorem wnd_bd (hk : kp C = true) (ho : OkC C) {x : Int} (hx : 0 ≤ x ∧ x ≤ 2147483648) (m : Nat) : WI C m 0 (wnd C x m) := by
  unfold wnd
  refine fo_inv (fun t s => wnT C t s) (fun t s => WI C t 0 s) m _ (WI_0 hx) (fun t s _ hs => ?_)
  exact WI_next (fo_inv (fun r s => wst C t r s) (fun r s => WI C t r s) (cR C) s hs (fun r s hr hs => wst_WI hk ho hr hs))
theorem M_isGust (hG : GdM S 0 C) {x n : Int} (hx : -2147483648 ≤ x ∧ x ≤ 2147483647) (hn : -2147483648 ≤ n ∧ n ≤ 2147483647) : fX5_isGust N (emM o S w) o (J x) (J n) = some (Bp (0 < cR C ∧ (0 ≤ x ∧ x ≤ 2000000000) ∧ 0 ≤ n ∧ n ≤ 2000)) := by
  unfold fX5_isGust
  simp (disch := omega) only [jn_0, jn_1, jn_2, jn_3, jn_4, jn_5, jn_6, jn_8, jn_9, jn_10, jn_11, jn_12, jn_16, jn_20, jn_24, jn_30, jn_31, jn_32, jn_36, jn_48, jn_57, jn_59, jn_60, jn_63, jn_72, jn_73, jn_96, jn_97, jn_100, jn_122, jn_144, jn_200, jn_240, jn_288, jn_512, jn_840, jn_1200, jn_1600, jn_5040, jn_5390, jn_5400, jn_9999, jn_18688, jn_32400, jn_99999, jn_100000, jn_1000000, jn_858993459, jn_1431655765, jn_252645135, jl_0, jl_1, jl_2, jl_3, jl_8, jl_9, jl_10, jl_20, jl_27, jl_47, jl_96, jl_99, jl_100, jl_200, jl_555, jl_2000, jl_10000, jl_12345, jl_65536, jl_99999, jl_131638, jl_240023, jl_298288, jl_383153, jl_1306021, jl_1960084, jl_4147840, jl_8740238, jl_9872299, jl_175252482, jl_291595537, jl_1103515245, jl_2000000000, jl_2147483648, jl_4721686497, jl_7873079139, J_add, J_sub, J_mul, J_neg, JL_add, JL_sub, JL_mul, JL_neg, J_long, JL_int, ↓remI_fold, ↓remL_fold, Int.reduceAdd, Int.reduceSub, Int.reduceMul, Int.reduceNeg, Int.reduceToNat, Classical.not_not, em_t, Bp_eq0, Bp_eq1, Bp_01, Bp_mk, Bp_mk', Bp_0, Bp_0', Bp_1, Bp_1', if_true, if_false, ite_not, M_isCity hG, M_in, Option.bind_some]
theorem M_gusts (hG : GdM S 0 C) (ho : OkC C) (hN : 1000000 ≤ N) {x n k : Int} (hx : -2147483648 ≤ x ∧ x ≤ 2147483647) (hn : -2147483648 ≤ n ∧ n ≤ 2147483647) (hk : -2147483648 ≤ k ∧ k ≤ 2147483647) : ∃ S', fX5_gusts N (emM o S w) o (J x) (J n) (J k) = some (J (sp_gusts C x n k), emM o S' w) ∧ FrM S S' := by
  have hG' : GdM (mSI S 0 (J 0)) 0 C := hG
  have hF : FrM S (mSI S 0 (J 0)) := FrM_I S 0 _ (by decide)
  unfold fX5_gusts sp_gusts
  simp only [jn_0, jn_1, jn_2, jn_3, jn_4, jn_5, jn_6, jn_8, jn_9, jn_10, jn_11, jn_12, jn_16, jn_20, jn_24, jn_30, jn_31, jn_32, jn_36, jn_48, jn_57, jn_59, jn_60, jn_63, jn_72, jn_73, jn_96, jn_97, jn_100, jn_122, jn_144, jn_200, jn_240, jn_288, jn_512, jn_840, jn_1200, jn_1600, jn_5040, jn_5390, jn_5400, jn_9999, jn_18688, jn_32400, jn_99999, jn_100000, jn_1000000, jn_858993459, jn_1431655765, jn_252645135, jl_0, jl_1, jl_2, jl_3, jl_8, jl_9, jl_10, jl_20, jl_27, jl_47, jl_96, jl_99, jl_100, jl_200, jl_555, jl_2000, jl_10000, jl_12345, jl_65536, jl_99999, jl_131638, jl_240023, jl_298288, jl_383153, jl_1306021, jl_1960084, jl_4147840, jl_8740238, jl_9872299, jl_175252482, jl_291595537, jl_1103515245, jl_2000000000, jl_2147483648, jl_4721686497, jl_7873079139, J_add, J_sub, J_mul, J_neg, JL_add, JL_sub, JL_mul, JL_neg, J_long, JL_int, ↓remI_fold, ↓remL_fold, Int.reduceAdd, Int.reduceSub, Int.reduceMul, Int.reduceNeg, Int.reduceToNat, Classical.not_not, em_t, Bp_eq0, Bp_eq1, Bp_01, Bp_mk, Bp_mk', Bp_0, Bp_0', Bp_1, Bp_1', if_true, if_false, ite_not, mp_0, M_isGust hG' hx hn, Option.bind_some]
  by_cases h1 : 0 < cR C
  case neg => exact ⟨_, by rw [if_neg (fun h => h1 h.1), if_neg h1], hF⟩
  by_cases h2 : 0 ≤ x ∧ x ≤ 2000000000
  case neg => exact ⟨_, by rw [if_neg (fun h => h2 h.2.1), if_pos h1, if_neg h2], hF⟩
  by_cases h3 : 0 ≤ n ∧ n ≤ 2000
  case neg => exact ⟨_, by rw [if_neg (fun h => h3 h.2.2), if_pos h1, if_pos h2, if_neg h3], hF⟩
  rw [if_pos ⟨h1, h2, h3⟩]
  simp only [if_pos h1, if_pos h2, if_pos h3]
  rw [J_long hk, M_in (by omega), Option.bind_some]
  simp only [Classical.not_not, em_t, Bp_eq0, Bp_eq1, Bp_01, Bp_mk, Bp_mk', Bp_0, Bp_0', Bp_1, Bp_1', if_true, if_false, ite_not]
  by_cases h4 : 0 ≤ k ∧ k ≤ 2
  case neg => exact ⟨_, by rw [if_neg h4, if_neg h4], hF⟩
  simp only [if_pos h4]
  rw [M_isUp hG' (by omega), Option.bind_some]
  simp only [Classical.not_not, em_t, Bp_eq0, Bp_eq1, Bp_01, Bp_mk, Bp_mk', Bp_0, Bp_0', Bp_1, Bp_1', if_true, if_false, ite_not]
  by_cases h5 : kp C = true
  case neg => exact ⟨_, by rw [if_neg h5, if_neg h5], hF⟩
  simp only [if_pos h5]
  obtain ⟨m, hr⟩ : ∃ r : Nat, n = r := ⟨n.toNat, by omega⟩
  subst hr
  have ⟨f, e⟩ := M_blows (N := N) (o := o) (w := w) hG' ho h5 hN (x := x) (by omega) (m := m) (by omega)
  refine ⟨mWn (mSI S 0 (J 0)) (wnd C x m) f, ?_, FrM_t hF (mWn_Fr _ _ _)⟩
  have hG2 := mWn_G hG' (wnd C x m) f
  rw [J_long hx, e, Option.bind_some]
  simp only [M_ballsOf hG2 hN, mg_43, mg_44, mg_45, mWn_43, mWn_44, mWn_45, J_sub, Int.toNat_natCast, Option.bind_some]
  by_cases h6 : k = 0
  · rw [if_pos (by rw [h6]), if_pos h6]
  rw [if_neg (by rw [J_eq (by omega)]; exact h6), if_neg h6]
  by_cases h7 : k = 1
  · rw [if_pos (by rw [h7]), if_pos h7]
  rw [if_neg (by rw [J_eq (by omega)]; exact h7), if_neg h7]
theorem M_years (hG : GdM S 0 C) (ho : OkC C) (hN : 1000000 ≤ N) {x k n : Int} (hx : -2147483648 ≤ x ∧ x ≤ 2147483647) (hk : -2147483648 ≤ k ∧ k ≤ 2147483647) (hn : -2147483648 ≤ n ∧ n ≤ 2147483647) : ∃ S', fX5_years N (emM o S w) o (J x) (J k) (J n) = some (J (sp_years C x k n), emM o S' w) ∧ FrM S S' := by
  have hG' : GdM (mSI S 0 (J 0)) 0 C := hG
  have hF : FrM S (mSI S 0 (J 0)) := FrM_I S 0 _ (by decide)
  unfold fX5_years sp_years
  simp only [jn_0, jn_1, jn_2, jn_3, jn_4, jn_5, jn_6, jn_8, jn_9, jn_10, jn_11, jn_12, jn_16, jn_20, jn_24, jn_30, jn_31, jn_32, jn_36, jn_48, jn_57, jn_59, jn_60, jn_63, jn_72, jn_73, jn_96, jn_97, jn_100, jn_122, jn_144, jn_200, jn_240, jn_288, jn_512, jn_840, jn_1200, jn_1600, jn_5040, jn_5390, jn_5400, jn_9999, jn_18688, jn_32400, jn_99999, jn_100000, jn_1000000, jn_858993459, jn_1431655765, jn_252645135, jl_0, jl_1, jl_2, jl_3, jl_8, jl_9, jl_10, jl_20, jl_27, jl_47, jl_96, jl_99, jl_100, jl_200, jl_555, jl_2000, jl_10000, jl_12345, jl_65536, jl_99999, jl_131638, jl_240023, jl_298288, jl_383153, jl_1306021, jl_1960084, jl_4147840, jl_8740238, jl_9872299, jl_175252482, jl_291595537, jl_1103515245, jl_2000000000, jl_2147483648, jl_4721686497, jl_7873079139, J_add, J_sub, J_mul, J_neg, JL_add, JL_sub, JL_mul, JL_neg, J_long, JL_int, ↓remI_fold, ↓remL_fold, Int.reduceAdd, Int.reduceSub, Int.reduceMul, Int.reduceNeg, Int.reduceToNat, Classical.not_not, em_t, Bp_eq0, Bp_eq1, Bp_01, Bp_mk, Bp_mk', Bp_0, Bp_0', Bp_1, Bp_1', if_true, if_false, ite_not, mp_0, M_isGust hG' hx hn, Option.bind_some]
  by_cases h1 : 0 < cR C
  case neg => exact ⟨_, by rw [if_neg (fun h => h1 h.1), if_neg h1], hF⟩
  by_cases h2 : 0 ≤ x ∧ x ≤ 2000000000
  case neg => exact ⟨_, by rw [if_neg (fun h => h2 h.2.1), if_pos h1, if_neg h2], hF⟩
  by_cases h3 : 0 ≤ n ∧ n ≤ 2000
  case neg => exact ⟨_, by rw [if_neg (fun h => h3 h.2.2), if_pos h1, if_pos h2, if_neg h3], hF⟩
  rw [if_pos ⟨h1, h2, h3⟩]
  simp only [if_pos h1, if_pos h2, if_pos h3]
  rw [J_long hk, M_in (by omega), Option.bind_some]
  simp only [Classical.not_not, em_t, Bp_eq0, Bp_eq1, Bp_01, Bp_mk, Bp_mk', Bp_0, Bp_0', Bp_1, Bp_1', if_true, if_false, ite_not]
  by_cases h4 : 1 ≤ k ∧ k ≤ 20
  case neg => exact ⟨_, by rw [if_neg h4, if_neg h4], hF⟩
  simp only [if_pos h4]
  rw [M_isUp hG' (by omega), Option.bind_some]
  simp only [Classical.not_not, em_t, Bp_eq0, Bp_eq1, Bp_01, Bp_mk, Bp_mk', Bp_0, Bp_0', Bp_1, Bp_1', if_true, if_false, ite_not]
  by_cases h5 : kp C = true
  case neg => exact ⟨_, by rw [if_neg h5, if_neg h5], hF⟩
  simp only [if_pos h5]
  obtain ⟨m, hr⟩ : ∃ r : Nat, n = r := ⟨n.toNat, by omega⟩
  subst hr
  obtain ⟨k, hr⟩ : ∃ r : Nat, k = r := ⟨k.toNat, by omega⟩
  subst hr
  simp only [Int.toNat_natCast]
  have key : ∀ (i : Nat), i ≤ k → ∃ S', FrM (mSI S 0 (J 0)) S' ∧ fX5_years_44 N o (J x) (J k) (J m) (fun y11 w12 => some (y11, w12)) N (J 0) (J 0) (emM o (mSI S 0 (J 0)) w) = fX5_years_44 N o (J x) (J k) (J m) (fun y11 w12 => some (y11, w12)) (N - i) (J (sm (fun i => ind (0 < (wnd C (x + i) m).2.1)) i)) (J i) (emM o S' w) := by
    intro i
    induction i with
    | zero => intro _; exact ⟨_, FrM_r _, rfl⟩
    | succ i ih =>
      intro hi
      have ⟨S', hF', e⟩ := ih (by omega)
      have hG2 := FrM_G hF' hG'
      have ⟨f, eb⟩ := M_blows (N := N) (o := o) (w := w) hG2 ho h5 hN (x := x + i) (by omega) (m := m) (by omega)
      refine ⟨mWn S' (wnd C (x + i) m) f, FrM_t hF' (mWn_Fr _ _ _), ?_⟩
      rw [e, show N - i = (N - (i + 1)) + 1 by omega, fX5_years_44]
      have hb := (wnd_bd h5 ho (x := x + i) (by omega) m).2.1
      have eL : (J x).toInt64 + (J (i : Int)).toInt64 = JL (x + i) := by rw [J_long (by omega), J_long (by omega), JL_add]
      simp (disch := omega) only [jn_0, jn_1, jn_2, jn_3, jn_4, jn_5, jn_6, jn_8, jn_9, jn_10, jn_11, jn_12, jn_16, jn_20, jn_24, jn_30, jn_31, jn_32, jn_36, jn_48, jn_57, jn_59, jn_60, jn_63, jn_72, jn_73, jn_96, jn_97, jn_100, jn_122, jn_144, jn_200, jn_240, jn_288, jn_512, jn_840, jn_1200, jn_1600, jn_5040, jn_5390, jn_5400, jn_9999, jn_18688, jn_32400, jn_99999, jn_100000, jn_1000000, jn_858993459, jn_1431655765, jn_252645135, jl_0, jl_1, jl_2, jl_3, jl_8, jl_9, jl_10, jl_20, jl_27, jl_47, jl_96, jl_99, jl_100, jl_200, jl_555, jl_2000, jl_10000, jl_12345, jl_65536, jl_99999, jl_131638, jl_240023, jl_298288, jl_383153, jl_1306021, jl_1960084, jl_4147840, jl_8740238, jl_9872299, jl_175252482, jl_291595537, jl_1103515245, jl_2000000000, jl_2147483648, jl_4721686497, jl_7873079139, J_add, J_sub, J_mul, J_neg, JL_add, JL_sub, JL_mul, JL_neg, J_long, JL_int, Int.reduceAdd, Int.reduceSub, Int.reduceMul, Int.reduceNeg, Int.reduceToNat, J_le]
      rw [if_neg (by omega)]
      rw [eb, Option.bind_some, mg_43, Option.bind_some, mWn_43]
      simp only [sm, ind, Option.bind_some, castS]
      by_cases h6 : 0 < (wnd C (x + i) m).2.1
      · rw [if_neg (by rw [J_le (by omega)]; omega), if_pos h6]
      · rw [if_pos (by rw [J_le (by omega)]; omega), if_neg h6]
  have ⟨S', hF', e⟩ := key k (Nat.le_refl k)
  refine ⟨S', ?_, FrM_t hF hF'⟩
  rw [e, show N - k = (N - k - 1) + 1 by omega, fX5_years_44, if_pos (by rw [J_le (by omega)]; omega)]
end
