/-! the component: the wind -/
set_option maxRecDepth 100000
/-- its own cells and the draws, in the wind -/
def xWn (S : XS) (s : Wn) (f : Nat → Int32) : XS := xSR (xSI (xSI (xSI S 19 (J s.2.1)) 20 (J s.2.2.1)) 21 (J s.2.2.2.1)) 21 f
def wDr (w : Wd) (d : Nat) (x : Int) : Wd := wup w d (.inr (12, [.long (JL x)]))
section
variable {N o c d : Nat} {S : XS} {w : Wd} {C : Cy} {th : Nat → Nat}
theorem xWn_19 (S : XS) (s : Wn) (f : Nat → Int32) : xi (xWn S s f) 19 = J s.2.1 := rfl
theorem xWn_20 (S : XS) (s : Wn) (f : Nat → Int32) : xi (xWn S s f) 20 = J s.2.2.1 := rfl
theorem xWn_21 (S : XS) (s : Wn) (f : Nat → Int32) : xi (xWn S s f) 21 = J s.2.2.2.1 := rfl
theorem xWn_a (S : XS) (s : Wn) (f : Nat → Int32) : xa (xWn S s f) 21 = f := rfl
theorem xWn_c (S : XS) (s : Wn) (f : Nat → Int32) : xc (xWn S s f) = xc S := rfl
theorem xWn_s19 (S : XS) (s : Wn) (f : Nat → Int32) (x : Int) : xSI (xWn S s f) 19 (J x) = xWn S (s.1, x, s.2.2) f := by
  unfold xWn xSI xSR
  refine Prod.ext rfl (Prod.ext (funext fun j => ?_) rfl)
  simp only
  by_cases h : j = 19
  · simp [h]
  · by_cases h2 : j = 20 <;> by_cases h3 : j = 21 <;> simp [h, h2, h3]
theorem xWn_s20 (S : XS) (s : Wn) (f : Nat → Int32) (x : Int) : xSI (xWn S s f) 20 (J x) = xWn S (s.1, s.2.1, x, s.2.2.2) f := by
  unfold xWn xSI xSR
  refine Prod.ext rfl (Prod.ext (funext fun j => ?_) rfl)
  simp only
  by_cases h : j = 20
  · simp [h]
  · by_cases h2 : j = 19 <;> by_cases h3 : j = 21 <;> simp [h, h2, h3]
theorem xWn_s21 (S : XS) (s : Wn) (f : Nat → Int32) (x : Int) : xSI (xWn S s f) 21 (J x) = xWn S (s.1, s.2.1, s.2.2.1, x, s.2.2.2.2) f := by
  unfold xWn xSI xSR
  refine Prod.ext rfl (Prod.ext (funext fun j => ?_) rfl)
  simp only
  by_cases h : j = 21
  · simp [h]
  · by_cases h2 : j = 19 <;> by_cases h3 : j = 20 <;> simp [h, h2, h3]
theorem xWn_sA (S : XS) (s : Wn) (f : Nat → Int32) (i : Nat) (x : Int32) : xSA (xWn S s f) 21 i x = xWn S s (upd f i x) := by
  unfold xWn; rw [xSA_R]
theorem xWn_ms (S : XS) (s : Wn) (f : Nat → Int32) (x : Int) (g : Nat → Nat → Bool) : xWn S (x, s.2.1, s.2.2.1, s.2.2.2.1, g) f = xWn S s f := rfl
theorem xWn_Fr (S : XS) (s : Wn) (f : Nat → Int32) : FrX S (xWn S s f) := FrX_t (FrX_t (FrX_t (FrX_I S 19 _ (by decide)) (FrX_I _ 20 _ (by decide))) (FrX_I _ 21 _ (by decide))) (FrX_R _ 21 _ (by decide))
theorem X_bl138 (hX : ∀ S x, Hc (emX o S (wDr w d x)) c th C) {r t : Nat} (hr : r < cR C) (ht : t ≤ 2000) (s : Wn) (f : Nat → Int32) (x : Int) (P : Prop) [Decidable P] : fX0_blows_2_138 N (emX o (xWn S s f) (wDr w d x)) o (J t) (th r) (J (hh C r t)) (Bp P) = some (emX o (xWn S s (if P then upd f (10 * tt C r t + (t + hh C r t) % 10) (J 1) else f)) (wDr w d x)) := by
  have hR := cR_le C
  have h9 := hh_le C r t
  have h5 := tt_le C r t
  have h := hX (xWn S s f) x
  unfold fX0_blows_2_138
  simp only [jn_0, jn_1, jn_2, jn_3, jn_4, jn_5, jn_6, jn_8, jn_9, jn_10, jn_11, jn_12, jn_16, jn_20, jn_24, jn_30, jn_31, jn_32, jn_36, jn_48, jn_57, jn_59, jn_60, jn_63, jn_72, jn_73, jn_96, jn_97, jn_100, jn_122, jn_144, jn_200, jn_240, jn_288, jn_512, jn_840, jn_1200, jn_1600, jn_5040, jn_5390, jn_5400, jn_9999, jn_18688, jn_32400, jn_99999, jn_100000, jn_1000000, jn_858993459, jn_1431655765, jn_252645135, jl_0, jl_1, jl_2, jl_3, jl_8, jl_9, jl_10, jl_20, jl_27, jl_47, jl_96, jl_99, jl_100, jl_200, jl_555, jl_2000, jl_10000, jl_12345, jl_65536, jl_99999, jl_131638, jl_240023, jl_298288, jl_383153, jl_1306021, jl_1960084, jl_4147840, jl_8740238, jl_9872299, jl_175252482, jl_291595537, jl_1103515245, jl_2000000000, jl_2147483648, jl_4721686497, jl_7873079139, J_add, J_sub, J_mul, J_neg, JL_add, JL_sub, JL_mul, JL_neg, J_long, JL_int, ↓remI_fold, ↓remL_fold, Int.reduceAdd, Int.reduceSub, Int.reduceMul, Int.reduceNeg, Int.reduceToNat, Classical.not_not, em_t, Bp_eq0, Bp_eq1, Bp_01, Bp_mk, Bp_mk', Bp_0, Bp_0', Bp_1, Bp_1', if_true, if_false, ite_not]
  by_cases hP : P
  · rw [if_pos hP, if_pos hP, xg_18, Option.bind_some, ht_k h hr, Option.bind_some, X_to h hr (by omega), Option.bind_some, J_rem (by omega), J_mul, J_add, xw_21 o _ _ _ (by omega), Option.bind_some, nar_31, xWn_sA, show (10 * (tt C r t : Int) + ((t : Int) + (hh C r t : Int)) % 10).toNat = 10 * tt C r t + (t + hh C r t) % 10 by omega]
  · rw [if_neg hP, if_neg hP]
theorem X_draw (hd : ¬ own o d) {x : Int} (hx : 0 ≤ x ∧ x ≤ 2147483648) : fX12_next N (emX o S (wDr w d x)) d = some (J (rnx x / 65536 % 100), emX o S (wDr w d (rnx x))) := by
  have hb := rnx_bd hx.1
  have e0 : ∀ y, emX o S (wDr w d y) d = some (.inr (12, [.long (JL y)])) := fun y => by rw [emX_out o S _ d hd]; exact wup_s _ _ _
  unfold fX12_next
  simp only [jn_0, jn_1, jn_2, jn_3, jn_4, jn_5, jn_6, jn_8, jn_9, jn_10, jn_11, jn_12, jn_16, jn_20, jn_24, jn_30, jn_31, jn_32, jn_36, jn_48, jn_57, jn_59, jn_60, jn_63, jn_72, jn_73, jn_96, jn_97, jn_100, jn_122, jn_144, jn_200, jn_240, jn_288, jn_512, jn_840, jn_1200, jn_1600, jn_5040, jn_5390, jn_5400, jn_9999, jn_18688, jn_32400, jn_99999, jn_100000, jn_1000000, jn_858993459, jn_1431655765, jn_252645135, jl_0, jl_1, jl_2, jl_3, jl_8, jl_9, jl_10, jl_20, jl_27, jl_47, jl_96, jl_99, jl_100, jl_200, jl_555, jl_2000, jl_10000, jl_12345, jl_65536, jl_99999, jl_131638, jl_240023, jl_298288, jl_383153, jl_1306021, jl_1960084, jl_4147840, jl_8740238, jl_9872299, jl_175252482, jl_291595537, jl_1103515245, jl_2000000000, jl_2147483648, jl_4721686497, jl_7873079139, J_add, J_sub, J_mul, J_neg, JL_add, JL_sub, JL_mul, JL_neg, J_long, JL_int, ↓remI_fold, ↓remL_fold, Int.reduceAdd, Int.reduceSub, Int.reduceMul, Int.reduceNeg, Int.reduceToNat]
  have e1 : JL 1103515245 * JL x + JL 12345 = JL (1103515245 * x + 12345) := by rw [JL_mul, JL_add]
  have e2 : remL (JL (1103515245 * x + 12345)) (JL 2147483648) = JL (rnx x) := JL_rem (by omega)
  have e3 : wup (emX o S (wDr w d x)) d (.inr (12, [.long (JL (rnx x))])) = emX o S (wDr w d (rnx x)) := by
    rw [emX_wup hd]; unfold wDr; rw [wup_wup]
  have e4 : pF (emX o S (wDr w d x)) [12] d 0 (.long (JL (rnx x))) = some (emX o S (wDr w d (rnx x))) := by
    rw [pF_of (.long (JL (rnx x))) (e0 x) (by decide) (show 0 < 1 by decide)]
    exact congrArg some e3
  have d1 : JL (rnx x) / JL 65536 = JL (rnx x / 65536) := JL_div (by omega)
  have d2 : remL (JL (rnx x / 65536)) (JL 100) = JL (rnx x / 65536 % 100) := JL_rem (by omega)
  rw [gL_of (e0 x) (by decide) rfl, Option.bind_some, e1, e2, e4, Option.bind_some, gL_of (e0 (rnx x)) (by decide) rfl, Option.bind_some, d1, d2, JL_int]
theorem X_bl106 (hX : ∀ S x, Hc (emX o S (wDr w d x)) c th C) {r t : Nat} (hr : r < cR C) (ht : t ≤ 2000) (s : Wn) (hW : WI C t r s) (f : Nat → Int32) (x : Int) : ((gI (emX o (xWn S s f) (wDr w d x)) [0] o 19).bind fun x20 => if x20 = J 0 then fX0_blows_2_106 N (emX o (xWn S s f) (wDr w d x)) o (J t) (th r) (J (hh C r t)) (J 1) o (J r) else (gI (emX o (xWn S s f) (wDr w d x)) [0] o 21).bind fun x21 => fX0_blows_2_106 N (emX o (xWn S s f) (wDr w d x)) o (J t) (th r) (J (hh C r t)) (J 1) o x21) = some (emX o (xWn S (s.1, s.2.1 + 1, if s.2.1 = 0 then (t : Int) else s.2.2.1, if s.2.1 = 0 then (r : Int) else s.2.2.2.1, s.2.2.2.2) (upd f (10 * tt C r t + (t + hh C r t) % 10) (J 1))) (wDr w d x)) := by
  obtain ⟨h1, h2, h3, h4, h5, h6⟩ := hW
  have hR := cR_le C
  have q := fun (s' : Wn) => X_bl138 (N := N) (S := S) hX hr ht s' f x True
  simp only [if_true, Bp_t trivial] at q
  have hz : (J s.2.1 = J 0) = (s.2.1 = 0) := J_eq (by omega)
  unfold fX0_blows_2_106 fX0_blows_2_125
  by_cases h0 : s.2.1 = 0
  · simp only [jn_0, jn_1, jn_2, jn_3, jn_4, jn_5, jn_6, jn_8, jn_9, jn_10, jn_11, jn_12, jn_16, jn_20, jn_24, jn_30, jn_31, jn_32, jn_36, jn_48, jn_57, jn_59, jn_60, jn_63, jn_72, jn_73, jn_96, jn_97, jn_100, jn_122, jn_144, jn_200, jn_240, jn_288, jn_512, jn_840, jn_1200, jn_1600, jn_5040, jn_5390, jn_5400, jn_9999, jn_18688, jn_32400, jn_99999, jn_100000, jn_1000000, jn_858993459, jn_1431655765, jn_252645135, jl_0, jl_1, jl_2, jl_3, jl_8, jl_9, jl_10, jl_20, jl_27, jl_47, jl_96, jl_99, jl_100, jl_200, jl_555, jl_2000, jl_10000, jl_12345, jl_65536, jl_99999, jl_131638, jl_240023, jl_298288, jl_383153, jl_1306021, jl_1960084, jl_4147840, jl_8740238, jl_9872299, jl_175252482, jl_291595537, jl_1103515245, jl_2000000000, jl_2147483648, jl_4721686497, jl_7873079139, J_add, J_sub, J_mul, J_neg, JL_add, JL_sub, JL_mul, JL_neg, J_long, JL_int, ↓remI_fold, ↓remL_fold, Int.reduceAdd, Int.reduceSub, Int.reduceMul, Int.reduceNeg, Int.reduceToNat, xg_19, xg_20, xg_21, xp_19, xp_20, xp_21, xWn_19, xWn_20, xWn_21, xWn_s19, xWn_s20, xWn_s21, Option.bind_some, q, hz, h0, if_true]
  · simp only [jn_0, jn_1, jn_2, jn_3, jn_4, jn_5, jn_6, jn_8, jn_9, jn_10, jn_11, jn_12, jn_16, jn_20, jn_24, jn_30, jn_31, jn_32, jn_36, jn_48, jn_57, jn_59, jn_60, jn_63, jn_72, jn_73, jn_96, jn_97, jn_100, jn_122, jn_144, jn_200, jn_240, jn_288, jn_512, jn_840, jn_1200, jn_1600, jn_5040, jn_5390, jn_5400, jn_9999, jn_18688, jn_32400, jn_99999, jn_100000, jn_1000000, jn_858993459, jn_1431655765, jn_252645135, jl_0, jl_1, jl_2, jl_3, jl_8, jl_9, jl_10, jl_20, jl_27, jl_47, jl_96, jl_99, jl_100, jl_200, jl_555, jl_2000, jl_10000, jl_12345, jl_65536, jl_99999, jl_131638, jl_240023, jl_298288, jl_383153, jl_1306021, jl_1960084, jl_4147840, jl_8740238, jl_9872299, jl_175252482, jl_291595537, jl_1103515245, jl_2000000000, jl_2147483648, jl_4721686497, jl_7873079139, J_add, J_sub, J_mul, J_neg, JL_add, JL_sub, JL_mul, JL_neg, J_long, JL_int, ↓remI_fold, ↓remL_fold, Int.reduceAdd, Int.reduceSub, Int.reduceMul, Int.reduceNeg, Int.reduceToNat, xg_19, xg_20, xg_21, xp_19, xp_20, xp_21, xWn_19, xWn_20, xWn_21, xWn_s19, xWn_s20, xWn_s21, Option.bind_some, q, hz, h0, if_false]
theorem X_blowsAt (hX : ∀ S x, Hc (emX o S (wDr w d x)) c th C) (hc : xc S = c) (hd : ¬ own o d) {r t : Nat} (hr : r < cR C) (ht : t ≤ 2000) (s : Wn) (hW : WI C t r s) (f : Nat → Int32) (hf : Rg C 10 t r f s.2.2.2.2) : fX0_blows_2 N (emX o (xWn S s f) (wDr w d s.1)) o d (J r) (J t) = some (emX o (xWn S (wst C t r s) (rgS C 10 t r s f)) (wDr w d (wst C t r s).1)) := by
  have hR := cR_le C
  have h9 := hh_le C r t
  have h := hX (xWn S s f) s.1
  have hg : gR (emX o (xWn S s f) (wDr w d s.1)) [0] o 0 = some c := xg hc
  have hslot := hf r t hr (by rw [if_neg (by omega)]; omega)
  have hgb := cG_bd C
  have hob := cO_le C
  have hx := rnx_bd hW.1.1
  have hx0 := hW.1
  have e3 := hc_at h (z := (r : Int)) (by omega)
  rw [Int.toNat_natCast] at e3
  have es : (10 * (r : Int) + (t : Int) % 10).toNat = 10 * r + t % 10 := by omega
  have a1 : remI (J (t : Int)) (J 10) = J ((t : Int) % 10) := J_rem (by omega)
  have a2 : aI 3 (emX o (xWn S s f) (wDr w d s.1)) (o + 21) (J (10 * (r : Int) + (t : Int) % 10)) = some (Bp (s.2.2.2.2 r t = true)) := by rw [xr_21 o _ _ (by omega), es, xWn_a, hslot]
  have a3 : sI 3 (emX o (xWn S s f) (wDr w d s.1)) (o + 21) (J (10 * (r : Int) + (t : Int) % 10)) (J 0) = some (emX o (xWn S s (upd f (10 * r + t % 10) (J 0))) (wDr w d s.1)) := by rw [xw_21 o _ _ _ (by omega), es, nar_30, xWn_sA]
  have a4 := X_height (N := N) h hr (b := (t : Int)) (by omega)
  unfold fX0_blows_2
  simp only [jn_0, jn_1, jn_2, jn_3, jn_4, jn_5, jn_6, jn_8, jn_9, jn_10, jn_11, jn_12, jn_16, jn_20, jn_24, jn_30, jn_31, jn_32, jn_36, jn_48, jn_57, jn_59, jn_60, jn_63, jn_72, jn_73, jn_96, jn_97, jn_100, jn_122, jn_144, jn_200, jn_240, jn_288, jn_512, jn_840, jn_1200, jn_1600, jn_5040, jn_5390, jn_5400, jn_9999, jn_18688, jn_32400, jn_99999, jn_100000, jn_1000000, jn_858993459, jn_1431655765, jn_252645135, jl_0, jl_1, jl_2, jl_3, jl_8, jl_9, jl_10, jl_20, jl_27, jl_47, jl_96, jl_99, jl_100, jl_200, jl_555, jl_2000, jl_10000, jl_12345, jl_65536, jl_99999, jl_131638, jl_240023, jl_298288, jl_383153, jl_1306021, jl_1960084, jl_4147840, jl_8740238, jl_9872299, jl_175252482, jl_291595537, jl_1103515245, jl_2000000000, jl_2147483648, jl_4721686497, jl_7873079139, J_add, J_sub, J_mul, J_neg, JL_add, JL_sub, JL_mul, JL_neg, J_long, JL_int, ↓remI_fold, ↓remL_fold, Int.reduceAdd, Int.reduceSub, Int.reduceMul, Int.reduceNeg, Int.reduceToNat, hg, hc_7 h, e3, ht_k h hr, a4, xg_18, a1, a2, a3, Option.bind_some]
  generalize hF : upd f (10 * r + t % 10) (J 0) = f0
  unfold rgS wst
  rw [hF]
  have hz : (J (hh C r t : Int) = J 0) = (hh C r t = 0) := by rw [J_eq (by omega), cast0]
  by_cases h0 : hh C r t = 0
  · simp only [hz, if_pos h0]
  have h2 := hX (xWn S s f0) s.1
  have hg2 : gR (emX o (xWn S s f0) (wDr w d s.1)) [0] o 0 = some c := xg hc
  have b138 := fun (x : Int) (P : Prop) (inst : Decidable P) => @X_bl138 N o c d S w C th hX r t hr ht s f0 x P inst
  have hlt : (J (hh C r t : Int) < J (cG C : Int)) = (hh C r t < cG C) := by rw [J_lt (by omega), castT]
  by_cases hm : s.2.2.2.2 r t = true
  · have hdw : drw C r t s = false := by unfold drw; rw [hm]; rfl
    have hgo : gon C r t s = true := by unfold gon; rw [hm]; rfl
    simp only [hz, h0, if_false, Classical.not_not, em_t, Bp_eq0, Bp_eq1, Bp_01, Bp_mk, Bp_mk', Bp_0, Bp_0', Bp_1, Bp_1', if_true, if_false, ite_not, hm, if_true, b138, hdw, hgo, Bool.false_and, Bool.false_eq_true]
    rfl
  · have hdr : ckC (emX o (xWn S s f0) (wDr w d s.1)) [12] d = some 12 := ckC_of (fs := [.long (JL s.1)]) (by rw [emX_out o _ _ d hd]; exact wup_s _ _ _) (by decide)
    have h3 := hX (xWn S s f0) (rnx s.1)
    have hg3 : gR (emX o (xWn S s f0) (wDr w d (rnx s.1))) [0] o 0 = some c := xg hc
    have dr := X_draw (N := N) (S := xWn S s f0) (w := w) hd (x := s.1) (by omega)
    have hle : (J (cO C : Int) ≤ J (rnx s.1 / 65536 % 100)) = ((cO C : Int) ≤ rnx s.1 / 65536 % 100) := J_le (by omega)
    have hh1 : hit C s.1 = decide (rnx s.1 / 65536 % 100 < cO C) := rfl
    by_cases hgh : hh C r t < cG C
    · have hdw : drw C r t s = false := by unfold drw; simp [show ¬ cG C ≤ hh C r t by omega]
      have hgo : gon C r t s = false := by unfold gon; rw [hdw]; simpa using hm
      simp only [hz, h0, if_false, Classical.not_not, em_t, Bp_eq0, Bp_eq1, Bp_01, Bp_mk, Bp_mk', Bp_0, Bp_0', Bp_1, Bp_1', if_true, if_false, ite_not, hm, hg2, hc_4 h2, Option.bind_some, hlt, hgh, if_true, b138, hdw, hgo, Bool.false_and, Bool.false_eq_true]
    · have hdw : drw C r t s = true := by unfold drw; simp [hm, show cG C ≤ hh C r t by omega]
      by_cases hcc : (cO C : Int) ≤ rnx s.1 / 65536 % 100
      · have hh2 : hit C s.1 = false := by rw [hh1, decide_eq_false_iff_not]; omega
        have hgo : gon C r t s = false := by unfold gon; rw [hdw, hh2]; simpa using hm
        simp only [hz, h0, if_false, Classical.not_not, em_t, Bp_eq0, Bp_eq1, Bp_01, Bp_mk, Bp_mk', Bp_0, Bp_0', Bp_1, Bp_1', if_true, if_false, ite_not, hm, hg2, hc_4 h2, Option.bind_some, hlt, hgh, hdr, dr, hg3, hc_5 h3, hle, hcc, if_true, b138, hdw, hgo, hh2, Bool.and_false, Bool.false_eq_true]
        rfl
      · have hh2 : hit C s.1 = true := by rw [hh1, decide_eq_true_iff]; omega
        have hgo : gon C r t s = true := by unfold gon; rw [hdw, hh2]; simp
        have b106 := X_bl106 (N := N) (S := S) hX hr ht s hW f0 (rnx s.1)
        simp only [hz, h0, if_false, Classical.not_not, em_t, Bp_eq0, Bp_eq1, Bp_01, Bp_mk, Bp_mk', Bp_0, Bp_0', Bp_1, Bp_1', if_true, if_false, ite_not, hm, hg2, hc_4 h2, Option.bind_some, hlt, hgh, hdr, dr, hg3, hc_5 h3, hle, hcc, hdw, hgo, hh2, Bool.and_self, if_true, Bool.false_eq_true]
        refine Eq.trans b106 ?_
        rfl
theorem X_bl64 (hX : ∀ S x, Hc (emX o S (wDr w d x)) c th C) (hc : xc S = c) (hd : ¬ own o d) (ho : OkC C) (hk : kp C = true) {t : Nat} (ht : t ≤ 2000) (x : Int32) (nx : Nat) (k : Wd → Nat → Option (Wd × Nat)) {n : Nat} (hn : 6 < n) (p : Wn × (Nat → Int32)) (hW : WI C t 0 p.1) (hf : Rg C 10 t 0 p.2 p.1.2.2.2.2) : fX0_blows_64 N o x d (J t) k n (J 0) (emX o (xWn S p.1 p.2) (wDr w d p.1.1)) nx = k (emX o (xWn S (wrT C 10 t p).1 (wrT C 10 t p).2) (wDr w d (wrT C 10 t p).1.1)) nx := by
  have hR := cR_le C
  have hg : ∀ (s : Wn) (f : Nat → Int32) (y : Int), gR (emX o (xWn S s f) (wDr w d y)) [0] o 0 = some c := fun s f y => xg hc
  have h0 : ∀ (s : Wn) (f : Nat → Int32) (y : Int), gI (emX o (xWn S s f) (wDr w d y)) [1] c 0 = some (J (cR C)) := fun s f y => hc_0 (hX (xWn S s f) y)
  have key := lp_fold (fun n i (p : Wn × (Nat → Int32)) => fX0_blows_64 N o x d (J t) k n (J (i : Int)) (emX o (xWn S p.1 p.2) (wDr w d p.1.1)) nx) (fun p => k (emX o (xWn S p.1 p.2) (wDr w d p.1.1)) nx) (cR C) (fun r p => wr1 C 10 t r p) (fun r p => WI C t r p.1 ∧ Rg C 10 t r p.2 p.1.2.2.2.2) ?_ ?_ n p (by omega) ⟨hW, hf⟩
  · exact key.1
  · intro n i s hi hI
    try dsimp only
    refine ⟨?_, ?_⟩
    rotate_left
    exact ⟨wst_WI hk ho hi hI.1, Rg_step (by omega) hi ho hI.1 hI.2⟩
    rw [fX0_blows_64]
    simp (disch := omega) only [jn_0, jn_1, jn_2, jn_3, jn_4, jn_5, jn_6, jn_8, jn_9, jn_10, jn_11, jn_12, jn_16, jn_20, jn_24, jn_30, jn_31, jn_32, jn_36, jn_48, jn_57, jn_59, jn_60, jn_63, jn_72, jn_73, jn_96, jn_97, jn_100, jn_122, jn_144, jn_200, jn_240, jn_288, jn_512, jn_840, jn_1200, jn_1600, jn_5040, jn_5390, jn_5400, jn_9999, jn_18688, jn_32400, jn_99999, jn_100000, jn_1000000, jn_858993459, jn_1431655765, jn_252645135, jl_0, jl_1, jl_2, jl_3, jl_8, jl_9, jl_10, jl_20, jl_27, jl_47, jl_96, jl_99, jl_100, jl_200, jl_555, jl_2000, jl_10000, jl_12345, jl_65536, jl_99999, jl_131638, jl_240023, jl_298288, jl_383153, jl_1306021, jl_1960084, jl_4147840, jl_8740238, jl_9872299, jl_175252482, jl_291595537, jl_1103515245, jl_2000000000, jl_2147483648, jl_4721686497, jl_7873079139, J_add, J_sub, J_mul, J_neg, JL_add, JL_sub, JL_mul, JL_neg, J_long, JL_int, ↓remI_fold, ↓remL_fold, Int.reduceAdd, Int.reduceSub, Int.reduceMul, Int.reduceNeg, Int.reduceToNat, hg, h0, J_le, castS, Option.bind_some]
    rw [if_neg (by omega), X_blowsAt hX hc hd hi ht s.1 hI.1 s.2 hI.2, Option.bind_some]
    rfl
  · intro n s hI
    try dsimp only
    rw [fX0_blows_64]
    simp (disch := omega) only [jn_0, jn_1, jn_2, jn_3, jn_4, jn_5, jn_6, jn_8, jn_9, jn_10, jn_11, jn_12, jn_16, jn_20, jn_24, jn_30, jn_31, jn_32, jn_36, jn_48, jn_57, jn_59, jn_60, jn_63, jn_72, jn_73, jn_96, jn_97, jn_100, jn_122, jn_144, jn_200, jn_240, jn_288, jn_512, jn_840, jn_1200, jn_1600, jn_5040, jn_5390, jn_5400, jn_9999, jn_18688, jn_32400, jn_99999, jn_100000, jn_1000000, jn_858993459, jn_1431655765, jn_252645135, jl_0, jl_1, jl_2, jl_3, jl_8, jl_9, jl_10, jl_20, jl_27, jl_47, jl_96, jl_99, jl_100, jl_200, jl_555, jl_2000, jl_10000, jl_12345, jl_65536, jl_99999, jl_131638, jl_240023, jl_298288, jl_383153, jl_1306021, jl_1960084, jl_4147840, jl_8740238, jl_9872299, jl_175252482, jl_291595537, jl_1103515245, jl_2000000000, jl_2147483648, jl_4721686497, jl_7873079139, J_add, J_sub, J_mul, J_neg, JL_add, JL_sub, JL_mul, JL_neg, J_long, JL_int, ↓remI_fold, ↓remL_fold, Int.reduceAdd, Int.reduceSub, Int.reduceMul, Int.reduceNeg, Int.reduceToNat, hg, h0, J_le, castS, Option.bind_some]
    rw [if_pos (by omega)]
theorem X_blows (hX : ∀ S x, Hc (emX o S (wDr w d x)) c th C) (hc : xc S = c) (hd : ¬ own o d) (ho : OkC C) (hk : kp C = true) (hN : 1000000 ≤ N) {x : Int} (hx : 0 ≤ x ∧ x ≤ 2147483647) {m : Nat} (hm : m ≤ 2000) : ∃ f, fX0_blows N (emX o S w) d o (JL x) (J m) = some (emX o (xWn S (wnd C x m) f) (wDr w d (wnd C x m).1), d + 1) := by
  have hR := cR_le C
  have e0 : ∀ fs, emX o S (wup w d (.inr (12, fs))) d = some (.inr (12, fs)) := fun fs => by rw [emX_out o S _ d hd]; exact wup_s _ _ _
  have e1 : wup (emX o S w) d (.inr (12, newX12)) = emX o S (wup w d (.inr (12, newX12))) := emX_wup hd
  have e2 : pF (emX o S (wup w d (.inr (12, newX12)))) [12] d 0 (.long (JL x)) = some (emX o S (wDr w d x)) := by
    rw [pF_of (.long (JL x)) (e0 newX12) (by decide) (show 0 < 1 by decide), emX_wup hd, wup_wup]; rfl
  unfold fX0_blows fX12_init
  simp only [Option.bind_some, e1, e2]
  simp only [jn_0, jn_1, jn_2, jn_3, jn_4, jn_5, jn_6, jn_8, jn_9, jn_10, jn_11, jn_12, jn_16, jn_20, jn_24, jn_30, jn_31, jn_32, jn_36, jn_48, jn_57, jn_59, jn_60, jn_63, jn_72, jn_73, jn_96, jn_97, jn_100, jn_122, jn_144, jn_200, jn_240, jn_288, jn_512, jn_840, jn_1200, jn_1600, jn_5040, jn_5390, jn_5400, jn_9999, jn_18688, jn_32400, jn_99999, jn_100000, jn_1000000, jn_858993459, jn_1431655765, jn_252645135, jl_0, jl_1, jl_2, jl_3, jl_8, jl_9, jl_10, jl_20, jl_27, jl_47, jl_96, jl_99, jl_100, jl_200, jl_555, jl_2000, jl_10000, jl_12345, jl_65536, jl_99999, jl_131638, jl_240023, jl_298288, jl_383153, jl_1306021, jl_1960084, jl_4147840, jl_8740238, jl_9872299, jl_175252482, jl_291595537, jl_1103515245, jl_2000000000, jl_2147483648, jl_4721686497, jl_7873079139, J_add, J_sub, J_mul, J_neg, JL_add, JL_sub, JL_mul, JL_neg, J_long, JL_int, ↓remI_fold, ↓remL_fold, Int.reduceAdd, Int.reduceSub, Int.reduceMul, Int.reduceNeg, Int.reduceToNat]
  have e3 : S = xSR S 21 (fun j => if j < 0 then J 0 else xa S 21 j) := by
    have : (fun j => if j < 0 then J 0 else xa S 21 j) = xa S 21 := by funext j; rw [if_neg (by omega)]
    rw [this]; exact (xSR_id S 21).symm
  have k1 := lp_cnt (fun n i => fX0_blows_13 N o (J m) d (fun w8 y9 => (pF w8 [0] o 19 (.int (J 0))).bind fun w10 => (pF w10 [0] o 20 (.int (J (-1)))).bind fun w11 => (pF w11 [0] o 21 (.int (J (-1)))).bind fun w12 => fX0_blows_55 N o (J m) d (fun w20 y21 => some (w20, y21)) N (J 0) w12 y9) n (J (i : Int)) (emX o (xSR S 21 (fun j => if j < i then J 0 else xa S 21 j)) (wDr w d x)) (d + 1)) (fX0_blows_55 N o (J m) d (fun w20 y21 => some (w20, y21)) N (J 0) (emX o (xWn S (x, 0, -1, -1, fun _ _ => false) (fun j => if j < 60 then J 0 else xa S 21 j)) (wDr w d x)) (d + 1)) 60 ?_ ?_ N (by omega)
  · rw [← e3] at k1
    rw [show J ((0 : Nat) : Int) = J 0 from rfl] at k1
    rw [k1]
    have hf0 : Rg C 10 0 0 (fun j => if j < 60 then J 0 else xa S 21 j) (fun _ _ => false) := Rg_0 C 10 _ (fun q b hq => by
      have := Nat.mod_lt b (show 10 > 0 by decide)
      rw [if_pos (by omega)])
    have key := lp_fold (fun n i (p : Wn × (Nat → Int32)) => fX0_blows_55 N o (J m) d (fun w20 y21 => some (w20, y21)) n (J (i : Int)) (emX o (xWn S p.1 p.2) (wDr w d p.1.1)) (d + 1)) (fun p => some (emX o (xWn S p.1 p.2) (wDr w d p.1.1), d + 1)) m (fun t p => wrT C 10 t p) (fun t p => WI C t 0 p.1 ∧ Rg C 10 t 0 p.2 p.1.2.2.2.2) ?_ ?_ N ((x, 0, -1, -1, fun _ _ => false), fun j => if j < 60 then J 0 else xa S 21 j) (by omega) ⟨WI_0 (by omega), hf0⟩
    · have ew : ∀ k, (fo (fun t p => wrT C 10 t p) k (((x, 0, -1, -1, fun _ _ => false), fun j => if j < 60 then J 0 else xa S 21 j) : Wn × (Nat → Int32))).1 = fo (fun t s => wnT C t s) k (x, 0, -1, -1, fun _ _ => false) := by
        intro k
        induction k with
        | zero => rfl
        | succ k ih =>
          show (wrT C 10 k _).1 = wnT C k _
          rw [← ih]
          exact wrT_1 C 10 k (cR C) _
      refine ⟨(fo (fun t p => wrT C 10 t p) m (((x, 0, -1, -1, fun _ _ => false), fun j => if j < 60 then J 0 else xa S 21 j) : Wn × (Nat → Int32))).2, ?_⟩
      have := key.1
      rw [ew m] at this
      exact this
    · intro n i s hi hI
      refine ⟨?_, wrT_I hk ho (by omega) hI.1 hI.2⟩
      rw [fX0_blows_55]
      simp (disch := omega) only [jn_0, jn_1, jn_2, jn_3, jn_4, jn_5, jn_6, jn_8, jn_9, jn_10, jn_11, jn_12, jn_16, jn_20, jn_24, jn_30, jn_31, jn_32, jn_36, jn_48, jn_57, jn_59, jn_60, jn_63, jn_72, jn_73, jn_96, jn_97, jn_100, jn_122, jn_144, jn_200, jn_240, jn_288, jn_512, jn_840, jn_1200, jn_1600, jn_5040, jn_5390, jn_5400, jn_9999, jn_18688, jn_32400, jn_99999, jn_100000, jn_1000000, jn_858993459, jn_1431655765, jn_252645135, jl_0, jl_1, jl_2, jl_3, jl_8, jl_9, jl_10, jl_20, jl_27, jl_47, jl_96, jl_99, jl_100, jl_200, jl_555, jl_2000, jl_10000, jl_12345, jl_65536, jl_99999, jl_131638, jl_240023, jl_298288, jl_383153, jl_1306021, jl_1960084, jl_4147840, jl_8740238, jl_9872299, jl_175252482, jl_291595537, jl_1103515245, jl_2000000000, jl_2147483648, jl_4721686497, jl_7873079139, J_add, J_sub, J_mul, J_neg, JL_add, JL_sub, JL_mul, JL_neg, J_long, JL_int, ↓remI_fold, ↓remL_fold, Int.reduceAdd, Int.reduceSub, Int.reduceMul, Int.reduceNeg, Int.reduceToNat, J_le, castS, Option.bind_some]
      rw [if_neg (by omega), X_bl64 hX hc hd ho hk (by omega) _ _ _ (by omega) s hI.1 hI.2]
    · intro n s _
      rw [fX0_blows_55]
      simp (disch := omega) only [jn_0, jn_1, jn_2, jn_3, jn_4, jn_5, jn_6, jn_8, jn_9, jn_10, jn_11, jn_12, jn_16, jn_20, jn_24, jn_30, jn_31, jn_32, jn_36, jn_48, jn_57, jn_59, jn_60, jn_63, jn_72, jn_73, jn_96, jn_97, jn_100, jn_122, jn_144, jn_200, jn_240, jn_288, jn_512, jn_840, jn_1200, jn_1600, jn_5040, jn_5390, jn_5400, jn_9999, jn_18688, jn_32400, jn_99999, jn_100000, jn_1000000, jn_858993459, jn_1431655765, jn_252645135, jl_0, jl_1, jl_2, jl_3, jl_8, jl_9, jl_10, jl_20, jl_27, jl_47, jl_96, jl_99, jl_100, jl_200, jl_555, jl_2000, jl_10000, jl_12345, jl_65536, jl_99999, jl_131638, jl_240023, jl_298288, jl_383153, jl_1306021, jl_1960084, jl_4147840, jl_8740238, jl_9872299, jl_175252482, jl_291595537, jl_1103515245, jl_2000000000, jl_2147483648, jl_4721686497, jl_7873079139, J_add, J_sub, J_mul, J_neg, JL_add, JL_sub, JL_mul, JL_neg, J_long, JL_int, ↓remI_fold, ↓remL_fold, Int.reduceAdd, Int.reduceSub, Int.reduceMul, Int.reduceNeg, Int.reduceToNat, J_le]
      rw [if_pos (by omega)]
  · intro n i hi
    rw [fX0_blows_13]
    simp (disch := omega) only [jn_0, jn_1, jn_2, jn_3, jn_4, jn_5, jn_6, jn_8, jn_9, jn_10, jn_11, jn_12, jn_16, jn_20, jn_24, jn_30, jn_31, jn_32, jn_36, jn_48, jn_57, jn_59, jn_60, jn_63, jn_72, jn_73, jn_96, jn_97, jn_100, jn_122, jn_144, jn_200, jn_240, jn_288, jn_512, jn_840, jn_1200, jn_1600, jn_5040, jn_5390, jn_5400, jn_9999, jn_18688, jn_32400, jn_99999, jn_100000, jn_1000000, jn_858993459, jn_1431655765, jn_252645135, jl_0, jl_1, jl_2, jl_3, jl_8, jl_9, jl_10, jl_20, jl_27, jl_47, jl_96, jl_99, jl_100, jl_200, jl_555, jl_2000, jl_10000, jl_12345, jl_65536, jl_99999, jl_131638, jl_240023, jl_298288, jl_383153, jl_1306021, jl_1960084, jl_4147840, jl_8740238, jl_9872299, jl_175252482, jl_291595537, jl_1103515245, jl_2000000000, jl_2147483648, jl_4721686497, jl_7873079139, J_add, J_sub, J_mul, J_neg, JL_add, JL_sub, JL_mul, JL_neg, J_long, JL_int, ↓remI_fold, ↓remL_fold, Int.reduceAdd, Int.reduceSub, Int.reduceMul, Int.reduceNeg, Int.reduceToNat, J_le, xg_18, xn_21, xw_21, nar_30, xSA_R, Int.toNat_natCast, castS, Option.bind_some]
    rw [if_neg (by omega), lt_upd (fun _ => J 0) (xa S 21) i]
  · intro n
    rw [fX0_blows_13]
    simp only [jn_0, jn_1, jn_2, jn_3, jn_4, jn_5, jn_6, jn_8, jn_9, jn_10, jn_11, jn_12, jn_16, jn_20, jn_24, jn_30, jn_31, jn_32, jn_36, jn_48, jn_57, jn_59, jn_60, jn_63, jn_72, jn_73, jn_96, jn_97, jn_100, jn_122, jn_144, jn_200, jn_240, jn_288, jn_512, jn_840, jn_1200, jn_1600, jn_5040, jn_5390, jn_5400, jn_9999, jn_18688, jn_32400, jn_99999, jn_100000, jn_1000000, jn_858993459, jn_1431655765, jn_252645135, jl_0, jl_1, jl_2, jl_3, jl_8, jl_9, jl_10, jl_20, jl_27, jl_47, jl_96, jl_99, jl_100, jl_200, jl_555, jl_2000, jl_10000, jl_12345, jl_65536, jl_99999, jl_131638, jl_240023, jl_298288, jl_383153, jl_1306021, jl_1960084, jl_4147840, jl_8740238, jl_9872299, jl_175252482, jl_291595537, jl_1103515245, jl_2000000000, jl_2147483648, jl_4721686497, jl_7873079139, J_add, J_sub, J_mul, J_neg, JL_add, JL_sub, JL_mul, JL_neg, J_long, JL_int, ↓remI_fold, ↓remL_fold, Int.reduceAdd, Int.reduceSub, Int.reduceMul, Int.reduceNeg, Int.reduceToNat, xg_18, xn_21, Option.bind_some]
    rw [if_pos (by rw [J_le (by omega)]; omega)]
    simp only [xp_19, xp_20, xp_21, Option.bind_some]
    rfl
theorem wDr_X (h : Hc w c th C) (hs : Sep o c th (cR C)) (hd : ¬ Ft c th (cR C) d) : ∀ S x, Hc (emX o S (wDr w d x)) c th C := by
  intro S x
  refine hX_of (Hc_fr h (fun q hq => ?_)) hs S
  exact wup_o _ _ (fun e => hd (e ▸ hq))
theorem X_gusts (h : Hc w c th C) (hs : Sep o c th (cR C)) (hc : xc S = c) (hd : ¬ own o d) (hd' : ¬ Ft c th (cR C) d) (ho : OkC C) (hN : 1000000 ≤ N) {x n k : Int} (hx : -2147483648 ≤ x ∧ x ≤ 2147483647) (hn : -2147483648 ≤ n ∧ n ≤ 2147483647) (hk : -2147483648 ≤ k ∧ k ≤ 2147483647) : ∃ S' w' d', fX0_gusts N (emX o S w) d o (J x) (J n) (J k) = some (J (sp_gusts C x n k), emX o S' w', d') ∧ FrX S S' ∧ (∀ q, q ≠ d → w' q = w q) ∧ d ≤ d' := by
  have hx := hX_of h hs S
  have hg : gR (emX o S w) [0] o 0 = some c := xg hc
  have hXd := wDr_X (o := o) h hs hd'
  unfold fX0_gusts fX0_isSeed sp_gusts
  simp (disch := omega) only [jn_0, jn_1, jn_2, jn_3, jn_4, jn_5, jn_6, jn_8, jn_9, jn_10, jn_11, jn_12, jn_16, jn_20, jn_24, jn_30, jn_31, jn_32, jn_36, jn_48, jn_57, jn_59, jn_60, jn_63, jn_72, jn_73, jn_96, jn_97, jn_100, jn_122, jn_144, jn_200, jn_240, jn_288, jn_512, jn_840, jn_1200, jn_1600, jn_5040, jn_5390, jn_5400, jn_9999, jn_18688, jn_32400, jn_99999, jn_100000, jn_1000000, jn_858993459, jn_1431655765, jn_252645135, jl_0, jl_1, jl_2, jl_3, jl_8, jl_9, jl_10, jl_20, jl_27, jl_47, jl_96, jl_99, jl_100, jl_200, jl_555, jl_2000, jl_10000, jl_12345, jl_65536, jl_99999, jl_131638, jl_240023, jl_298288, jl_383153, jl_1306021, jl_1960084, jl_4147840, jl_8740238, jl_9872299, jl_175252482, jl_291595537, jl_1103515245, jl_2000000000, jl_2147483648, jl_4721686497, jl_7873079139, J_add, J_sub, J_mul, J_neg, JL_add, JL_sub, JL_mul, JL_neg, J_long, JL_int, ↓remI_fold, ↓remL_fold, Int.reduceAdd, Int.reduceSub, Int.reduceMul, Int.reduceNeg, Int.reduceToNat, Classical.not_not, em_t, Bp_eq0, Bp_eq1, Bp_01, Bp_mk, Bp_mk', Bp_0, Bp_0', Bp_1, Bp_1', if_true, if_false, ite_not, X_in, X_isCity hg hx, hg, hc_k hx, X_keepsC hx, Option.bind_some]
  by_cases h1 : 0 < cR C
  case neg => exact ⟨S, w, d, by simp only [if_neg h1], FrX_r S, fun _ _ => rfl, Nat.le_refl _⟩
  simp only [if_pos h1]
  by_cases h2 : 0 ≤ x ∧ x ≤ 2000000000
  case neg => exact ⟨S, w, d, by simp only [if_neg h2], FrX_r S, fun _ _ => rfl, Nat.le_refl _⟩
  simp only [if_pos h2]
  by_cases h3 : 0 ≤ n ∧ n ≤ 2000
  case neg => exact ⟨S, w, d, by simp only [if_neg h3], FrX_r S, fun _ _ => rfl, Nat.le_refl _⟩
  simp only [if_pos h3]
  by_cases h4 : 0 ≤ k ∧ k ≤ 2
  case neg => exact ⟨S, w, d, by simp only [if_neg h4], FrX_r S, fun _ _ => rfl, Nat.le_refl _⟩
  simp only [if_pos h4]
  by_cases h5 : kp C = true
  case neg => exact ⟨S, w, d, by simp only [if_neg h5], FrX_r S, fun _ _ => rfl, Nat.le_refl _⟩
  simp only [if_pos h5]
  obtain ⟨m, hr⟩ : ∃ r : Nat, n = r := ⟨n.toNat, by omega⟩
  subst hr
  have ⟨f, e⟩ := X_blows (N := N) hXd hc hd ho h5 hN (x := x) (by omega) (m := m) (by omega)
  refine ⟨xWn S (wnd C x m) f, wDr w d (wnd C x m).1, d + 1, ?_, xWn_Fr _ _ _, fun q hq => wup_o _ _ hq, by omega⟩
  have hx2 := hXd (xWn S (wnd C x m) f) (wnd C x m).1
  have hg2 : gR (emX o (xWn S (wnd C x m) f) (wDr w d (wnd C x m).1)) [0] o 0 = some c := xg hc
  simp (disch := omega) only [e, hg2, hc_k hx2, X_ballsC hx2, xg_19, xg_20, xg_21, xWn_19, xWn_20, xWn_21, J_sub, J_eq, Int.toNat_natCast, Option.bind_some]
  by_cases h6 : k = 0
  · simp only [if_pos h6]
  simp only [if_neg h6]
  by_cases h7 : k = 1
  · simp only [if_pos h7]
  simp only [if_neg h7]
theorem X_years (h : Hc w c th C) (hs : Sep o c th (cR C)) (hc : xc S = c) (hd : ∀ q, d ≤ q → ¬ own o q ∧ ¬ Ft c th (cR C) q) (ho : OkC C) (hN : 1000000 ≤ N) {x k n : Int} (hx : -2147483648 ≤ x ∧ x ≤ 2147483647) (hk : -2147483648 ≤ k ∧ k ≤ 2147483647) (hn : -2147483648 ≤ n ∧ n ≤ 2147483647) : ∃ S' w' d', fX0_years N (emX o S w) d o (J x) (J k) (J n) = some (J (sp_years C x k n), emX o S' w', d') ∧ FrX S S' ∧ (∀ q, q < d → w' q = w q) ∧ d ≤ d' := by
  have hx := hX_of h hs S
  have hg : gR (emX o S w) [0] o 0 = some c := xg hc
  unfold fX0_years fX0_isSeed sp_years
  simp (disch := omega) only [jn_0, jn_1, jn_2, jn_3, jn_4, jn_5, jn_6, jn_8, jn_9, jn_10, jn_11, jn_12, jn_16, jn_20, jn_24, jn_30, jn_31, jn_32, jn_36, jn_48, jn_57, jn_59, jn_60, jn_63, jn_72, jn_73, jn_96, jn_97, jn_100, jn_122, jn_144, jn_200, jn_240, jn_288, jn_512, jn_840, jn_1200, jn_1600, jn_5040, jn_5390, jn_5400, jn_9999, jn_18688, jn_32400, jn_99999, jn_100000, jn_1000000, jn_858993459, jn_1431655765, jn_252645135, jl_0, jl_1, jl_2, jl_3, jl_8, jl_9, jl_10, jl_20, jl_27, jl_47, jl_96, jl_99, jl_100, jl_200, jl_555, jl_2000, jl_10000, jl_12345, jl_65536, jl_99999, jl_131638, jl_240023, jl_298288, jl_383153, jl_1306021, jl_1960084, jl_4147840, jl_8740238, jl_9872299, jl_175252482, jl_291595537, jl_1103515245, jl_2000000000, jl_2147483648, jl_4721686497, jl_7873079139, J_add, J_sub, J_mul, J_neg, JL_add, JL_sub, JL_mul, JL_neg, J_long, JL_int, ↓remI_fold, ↓remL_fold, Int.reduceAdd, Int.reduceSub, Int.reduceMul, Int.reduceNeg, Int.reduceToNat, Classical.not_not, em_t, Bp_eq0, Bp_eq1, Bp_01, Bp_mk, Bp_mk', Bp_0, Bp_0', Bp_1, Bp_1', if_true, if_false, ite_not, X_in, X_isCity hg hx, hg, hc_k hx, X_keepsC hx, Option.bind_some]
  by_cases h1 : 0 < cR C
  case neg => exact ⟨S, w, d, by simp only [if_neg h1], FrX_r S, fun _ _ => rfl, Nat.le_refl _⟩
  simp only [if_pos h1]
  by_cases h2 : 0 ≤ x ∧ x ≤ 2000000000
  case neg => exact ⟨S, w, d, by simp only [if_neg h2], FrX_r S, fun _ _ => rfl, Nat.le_refl _⟩
  simp only [if_pos h2]
  by_cases h4 : 1 ≤ k ∧ k ≤ 20
  case neg => exact ⟨S, w, d, by simp only [if_neg h4, ite_self], FrX_r S, fun _ _ => rfl, Nat.le_refl _⟩
  simp only [if_pos h4]
  by_cases h3 : 0 ≤ n ∧ n ≤ 2000
  case neg => exact ⟨S, w, d, by simp only [if_neg h3], FrX_r S, fun _ _ => rfl, Nat.le_refl _⟩
  simp only [if_pos h3]
  by_cases h5 : kp C = true
  case neg => exact ⟨S, w, d, by simp only [if_neg h5], FrX_r S, fun _ _ => rfl, Nat.le_refl _⟩
  simp only [if_pos h5]
  obtain ⟨m, hr⟩ : ∃ r : Nat, n = r := ⟨n.toNat, by omega⟩
  subst hr
  obtain ⟨k, hr⟩ : ∃ r : Nat, k = r := ⟨k.toNat, by omega⟩
  subst hr
  simp only [Int.toNat_natCast]
  have key : ∀ (i : Nat), i ≤ k → ∃ S' w', FrX S S' ∧ (∀ q, q < d → w' q = w q) ∧ fX0_years_59 N o (J x) (J k) (J m) (fun y14 w15 y16 => some (y14, w15, y16)) 21 (J 0) (J 0) (emX o S w) d = fX0_years_59 N o (J x) (J k) (J m) (fun y14 w15 y16 => some (y14, w15, y16)) (21 - i) (J (sm (fun i => ind (0 < (wnd C (x + i) m).2.1)) i)) (J i) (emX o S' w') (d + i) := by
    intro i
    induction i with
    | zero => intro _; exact ⟨S, w, FrX_r _, fun _ _ => rfl, rfl⟩
    | succ i ih =>
      intro hi
      have ⟨S', w', hF', hw', e⟩ := ih (by omega)
      have h' : Hc w' c th C := Hc_fr h (fun q hq => hw' q (by
        by_cases hqd : q < d
        · exact hqd
        · exact absurd hq (hd q (by omega)).2))
      have hXd := wDr_X (o := o) h' hs (hd (d + i) (by omega)).2
      have ⟨f, eb⟩ := X_blows (N := N) (S := S') hXd (hF'.1.trans hc) (hd (d + i) (by omega)).1 ho h5 hN (x := x + i) (by omega) (m := m) (by omega)
      refine ⟨xWn S' (wnd C (x + i) m) f, wDr w' (d + i) (wnd C (x + i) m).1, FrX_t hF' (xWn_Fr _ _ _), fun q hq => (wup_o _ _ (by omega)).trans (hw' q hq), ?_⟩
      rw [e, show 21 - i = (21 - (i + 1)) + 1 by omega, fX0_years_59]
      have hb := (wnd_bd h5 ho (x := x + i) (by omega) m).2.1
      have eL : (J x).toInt64 + (J (i : Int)).toInt64 = JL (x + i) := by rw [J_long (by omega), J_long (by omega), JL_add]
      rw [if_neg (by rw [J_le (by omega)]; omega), eL, eb, Option.bind_some]
      simp only [jn_0, jn_1, jn_2, jn_3, jn_4, jn_5, jn_6, jn_8, jn_9, jn_10, jn_11, jn_12, jn_16, jn_20, jn_24, jn_30, jn_31, jn_32, jn_36, jn_48, jn_57, jn_59, jn_60, jn_63, jn_72, jn_73, jn_96, jn_97, jn_100, jn_122, jn_144, jn_200, jn_240, jn_288, jn_512, jn_840, jn_1200, jn_1600, jn_5040, jn_5390, jn_5400, jn_9999, jn_18688, jn_32400, jn_99999, jn_100000, jn_1000000, jn_858993459, jn_1431655765, jn_252645135, jl_0, jl_1, jl_2, jl_3, jl_8, jl_9, jl_10, jl_20, jl_27, jl_47, jl_96, jl_99, jl_100, jl_200, jl_555, jl_2000, jl_10000, jl_12345, jl_65536, jl_99999, jl_131638, jl_240023, jl_298288, jl_383153, jl_1306021, jl_1960084, jl_4147840, jl_8740238, jl_9872299, jl_175252482, jl_291595537, jl_1103515245, jl_2000000000, jl_2147483648, jl_4721686497, jl_7873079139, J_add, J_sub, J_mul, J_neg, JL_add, JL_sub, JL_mul, JL_neg, J_long, JL_int, Int.reduceAdd, Int.reduceSub, Int.reduceMul, Int.reduceNeg, Int.reduceToNat, xg_19, xWn_19, Option.bind_some, sm, ind, castS]
      rw [show d + (i + 1) = d + i + 1 by omega]
      by_cases h6 : 0 < (wnd C (x + i) m).2.1
      · rw [if_neg (by rw [J_le (by omega)]; omega), if_pos h6]
      · rw [if_pos (by rw [J_le (by omega)]; omega), if_neg h6]
  have ⟨S', w', hF', hw', e⟩ := key k (Nat.le_refl k)
  refine ⟨S', w', d + k, ?_, hF', hw', by omega⟩
  rw [e, show 21 - k = (21 - k - 1) + 1 by omega, fX0_years_59, if_pos (by rw [J_le (by omega)]; omega)]
end
