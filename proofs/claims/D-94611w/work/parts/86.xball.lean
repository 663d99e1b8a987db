/-! the component: balls -/
set_option maxRecDepth 100000
/-- what the component must keep through a question -/
def FrX (S S' : XS) : Prop := xc S' = xc S ∧ xi S' 2 = xi S 2 ∧ xi S' 3 = xi S 3 ∧ xi S' 4 = xi S 4 ∧ xa S' 8 = xa S 8
theorem FrX_r (S : XS) : FrX S S := ⟨rfl, rfl, rfl, rfl, rfl⟩
theorem FrX_t {S T U : XS} (h : FrX S T) (h' : FrX T U) : FrX S U := ⟨h'.1.trans h.1, h'.2.1.trans h.2.1, h'.2.2.1.trans h.2.2.1, h'.2.2.2.1.trans h.2.2.2.1, h'.2.2.2.2.trans h.2.2.2.2⟩
theorem FrX_I (S : XS) (k : Nat) (x : Int32) (h : k ≠ 2 ∧ k ≠ 3 ∧ k ≠ 4) : FrX S (xSI S k x) := by
  refine ⟨rfl, ?_, ?_, ?_, rfl⟩ <;> rw [xi_I, if_neg (by omega)]
theorem FrX_A (S : XS) (a i : Nat) (x : Int32) (h : a ≠ 8) : FrX S (xSA S a i x) := by
  refine ⟨rfl, rfl, rfl, rfl, ?_⟩
  rw [xa_A, if_neg (by omega)]
theorem FrX_R (S : XS) (a : Nat) (f : Nat → Int32) (h : a ≠ 8) : FrX S (xSR S a f) := by
  refine ⟨rfl, rfl, rfl, rfl, ?_⟩
  rw [xa_R, if_neg (by omega)]
theorem FrX_B (S : XS) (a i : Nat) (x : Int64) : FrX S (xSB S a i x) := ⟨rfl, rfl, rfl, rfl, rfl⟩
theorem FrX_Q (S : XS) (a : Nat) (f : Nat → Int64) : FrX S (xSQ S a f) := ⟨rfl, rfl, rfl, rfl, rfl⟩
def xBl (S : XS) (p : Nat × Int) : XS := xSI (xSI S 30 (J p.1)) 31 (J p.2)
theorem xBl_30 (S : XS) (p : Nat × Int) : xi (xBl S p) 30 = J p.1 := rfl
theorem xBl_31 (S : XS) (p : Nat × Int) : xi (xBl S p) 31 = J p.2 := rfl
theorem xBl_o (S : XS) (p : Nat × Int) (x y : Int32) : xSI (xSI (xBl S p) 30 x) 31 y = xSI (xSI S 30 x) 31 y := by
  unfold xBl xSI
  refine Prod.ext rfl (Prod.ext (funext fun j => ?_) rfl)
  simp only
  by_cases h : j = 31 <;> by_cases h' : j = 30 <;> simp [h, h']
theorem FrX_Bl (S : XS) (p : Nat × Int) : FrX S (xBl S p) := FrX_t (FrX_I S 30 _ (by decide)) (FrX_I _ 31 _ (by decide))
section
variable {N o c : Nat} {S : XS} {w : Wd} {C : Cy} {th : Nat → Nat}
theorem xg (hc : xc S = c) : gR (emX o S w) [0] o 0 = some c := by rw [xg_0, hc]
theorem X3_height (hX : ∀ S, Hc (emX o S w) c th C) (hc : xc S = c) {p : Nat × Int} (hr : p.1 < cR C) (hb : -900000 ≤ p.2 ∧ p.2 ≤ 900000) : fX3_height N (emX o (xBl S p) w) (o + 12) = some (J (hh C p.1 p.2)) := by
  have h := hX (xBl S p)
  have hg : gR (emX o (xBl S p) w) [0] o 0 = some c := xg hc
  unfold fX3_height
  simp (disch := omega) only [xg_b0, xg_b1, xg_b2, xBl_30, xBl_31, hg, hc_0 h, hc_1 h, hc_2 h, hc_3 h, hc_4 h, hc_5 h, hc_7 h, hc_8 h, hc_9 h, hc_10 h, hc_11 h, hc_12 h, hc_k h, hc_at h, Int.toNat_natCast, ht_k h hr, X_height h hr, Option.bind_some]
theorem X_goes (hX : ∀ S, Hc (emX o S w) c th C) (hc : xc S = c) {p : Nat × Int} (hr : p.1 < cR C) (hb : -900000 ≤ p.2 ∧ p.2 ≤ 900000) : fX3_goes N (emX o (xBl S p) w) (o + 12) = some (emX o (xBl S (bgo C p)) w) := by
  have h := hX (xBl S p)
  have hg : gR (emX o (xBl S p) w) [0] o 0 = some c := xg hc
  unfold fX3_goes
  simp (disch := omega) only [X3_height hX hc hr hb, xg_b0, xg_b1, xg_b2, xp_b0, xp_b1, xBl_30, xBl_31, hg, hc_0 h, hc_1 h, hc_2 h, hc_3 h, hc_4 h, hc_5 h, hc_7 h, hc_8 h, hc_9 h, hc_10 h, hc_11 h, hc_12 h, hc_k h, hc_at h, Int.toNat_natCast, ht_k h hr, X_to h hr, Option.bind_some, xc_C, xc_I, xc_A, xc_R, xc_B, xc_Q, xi_C, xi_I, xi_A, xi_R, xi_B, xi_Q, xa_C, xa_I, xa_A, xa_R, xa_B, xa_Q, xb_C, xb_I, xb_A, xb_R, xb_B, xb_Q, Nat.reduceEqDiff, eq_self, if_true, if_false, reduceIte, J_add, xBl_o]
  rfl
theorem X_begin (hX : ∀ S, Hc (emX o S w) c th C) (hc : xc S = c) {p : Nat × Int} (hr : p.1 < cR C) (hb : -900000 ≤ p.2 ∧ p.2 ≤ 900000) : fX3_begin N (emX o S w) (o + 12) (J p.1) (J p.2) = some (Bp (0 < hh C p.1 p.2), emX o (xBl S p) w) := by
  have h9 := hh_le C p.1 p.2
  unfold fX3_begin
  simp only [xp_b0, xp_b1, Option.bind_some]
  have e := X3_height (N := N) (o := o) (w := w) hX hc hr hb
  unfold xBl at e
  rw [e, Option.bind_some]
  simp (disch := omega) only [jn_0, jn_1, jn_2, jn_3, jn_4, jn_5, jn_6, jn_8, jn_9, jn_10, jn_11, jn_12, jn_16, jn_20, jn_24, jn_30, jn_31, jn_32, jn_36, jn_48, jn_57, jn_59, jn_60, jn_63, jn_72, jn_73, jn_96, jn_97, jn_100, jn_122, jn_144, jn_200, jn_240, jn_288, jn_512, jn_840, jn_1200, jn_1600, jn_5040, jn_5390, jn_5400, jn_9999, jn_18688, jn_32400, jn_99999, jn_100000, jn_1000000, jn_858993459, jn_1431655765, jn_252645135, jl_0, jl_1, jl_2, jl_3, jl_8, jl_9, jl_10, jl_20, jl_27, jl_47, jl_96, jl_99, jl_100, jl_200, jl_555, jl_2000, jl_10000, jl_12345, jl_65536, jl_99999, jl_131638, jl_240023, jl_298288, jl_383153, jl_1306021, jl_1960084, jl_4147840, jl_8740238, jl_9872299, jl_175252482, jl_291595537, jl_1103515245, jl_2000000000, jl_2147483648, jl_4721686497, jl_7873079139, J_add, J_sub, J_mul, J_neg, JL_add, JL_sub, JL_mul, JL_neg, J_long, JL_int, ↓remI_fold, ↓remL_fold, Int.reduceAdd, Int.reduceSub, Int.reduceMul, Int.reduceNeg, Int.reduceToNat, J_le]
  by_cases h1 : 0 < hh C p.1 p.2
  · rw [if_neg (by omega), Bp_t h1]; rfl
  · rw [if_pos (by omega), Bp_f h1]; rfl
theorem X_asksBall (hX : ∀ S, Hc (emX o S w) c th C) (hc : xc S = c) (hN : 1000000 ≤ N) {v b : Int} (hv : -2147483648 ≤ v ∧ v ≤ 2147483647) (hb : -2147483648 ≤ b ∧ b ≤ 2147483647) : ∃ S', fX0_asksBall N (emX o S w) o (J v) (J b) = some (J (if 0 ≤ v ∧ v < cR C then if 0 ≤ b ∧ b ≤ 99999 then if atB C v b = true then 0 else -1 else -2 else -2), emX o S' w) ∧ FrX S S' ∧ ((0 ≤ v ∧ v < cR C) → (0 ≤ b ∧ b ≤ 99999) → atB C v b = true → S' = xBl S (v.toNat, b)) := by
  have h := hX S
  have hg : gR (emX o S w) [0] o 0 = some c := xg hc
  have hR := cR_le C
  unfold fX0_asksBall
  simp (disch := omega) only [jn_0, jn_1, jn_2, jn_3, jn_4, jn_5, jn_6, jn_8, jn_9, jn_10, jn_11, jn_12, jn_16, jn_20, jn_24, jn_30, jn_31, jn_32, jn_36, jn_48, jn_57, jn_59, jn_60, jn_63, jn_72, jn_73, jn_96, jn_97, jn_100, jn_122, jn_144, jn_200, jn_240, jn_288, jn_512, jn_840, jn_1200, jn_1600, jn_5040, jn_5390, jn_5400, jn_9999, jn_18688, jn_32400, jn_99999, jn_100000, jn_1000000, jn_858993459, jn_1431655765, jn_252645135, jl_0, jl_1, jl_2, jl_3, jl_8, jl_9, jl_10, jl_20, jl_27, jl_47, jl_96, jl_99, jl_100, jl_200, jl_555, jl_2000, jl_10000, jl_12345, jl_65536, jl_99999, jl_131638, jl_240023, jl_298288, jl_383153, jl_1306021, jl_1960084, jl_4147840, jl_8740238, jl_9872299, jl_175252482, jl_291595537, jl_1103515245, jl_2000000000, jl_2147483648, jl_4721686497, jl_7873079139, J_add, J_sub, J_mul, J_neg, JL_add, JL_sub, JL_mul, JL_neg, J_long, JL_int, ↓remI_fold, ↓remL_fold, Int.reduceAdd, Int.reduceSub, Int.reduceMul, Int.reduceNeg, Int.reduceToNat, Classical.not_not, em_t, Bp_eq0, Bp_eq1, Bp_01, Bp_mk, Bp_mk', Bp_0, Bp_0', Bp_1, Bp_1', if_true, if_false, ite_not, hg, hc_0 h, hc_1 h, hc_2 h, hc_3 h, hc_4 h, hc_5 h, hc_7 h, hc_8 h, hc_9 h, hc_10 h, hc_11 h, hc_12 h, hc_k h, hc_at h, Int.toNat_natCast, X_isRoof hg h, X_isBeat, X_keepsC h, Option.bind_some]
  by_cases h1 : 0 ≤ v ∧ v < cR C
  case neg => exact ⟨S, by rw [if_neg h1, if_neg h1], FrX_r S, fun h => absurd h h1⟩
  simp only [if_pos h1]
  by_cases h2 : 0 ≤ b ∧ b ≤ 99999
  case neg => exact ⟨S, by rw [if_neg h2, if_neg h2], FrX_r S, fun _ h => absurd h h2⟩
  simp only [if_pos h2]
  by_cases h3 : kp C = true
  case neg =>
    have ha : ¬ atB C v b = true := by unfold atB; simp [h3]
    exact ⟨S, by rw [if_neg h3, if_neg ha], FrX_r S, fun _ _ h => absurd h ha⟩
  simp only [if_pos h3]
  obtain ⟨r, hr⟩ : ∃ r : Nat, v = r := ⟨v.toNat, by omega⟩
  subst hr
  have hr' : r < cR C := by omega
  refine ⟨xBl S (r, b), ?_, FrX_Bl _ _, fun _ _ _ => rfl⟩
  simp only [xg_6, xk_b, Option.bind_some]
  rw [X_begin (p := (r, b)) hX hc hr' (show -900000 ≤ b ∧ b ≤ 900000 by omega), Option.bind_some]
  unfold atB
  simp only [h3, Bool.true_and, decide_eq_true_iff, Int.toNat_natCast, Classical.not_not, em_t, Bp_eq0, Bp_eq1, Bp_01, Bp_mk, Bp_mk', Bp_0, Bp_0', Bp_1, Bp_1', if_true, if_false, ite_not]
  by_cases h4 : 0 < hh C r b
  · rw [if_pos h4, if_pos h4]
  · rw [if_neg h4, if_neg h4]
theorem X_asksLetter (hX : ∀ S, Hc (emX o S w) c th C) (hc : xc S = c) (ho : OkC C) (hN : 1000000 ≤ N) {k : Int} (hk : -2147483648 ≤ k ∧ k ≤ 2147483647) : ∃ S', fX0_asksLetter N (emX o S w) o (J k) = some (J (if 0 ≤ k ∧ k < cN C then if atB C (cF C k.toNat) (cA C k.toNat) = true then 0 else -1 else -2), emX o S' w) ∧ FrX S S' ∧ ((0 ≤ k ∧ k < cN C) → atB C (cF C k.toNat) (cA C k.toNat) = true → S' = xBl S (cF C k.toNat, (cA C k.toNat : Int))) := by
  have h := hX S
  have hg : gR (emX o S w) [0] o 0 = some c := xg hc
  have hR := cN_le C
  have hR' := cR_le C
  unfold fX0_asksLetter
  simp (disch := omega) only [jn_0, jn_1, jn_2, jn_3, jn_4, jn_5, jn_6, jn_8, jn_9, jn_10, jn_11, jn_12, jn_16, jn_20, jn_24, jn_30, jn_31, jn_32, jn_36, jn_48, jn_57, jn_59, jn_60, jn_63, jn_72, jn_73, jn_96, jn_97, jn_100, jn_122, jn_144, jn_200, jn_240, jn_288, jn_512, jn_840, jn_1200, jn_1600, jn_5040, jn_5390, jn_5400, jn_9999, jn_18688, jn_32400, jn_99999, jn_100000, jn_1000000, jn_858993459, jn_1431655765, jn_252645135, jl_0, jl_1, jl_2, jl_3, jl_8, jl_9, jl_10, jl_20, jl_27, jl_47, jl_96, jl_99, jl_100, jl_200, jl_555, jl_2000, jl_10000, jl_12345, jl_65536, jl_99999, jl_131638, jl_240023, jl_298288, jl_383153, jl_1306021, jl_1960084, jl_4147840, jl_8740238, jl_9872299, jl_175252482, jl_291595537, jl_1103515245, jl_2000000000, jl_2147483648, jl_4721686497, jl_7873079139, J_add, J_sub, J_mul, J_neg, JL_add, JL_sub, JL_mul, JL_neg, J_long, JL_int, ↓remI_fold, ↓remL_fold, Int.reduceAdd, Int.reduceSub, Int.reduceMul, Int.reduceNeg, Int.reduceToNat, Classical.not_not, em_t, Bp_eq0, Bp_eq1, Bp_01, Bp_mk, Bp_mk', Bp_0, Bp_0', Bp_1, Bp_1', if_true, if_false, ite_not, X_isLetter hg h, Option.bind_some]
  by_cases h1 : 0 ≤ k ∧ k < cN C
  case neg => exact ⟨S, by rw [if_neg h1, if_neg h1], FrX_r S, fun h => absurd h h1⟩
  simp only [if_pos h1]
  have hl : k.toNat < cN C := by omega
  have hok := ho.2.1 _ hl
  have hA := cA_le C k.toNat
  simp (disch := omega) only [hg, hc_0 h, hc_1 h, hc_2 h, hc_3 h, hc_4 h, hc_5 h, hc_7 h, hc_8 h, hc_9 h, hc_10 h, hc_11 h, hc_12 h, hc_k h, hc_at h, Int.toNat_natCast, hc_F h, hc_A h, Option.bind_some]
  have ⟨S', e, hF, hS⟩ := X_asksBall (N := N) hX hc hN (v := cF C k.toNat) (b := cA C k.toNat) (by omega) (by omega)
  refine ⟨S', ?_, hF, fun _ ha => ?_⟩
  · rw [e, Option.bind_some, if_pos (by omega), if_pos (by omega)]
  · have := hS (by omega) (by omega) ha
    rwa [Int.toNat_natCast] at this
theorem atB_k {v b : Int} (h : atB C v b = true) : kp C = true ∧ 0 < hh C v.toNat b := by unfold atB at h; simp at h; exact h
theorem X_ball (hX : ∀ S, Hc (emX o S w) c th C) (hc : xc S = c) (ho : OkC C) (hN : 1000000 ≤ N) {v b n x : Int} (hv : -2147483648 ≤ v ∧ v ≤ 2147483647) (hb : -2147483648 ≤ b ∧ b ≤ 2147483647) (hn : -2147483648 ≤ n ∧ n ≤ 2147483647) (hx : -2147483648 ≤ x ∧ x ≤ 2147483647) : ∃ S', fX0_ball N (emX o S w) o (J v) (J b) (J n) (J x) = some (J (sp_ball C v b n x), emX o S' w) ∧ FrX S S' := by
  have hR := cR_le C
  unfold fX0_ball sp_ball
  simp (disch := omega) only [jn_0, jn_1, jn_2, jn_3, jn_4, jn_5, jn_6, jn_8, jn_9, jn_10, jn_11, jn_12, jn_16, jn_20, jn_24, jn_30, jn_31, jn_32, jn_36, jn_48, jn_57, jn_59, jn_60, jn_63, jn_72, jn_73, jn_96, jn_97, jn_100, jn_122, jn_144, jn_200, jn_240, jn_288, jn_512, jn_840, jn_1200, jn_1600, jn_5040, jn_5390, jn_5400, jn_9999, jn_18688, jn_32400, jn_99999, jn_100000, jn_1000000, jn_858993459, jn_1431655765, jn_252645135, jl_0, jl_1, jl_2, jl_3, jl_8, jl_9, jl_10, jl_20, jl_27, jl_47, jl_96, jl_99, jl_100, jl_200, jl_555, jl_2000, jl_10000, jl_12345, jl_65536, jl_99999, jl_131638, jl_240023, jl_298288, jl_383153, jl_1306021, jl_1960084, jl_4147840, jl_8740238, jl_9872299, jl_175252482, jl_291595537, jl_1103515245, jl_2000000000, jl_2147483648, jl_4721686497, jl_7873079139, J_add, J_sub, J_mul, J_neg, JL_add, JL_sub, JL_mul, JL_neg, J_long, JL_int, ↓remI_fold, ↓remL_fold, Int.reduceAdd, Int.reduceSub, Int.reduceMul, Int.reduceNeg, Int.reduceToNat, Classical.not_not, em_t, Bp_eq0, Bp_eq1, Bp_01, Bp_mk, Bp_mk', Bp_0, Bp_0', Bp_1, Bp_1', if_true, if_false, ite_not, X_in, Option.bind_some, J_eq]
  by_cases h3 : 0 ≤ n ∧ n ≤ 200
  case neg => exact ⟨S, by simp only [if_neg h3, ite_self], FrX_r S⟩
  simp only [if_pos h3]
  by_cases h4 : 0 ≤ x ∧ x ≤ 1
  case neg => exact ⟨S, by simp only [if_neg h4, ite_self], FrX_r S⟩
  simp only [if_pos h4]
  have ⟨S', e, hF, hS⟩ := X_asksBall (N := N) hX hc hN hv hb
  rw [e, Option.bind_some]
  by_cases h1 : 0 ≤ v ∧ v < cR C
  case neg => simp only [if_neg h1]; exact ⟨S', by rw [if_neg (by rw [J_le (by omega)]; omega)], hF⟩
  simp only [if_pos h1]
  by_cases h2 : 0 ≤ b ∧ b ≤ 99999
  case neg => simp only [if_neg h2]; exact ⟨S', by rw [if_neg (by rw [J_le (by omega)]; omega)], hF⟩
  simp only [if_pos h2]
  by_cases h5 : atB C v b = true
  case neg => simp only [if_neg h5]; exact ⟨S', by rw [if_neg (by rw [J_le (by omega)]; omega)], hF⟩
  simp only [if_pos h5]
  rw [if_pos (by rw [J_le (by omega)]; omega), hS h1 h2 h5]
  obtain ⟨r, hr⟩ : ∃ r : Nat, v = r := ⟨v.toNat, by omega⟩
  subst hr
  obtain ⟨m, hr⟩ : ∃ r : Nat, n = r := ⟨n.toNat, by omega⟩
  subst hr
  have hr' : r < cR C := by omega
  simp only [Int.toNat_natCast]
  have hk := (atB_k h5).1
  have hp : Lv C (r, b) := ⟨hr', (atB_k h5).2⟩
  refine ⟨xBl S (bat C (r, b) m), ?_, FrX_Bl _ _⟩
  have key := lp_cnt (fun n i => fX0_ball_45 N o (J m) (J x) (fun w8 => if x = 0 then (gR w8 [0] o 6).bind fun x11 => (gI w8 [3] x11 0).bind fun x12 => some (x12, w8) else (gR w8 [0] o 6).bind fun x9 => (gI w8 [3] x9 1).bind fun x10 => some (x10, w8)) n (J (i : Int)) (emX o (xBl S (bat C (r, b) i)) w)) (some (J (if x = 0 then (bat C (r, b) m).1 else (bat C (r, b) m).2), emX o (xBl S (bat C (r, b) m)) w)) (m) ?_ ?_ N (by omega)
  · exact key
  · intro n i hi
    try dsimp only
    have hb1 := bat_hi C (r, b) i
    simp only at hb1
    rw [fX0_ball_45]
    simp (disch := omega) only [jn_0, jn_1, jn_2, jn_3, jn_4, jn_5, jn_6, jn_8, jn_9, jn_10, jn_11, jn_12, jn_16, jn_20, jn_24, jn_30, jn_31, jn_32, jn_36, jn_48, jn_57, jn_59, jn_60, jn_63, jn_72, jn_73, jn_96, jn_97, jn_100, jn_122, jn_144, jn_200, jn_240, jn_288, jn_512, jn_840, jn_1200, jn_1600, jn_5040, jn_5390, jn_5400, jn_9999, jn_18688, jn_32400, jn_99999, jn_100000, jn_1000000, jn_858993459, jn_1431655765, jn_252645135, jl_0, jl_1, jl_2, jl_3, jl_8, jl_9, jl_10, jl_20, jl_27, jl_47, jl_96, jl_99, jl_100, jl_200, jl_555, jl_2000, jl_10000, jl_12345, jl_65536, jl_99999, jl_131638, jl_240023, jl_298288, jl_383153, jl_1306021, jl_1960084, jl_4147840, jl_8740238, jl_9872299, jl_175252482, jl_291595537, jl_1103515245, jl_2000000000, jl_2147483648, jl_4721686497, jl_7873079139, J_add, J_sub, J_mul, J_neg, JL_add, JL_sub, JL_mul, JL_neg, J_long, JL_int, ↓remI_fold, ↓remL_fold, Int.reduceAdd, Int.reduceSub, Int.reduceMul, Int.reduceNeg, Int.reduceToNat, xg_6, xk_b, J_le, castS, Option.bind_some]
    rw [if_neg (by omega), X_goes hX hc (Lv_at hk ho hp i).1 (by omega)]
    rfl
  · intro n
    try dsimp only
    rw [fX0_ball_45]
    simp (disch := omega) only [jn_0, jn_1, jn_2, jn_3, jn_4, jn_5, jn_6, jn_8, jn_9, jn_10, jn_11, jn_12, jn_16, jn_20, jn_24, jn_30, jn_31, jn_32, jn_36, jn_48, jn_57, jn_59, jn_60, jn_63, jn_72, jn_73, jn_96, jn_97, jn_100, jn_122, jn_144, jn_200, jn_240, jn_288, jn_512, jn_840, jn_1200, jn_1600, jn_5040, jn_5390, jn_5400, jn_9999, jn_18688, jn_32400, jn_99999, jn_100000, jn_1000000, jn_858993459, jn_1431655765, jn_252645135, jl_0, jl_1, jl_2, jl_3, jl_8, jl_9, jl_10, jl_20, jl_27, jl_47, jl_96, jl_99, jl_100, jl_200, jl_555, jl_2000, jl_10000, jl_12345, jl_65536, jl_99999, jl_131638, jl_240023, jl_298288, jl_383153, jl_1306021, jl_1960084, jl_4147840, jl_8740238, jl_9872299, jl_175252482, jl_291595537, jl_1103515245, jl_2000000000, jl_2147483648, jl_4721686497, jl_7873079139, J_add, J_sub, J_mul, J_neg, JL_add, JL_sub, JL_mul, JL_neg, J_long, JL_int, ↓remI_fold, ↓remL_fold, Int.reduceAdd, Int.reduceSub, Int.reduceMul, Int.reduceNeg, Int.reduceToNat, xg_6, xk_b, J_le, castS, Option.bind_some]
    rw [if_pos (by omega)]
    simp only [xg_b0, xg_b1, xBl_30, xBl_31, Option.bind_some]
    by_cases h6 : x = 0
    · simp only [if_pos h6]
    · simp only [if_neg h6]
theorem X_same (hX : ∀ S, Hc (emX o S w) c th C) (hc : xc S = c) (ho : OkC C) (hN : 1000000 ≤ N) {v b u l : Int} (hv : -2147483648 ≤ v ∧ v ≤ 2147483647) (hb : -2147483648 ≤ b ∧ b ≤ 2147483647) (hu : -2147483648 ≤ u ∧ u ≤ 2147483647) (hl : -2147483648 ≤ l ∧ l ≤ 2147483647) : ∃ S', fX0_same N (emX o S w) o (J v) (J b) (J u) (J l) = some (J (sp_same C v b u l), emX o S' w) ∧ FrX S S' := by
  have hR := cR_le C
  have h := hX S
  have hg : gR (emX o S w) [0] o 0 = some c := xg hc
  unfold fX0_same sp_same
  simp (disch := omega) only [jn_0, jn_1, jn_2, jn_3, jn_4, jn_5, jn_6, jn_8, jn_9, jn_10, jn_11, jn_12, jn_16, jn_20, jn_24, jn_30, jn_31, jn_32, jn_36, jn_48, jn_57, jn_59, jn_60, jn_63, jn_72, jn_73, jn_96, jn_97, jn_100, jn_122, jn_144, jn_200, jn_240, jn_288, jn_512, jn_840, jn_1200, jn_1600, jn_5040, jn_5390, jn_5400, jn_9999, jn_18688, jn_32400, jn_99999, jn_100000, jn_1000000, jn_858993459, jn_1431655765, jn_252645135, jl_0, jl_1, jl_2, jl_3, jl_8, jl_9, jl_10, jl_20, jl_27, jl_47, jl_96, jl_99, jl_100, jl_200, jl_555, jl_2000, jl_10000, jl_12345, jl_65536, jl_99999, jl_131638, jl_240023, jl_298288, jl_383153, jl_1306021, jl_1960084, jl_4147840, jl_8740238, jl_9872299, jl_175252482, jl_291595537, jl_1103515245, jl_2000000000, jl_2147483648, jl_4721686497, jl_7873079139, J_add, J_sub, J_mul, J_neg, JL_add, JL_sub, JL_mul, JL_neg, J_long, JL_int, ↓remI_fold, ↓remL_fold, Int.reduceAdd, Int.reduceSub, Int.reduceMul, Int.reduceNeg, Int.reduceToNat, Classical.not_not, em_t, Bp_eq0, Bp_eq1, Bp_01, Bp_mk, Bp_mk', Bp_0, Bp_0', Bp_1, Bp_1', if_true, if_false, ite_not, X_in, X_isRoof hg h, X_isBeat, Option.bind_some, J_eq]
  by_cases h3 : 0 ≤ u ∧ u < cR C
  case neg => exact ⟨S, by simp only [if_neg h3, ite_self], FrX_r S⟩
  simp only [if_pos h3]
  by_cases h4 : 0 ≤ l ∧ l ≤ 99999
  case neg => exact ⟨S, by simp only [if_neg h4, ite_self], FrX_r S⟩
  simp only [if_pos h4]
  have ⟨S', e, hF, hS⟩ := X_asksBall (N := N) hX hc hN hv hb
  rw [e, Option.bind_some]
  by_cases h1 : 0 ≤ v ∧ v < cR C
  case neg => simp only [if_neg h1]; exact ⟨S', by rw [if_neg (by rw [J_le (by omega)]; omega)], hF⟩
  simp only [if_pos h1]
  by_cases h2 : 0 ≤ b ∧ b ≤ 99999
  case neg => simp only [if_neg h2]; exact ⟨S', by rw [if_neg (by rw [J_le (by omega)]; omega)], hF⟩
  simp only [if_pos h2]
  by_cases h5 : atB C v b = true
  case neg => simp only [if_neg h5]; exact ⟨S', by rw [if_neg (by rw [J_le (by omega)]; omega)], hF⟩
  simp only [if_pos h5]
  rw [if_pos (by rw [J_le (by omega)]; omega), hS h1 h2 h5]
  obtain ⟨r, hr⟩ : ∃ r : Nat, v = r := ⟨v.toNat, by omega⟩
  subst hr
  have hr' : r < cR C := by omega
  simp only [Int.toNat_natCast]
  have hk := (atB_k h5).1
  have hp : Lv C (r, b) := ⟨hr', (atB_k h5).2⟩
  have hl' : l ≤ ((r, b) : Nat × Int).2 + 109999 := by show l ≤ b + 109999; omega
  have ht := til_some hk ho hp hl'
  have ht' := (fi_some _ _ _).1 ht
  refine ⟨xBl S (bat C (r, b) (til C (r, b) l)), ?_, FrX_Bl _ _⟩
  have key := lp_seek (fun n i => fX0_same_35 N o (J u) (J l) (fun w9 => (gR w9 [0] o 6).bind fun x10 => (gI w9 [3] x10 1).bind fun x11 => if x11 = J l then (gR w9 [0] o 6).bind fun x12 => (gI w9 [3] x12 0).bind fun x13 => if x13 = J u then some (J 1, w9) else some (J 0, w9) else some (J 0, w9)) n (emX o (xBl S (bat C (r, b) i)) w)) (fun i => some (J (if (bat C (r, b) i).2 = l ∧ ((bat C (r, b) i).1 : Int) = u then 1 else 0), emX o (xBl S (bat C (r, b) i)) w)) (til C (r, b) l + 1) (fun i => decide (l ≤ (bat C (r, b) i).2)) ?_ (fi_cut ht) N (by omega)
  · exact key
  · intro n i hi
    try dsimp only
    have hb1 := bat_hi C (r, b) i
    have hb2 := til_bd hk ho hp hl' (show i ≤ til C (r, b) l by omega)
    have hb3 := (Lv_at hk ho hp i).1
    simp only at hb1 hb2
    rw [fX0_same_35]
    simp (disch := omega) only [jn_0, jn_1, jn_2, jn_3, jn_4, jn_5, jn_6, jn_8, jn_9, jn_10, jn_11, jn_12, jn_16, jn_20, jn_24, jn_30, jn_31, jn_32, jn_36, jn_48, jn_57, jn_59, jn_60, jn_63, jn_72, jn_73, jn_96, jn_97, jn_100, jn_122, jn_144, jn_200, jn_240, jn_288, jn_512, jn_840, jn_1200, jn_1600, jn_5040, jn_5390, jn_5400, jn_9999, jn_18688, jn_32400, jn_99999, jn_100000, jn_1000000, jn_858993459, jn_1431655765, jn_252645135, jl_0, jl_1, jl_2, jl_3, jl_8, jl_9, jl_10, jl_20, jl_27, jl_47, jl_96, jl_99, jl_100, jl_200, jl_555, jl_2000, jl_10000, jl_12345, jl_65536, jl_99999, jl_131638, jl_240023, jl_298288, jl_383153, jl_1306021, jl_1960084, jl_4147840, jl_8740238, jl_9872299, jl_175252482, jl_291595537, jl_1103515245, jl_2000000000, jl_2147483648, jl_4721686497, jl_7873079139, J_add, J_sub, J_mul, J_neg, JL_add, JL_sub, JL_mul, JL_neg, J_long, JL_int, ↓remI_fold, ↓remL_fold, Int.reduceAdd, Int.reduceSub, Int.reduceMul, Int.reduceNeg, Int.reduceToNat, xg_6, xk_b, xg_b0, xg_b1, xBl_30, xBl_31, J_le, J_eq, Option.bind_some, decide_eq_true_iff]
    by_cases h6 : l ≤ (bat C (r, b) i).2
    · rw [if_pos h6, if_pos h6]
      by_cases h7 : (bat C (r, b) i).2 = l
      · by_cases h8 : ((bat C (r, b) i).1 : Int) = u
        · rw [if_pos h7, if_pos h8, if_pos ⟨h7, h8⟩]
        · rw [if_pos h7, if_neg h8, if_neg (fun h => h8 h.2)]
      · rw [if_neg h7, if_neg (fun h => h7 h.1)]
    · rw [if_neg h6, if_neg h6, X_goes hX hc hb3 (by omega)]; rfl
theorem X_miss50 (hX : ∀ S, Hc (emX o S w) c th C) (hc : xc S = c) (ho : OkC C) (hk : kp C = true) {p : Nat × Int} (hp : Lv C p) (hN : 1000000 ≤ N) {b u m : Int} (hb : 0 ≤ b ∧ b ≤ 99999) (hm : 0 ≤ m ∧ m ≤ 10000) (hu : 0 ≤ u ∧ u ≤ 9) (hpb : b ≤ p.2 ∧ p.2 ≤ b + 9) : fX0_missed_50 N o (J b) (J u) (J m) (fun y13 w14 => some (y13, w14)) N (J 0) (emX o (xBl S p) w) = some (J (sm (fun j => ind (((bat C p j).1 : Int) = u)) (til C p (b + m + 1))), emX o (xBl S (bat C p (til C p (b + m + 1)))) w) := by
  have hR := cR_le C
  have hl' : b + m + 1 ≤ p.2 + 109999 := by omega
  have ht := til_some hk ho hp hl'
  have ht' := (fi_some _ _ _).1 ht
  have key := lp_seek (fun n i => fX0_missed_50 N o (J b) (J u) (J m) (fun y13 w14 => some (y13, w14)) n (J (sm (fun j => ind (((bat C p j).1 : Int) = u)) i)) (emX o (xBl S (bat C p i)) w)) (fun i => some (J (sm (fun j => ind (((bat C p j).1 : Int) = u)) i), emX o (xBl S (bat C p i)) w)) (til C p (b + m + 1) + 1) (fun i => decide (b + m + 1 ≤ (bat C p i).2)) ?_ (fi_cut ht) N (by omega)
  · exact key
  · intro n i hi
    try dsimp only
    have hb1 := bat_hi C p i
    have hb2 := til_bd hk ho hp hl' (show i ≤ til C p (b + m + 1) by omega)
    have hb3 := (Lv_at hk ho hp i).1
    rw [fX0_missed_50]
    simp (disch := omega) only [jn_0, jn_1, jn_2, jn_3, jn_4, jn_5, jn_6, jn_8, jn_9, jn_10, jn_11, jn_12, jn_16, jn_20, jn_24, jn_30, jn_31, jn_32, jn_36, jn_48, jn_57, jn_59, jn_60, jn_63, jn_72, jn_73, jn_96, jn_97, jn_100, jn_122, jn_144, jn_200, jn_240, jn_288, jn_512, jn_840, jn_1200, jn_1600, jn_5040, jn_5390, jn_5400, jn_9999, jn_18688, jn_32400, jn_99999, jn_100000, jn_1000000, jn_858993459, jn_1431655765, jn_252645135, jl_0, jl_1, jl_2, jl_3, jl_8, jl_9, jl_10, jl_20, jl_27, jl_47, jl_96, jl_99, jl_100, jl_200, jl_555, jl_2000, jl_10000, jl_12345, jl_65536, jl_99999, jl_131638, jl_240023, jl_298288, jl_383153, jl_1306021, jl_1960084, jl_4147840, jl_8740238, jl_9872299, jl_175252482, jl_291595537, jl_1103515245, jl_2000000000, jl_2147483648, jl_4721686497, jl_7873079139, J_add, J_sub, J_mul, J_neg, JL_add, JL_sub, JL_mul, JL_neg, J_long, JL_int, ↓remI_fold, ↓remL_fold, Int.reduceAdd, Int.reduceSub, Int.reduceMul, Int.reduceNeg, Int.reduceToNat, xg_6, xk_b, xg_b0, xg_b1, xBl_30, xBl_31, J_lt, J_eq, Option.bind_some, decide_eq_true_iff]
    by_cases h6 : b + m + 1 ≤ (bat C p i).2
    · rw [if_pos (by omega), if_pos h6]
    · rw [if_neg (by omega), if_neg h6, X_goes hX hc hb3 (by omega)]
      simp only [sm, Option.bind_some, ind]
      by_cases h8 : ((bat C p i).1 : Int) = u
      · rw [if_pos h8, if_pos h8]; rfl
      · rw [if_neg h8, if_neg h8]; rfl
theorem X_missed (hX : ∀ S, Hc (emX o S w) c th C) (hc : xc S = c) (ho : OkC C) (hN : 1000000 ≤ N) {v b u m : Int} (hv : -2147483648 ≤ v ∧ v ≤ 2147483647) (hb : -2147483648 ≤ b ∧ b ≤ 2147483647) (hu : -2147483648 ≤ u ∧ u ≤ 2147483647) (hm : -2147483648 ≤ m ∧ m ≤ 2147483647) : ∃ S', fX0_missed N (emX o S w) o (J v) (J b) (J u) (J m) = some (J (sp_missed C v b u m), emX o S' w) ∧ FrX S S' := by
  have hR := cR_le C
  have h := hX S
  have hg : gR (emX o S w) [0] o 0 = some c := xg hc
  unfold fX0_missed sp_missed
  simp (disch := omega) only [jn_0, jn_1, jn_2, jn_3, jn_4, jn_5, jn_6, jn_8, jn_9, jn_10, jn_11, jn_12, jn_16, jn_20, jn_24, jn_30, jn_31, jn_32, jn_36, jn_48, jn_57, jn_59, jn_60, jn_63, jn_72, jn_73, jn_96, jn_97, jn_100, jn_122, jn_144, jn_200, jn_240, jn_288, jn_512, jn_840, jn_1200, jn_1600, jn_5040, jn_5390, jn_5400, jn_9999, jn_18688, jn_32400, jn_99999, jn_100000, jn_1000000, jn_858993459, jn_1431655765, jn_252645135, jl_0, jl_1, jl_2, jl_3, jl_8, jl_9, jl_10, jl_20, jl_27, jl_47, jl_96, jl_99, jl_100, jl_200, jl_555, jl_2000, jl_10000, jl_12345, jl_65536, jl_99999, jl_131638, jl_240023, jl_298288, jl_383153, jl_1306021, jl_1960084, jl_4147840, jl_8740238, jl_9872299, jl_175252482, jl_291595537, jl_1103515245, jl_2000000000, jl_2147483648, jl_4721686497, jl_7873079139, J_add, J_sub, J_mul, J_neg, JL_add, JL_sub, JL_mul, JL_neg, J_long, JL_int, ↓remI_fold, ↓remL_fold, Int.reduceAdd, Int.reduceSub, Int.reduceMul, Int.reduceNeg, Int.reduceToNat, Classical.not_not, em_t, Bp_eq0, Bp_eq1, Bp_01, Bp_mk, Bp_mk', Bp_0, Bp_0', Bp_1, Bp_1', if_true, if_false, ite_not, X_in, X_isRoof hg h, Option.bind_some, J_eq]
  by_cases h3 : 0 ≤ u ∧ u < cR C
  case neg => exact ⟨S, by simp only [if_neg h3, ite_self], FrX_r S⟩
  simp only [if_pos h3]
  by_cases h4 : 0 ≤ m ∧ m ≤ 10000
  case neg => exact ⟨S, by simp only [if_neg h4, ite_self], FrX_r S⟩
  simp only [if_pos h4]
  have ⟨S', e, hF, hS⟩ := X_asksBall (N := N) hX hc hN hv hb
  rw [e, Option.bind_some]
  by_cases h1 : 0 ≤ v ∧ v < cR C
  case neg => simp only [if_neg h1]; exact ⟨S', by rw [if_neg (by rw [J_le (by omega)]; omega)], hF⟩
  simp only [if_pos h1]
  by_cases h2 : 0 ≤ b ∧ b ≤ 99999
  case neg => simp only [if_neg h2]; exact ⟨S', by rw [if_neg (by rw [J_le (by omega)]; omega)], hF⟩
  simp only [if_pos h2]
  by_cases h5 : atB C v b = true
  case neg => simp only [if_neg h5]; exact ⟨S', by rw [if_neg (by rw [J_le (by omega)]; omega)], hF⟩
  simp only [if_pos h5]
  rw [if_pos (by rw [J_le (by omega)]; omega), hS h1 h2 h5]
  obtain ⟨r, hr⟩ : ∃ r : Nat, v = r := ⟨v.toNat, by omega⟩
  subst hr
  have hr' : r < cR C := by omega
  simp only [Int.toNat_natCast, xg_6, xk_b, Option.bind_some]
  have hk := (atB_k h5).1
  have hp0 : Lv C (r, b) := ⟨hr', (atB_k h5).2⟩
  rw [X_goes hX hc hr' (show -900000 ≤ b ∧ b ≤ 900000 by omega), Option.bind_some]
  have hp := Lv_go hk ho hp0
  have h9 := hh_le C r b
  have hb0 : (bgo C (r, b)).2 = b + hh C r b := rfl
  exact ⟨_, X_miss50 hX hc ho hk hp hN (by omega) (by omega) (by omega) (by omega), FrX_Bl _ _⟩
theorem X_read25 (hX : ∀ S, Hc (emX o S w) c th C) (hc : xc S = c) (ho : OkC C) (hk : kp C = true) {p : Nat × Int} (hp : Lv C p) (hN : 1000000 ≤ N) {l : Int} (hl : 0 ≤ l ∧ l ≤ 99999) (hpb : 0 ≤ p.2 ∧ p.2 ≤ 99999) : fX0_readers_25 N o (J l) (fun y13 w14 => some (y13, w14)) N (J 0) (emX o (xBl S p) w) = some (J (rds C p (til C p (l + 1))), emX o (xBl S (bat C p (til C p (l + 1)))) w) := by
  have hR := cR_le C
  have hl' : l + 1 ≤ p.2 + 109999 := by omega
  have ht := til_some hk ho hp hl'
  have ht' := (fi_some _ _ _).1 ht
  have key := lp_seek (fun n i => fX0_readers_25 N o (J l) (fun y13 w14 => some (y13, w14)) n (J (rds C p i)) (emX o (xBl S (bat C p i)) w)) (fun i => some (J (rds C p i), emX o (xBl S (bat C p i)) w)) (til C p (l + 1) + 1) (fun i => decide (l + 1 ≤ (bat C p i).2)) ?_ (fi_cut ht) N (by omega)
  · exact key
  · intro n i hi
    try dsimp only
    have hb1 := bat_hi C p i
    have hb2 := til_bd hk ho hp hl' (show i ≤ til C p (l + 1) by omega)
    have hb3 := (Lv_at hk ho hp i).1
    rw [fX0_readers_25]
    simp (disch := omega) only [jn_0, jn_1, jn_2, jn_3, jn_4, jn_5, jn_6, jn_8, jn_9, jn_10, jn_11, jn_12, jn_16, jn_20, jn_24, jn_30, jn_31, jn_32, jn_36, jn_48, jn_57, jn_59, jn_60, jn_63, jn_72, jn_73, jn_96, jn_97, jn_100, jn_122, jn_144, jn_200, jn_240, jn_288, jn_512, jn_840, jn_1200, jn_1600, jn_5040, jn_5390, jn_5400, jn_9999, jn_18688, jn_32400, jn_99999, jn_100000, jn_1000000, jn_858993459, jn_1431655765, jn_252645135, jl_0, jl_1, jl_2, jl_3, jl_8, jl_9, jl_10, jl_20, jl_27, jl_47, jl_96, jl_99, jl_100, jl_200, jl_555, jl_2000, jl_10000, jl_12345, jl_65536, jl_99999, jl_131638, jl_240023, jl_298288, jl_383153, jl_1306021, jl_1960084, jl_4147840, jl_8740238, jl_9872299, jl_175252482, jl_291595537, jl_1103515245, jl_2000000000, jl_2147483648, jl_4721686497, jl_7873079139, J_add, J_sub, J_mul, J_neg, JL_add, JL_sub, JL_mul, JL_neg, J_long, JL_int, ↓remI_fold, ↓remL_fold, Int.reduceAdd, Int.reduceSub, Int.reduceMul, Int.reduceNeg, Int.reduceToNat, xg_6, xk_b, xg_b0, xg_b1, xBl_30, xBl_31, J_lt, Option.bind_some, decide_eq_true_iff]
    by_cases h6 : l + 1 ≤ (bat C p i).2
    · rw [if_pos (by omega), if_pos h6]
    · rw [if_neg (by omega), if_neg h6, X_goes hX hc hb3 (by omega)]
      have e := J_shl 1 (bat C p i).1 (by omega)
      rw [show J ((1 : Nat) : Int) = J 1 from rfl] at e
      rw [e, J_or]
      rfl
theorem X_readers (hX : ∀ S, Hc (emX o S w) c th C) (hc : xc S = c) (ho : OkC C) (hN : 1000000 ≤ N) {k l : Int} (hk : -2147483648 ≤ k ∧ k ≤ 2147483647) (hl : -2147483648 ≤ l ∧ l ≤ 2147483647) : ∃ S', fX0_readers N (emX o S w) o (J k) (J l) = some (J (sp_readers C k l), emX o S' w) ∧ FrX S S' := by
  have hA := cA_le C k.toNat
  unfold fX0_readers sp_readers
  simp (disch := omega) only [jn_0, jn_1, jn_2, jn_3, jn_4, jn_5, jn_6, jn_8, jn_9, jn_10, jn_11, jn_12, jn_16, jn_20, jn_24, jn_30, jn_31, jn_32, jn_36, jn_48, jn_57, jn_59, jn_60, jn_63, jn_72, jn_73, jn_96, jn_97, jn_100, jn_122, jn_144, jn_200, jn_240, jn_288, jn_512, jn_840, jn_1200, jn_1600, jn_5040, jn_5390, jn_5400, jn_9999, jn_18688, jn_32400, jn_99999, jn_100000, jn_1000000, jn_858993459, jn_1431655765, jn_252645135, jl_0, jl_1, jl_2, jl_3, jl_8, jl_9, jl_10, jl_20, jl_27, jl_47, jl_96, jl_99, jl_100, jl_200, jl_555, jl_2000, jl_10000, jl_12345, jl_65536, jl_99999, jl_131638, jl_240023, jl_298288, jl_383153, jl_1306021, jl_1960084, jl_4147840, jl_8740238, jl_9872299, jl_175252482, jl_291595537, jl_1103515245, jl_2000000000, jl_2147483648, jl_4721686497, jl_7873079139, J_add, J_sub, J_mul, J_neg, JL_add, JL_sub, JL_mul, JL_neg, J_long, JL_int, ↓remI_fold, ↓remL_fold, Int.reduceAdd, Int.reduceSub, Int.reduceMul, Int.reduceNeg, Int.reduceToNat, Classical.not_not, em_t, Bp_eq0, Bp_eq1, Bp_01, Bp_mk, Bp_mk', Bp_0, Bp_0', Bp_1, Bp_1', if_true, if_false, ite_not, X_isBeat, Option.bind_some]
  by_cases h4 : 0 ≤ l ∧ l ≤ 99999
  case neg => exact ⟨S, by simp only [if_neg h4, ite_self], FrX_r S⟩
  simp only [if_pos h4]
  have ⟨S', e, hF, hS⟩ := X_asksLetter (N := N) hX hc ho hN hk
  rw [e, Option.bind_some]
  by_cases h1 : 0 ≤ k ∧ k < cN C
  case neg => simp only [if_neg h1]; exact ⟨S', by rw [if_neg (by rw [J_le (by omega)]; omega)], hF⟩
  simp only [if_pos h1]
  by_cases h5 : atB C (cF C k.toNat) (cA C k.toNat) = true
  case neg => simp only [if_neg h5]; exact ⟨S', by rw [if_neg (by rw [J_le (by omega)]; omega)], hF⟩
  simp only [if_pos h5]
  rw [if_pos (by rw [J_le (by omega)]; omega), hS h1 h5]
  have hok := ho.2.1 k.toNat (by omega)
  have hp : Lv C (cF C k.toNat, (cA C k.toNat : Int)) := ⟨hok.1, (atB_k h5).2⟩
  exact ⟨_, X_read25 hX hc ho (atB_k h5).1 hp hN h4 (show 0 ≤ (cA C k.toNat : Int) ∧ (cA C k.toNat : Int) ≤ 99999 by omega), FrX_Bl _ _⟩
theorem X_nextOn (hX : ∀ S, Hc (emX o S w) c th C) (hc : xc S = c) (ho : OkC C) (hk : kp C = true) {p : Nat × Int} (hp : Lv C p) (hN : 1000000 ≤ N) {u : Nat} (hu : u ≤ 9) (hpb : 0 ≤ p.2 ∧ p.2 ≤ 99999) : ∃ q : Nat × Int, fX0_nextOn N (emX o (xBl S p) w) o (J u) = some (J (nxt C p u), emX o (xBl S q) w) := by
  have h := hX (xBl S p)
  have hg : gR (emX o (xBl S p) w) [0] o 0 = some c := xg hc
  have hR := cR_le C
  have hRr := Rr_le C
  unfold fX0_nextOn
  simp (disch := omega) only [jn_0, jn_1, jn_2, jn_3, jn_4, jn_5, jn_6, jn_8, jn_9, jn_10, jn_11, jn_12, jn_16, jn_20, jn_24, jn_30, jn_31, jn_32, jn_36, jn_48, jn_57, jn_59, jn_60, jn_63, jn_72, jn_73, jn_96, jn_97, jn_100, jn_122, jn_144, jn_200, jn_240, jn_288, jn_512, jn_840, jn_1200, jn_1600, jn_5040, jn_5390, jn_5400, jn_9999, jn_18688, jn_32400, jn_99999, jn_100000, jn_1000000, jn_858993459, jn_1431655765, jn_252645135, jl_0, jl_1, jl_2, jl_3, jl_8, jl_9, jl_10, jl_20, jl_27, jl_47, jl_96, jl_99, jl_100, jl_200, jl_555, jl_2000, jl_10000, jl_12345, jl_65536, jl_99999, jl_131638, jl_240023, jl_298288, jl_383153, jl_1306021, jl_1960084, jl_4147840, jl_8740238, jl_9872299, jl_175252482, jl_291595537, jl_1103515245, jl_2000000000, jl_2147483648, jl_4721686497, jl_7873079139, J_add, J_sub, J_mul, J_neg, JL_add, JL_sub, JL_mul, JL_neg, J_long, JL_int, ↓remI_fold, ↓remL_fold, Int.reduceAdd, Int.reduceSub, Int.reduceMul, Int.reduceNeg, Int.reduceToNat, hg, hc_0 h, hc_1 h, hc_2 h, hc_3 h, hc_4 h, hc_5 h, hc_7 h, hc_8 h, hc_9 h, hc_10 h, hc_11 h, hc_12 h, hc_k h, hc_at h, Int.toNat_natCast, X_round h, Option.bind_some]
  rw [show (cR C : Int) * (rnd C : Int) = ((cR C * rnd C : Nat) : Int) by rw [Int.natCast_mul]]
  have key := lp_find (fun n i => fX0_nextOn_18 N o (J u) (J ((cR C * rnd C : Nat) : Int)) (fun w13 => (gR w13 [0] o 6).bind fun x14 => (gI w13 [3] x14 1).bind fun x15 => some (x15, w13)) (fun w16 => some (J (-1), w16)) n (J (i : Int)) (emX o (xBl S (bat C p i)) w)) (fun i => some (J (bat C p (i + 1)).2, emX o (xBl S (bat C p (i + 1))) w)) (some (J (-1), emX o (xBl S (bat C p (cR C * rnd C))) w)) (cR C * rnd C) (fun i => decide ((bat C p (i + 1)).1 = u)) ?_ ?_ N (by omega)
  · cases hf : fi (fun i => decide ((bat C p (i + 1)).1 = u)) (cR C * rnd C) with
    | none =>
      rw [hf] at key
      refine ⟨bat C p (cR C * rnd C), ?_⟩
      unfold nxt
      rw [hf]
      exact key
    | some i =>
      rw [hf] at key
      refine ⟨bat C p (i + 1), ?_⟩
      unfold nxt
      rw [hf]
      exact key
  · intro n i hi
    try dsimp only
    have hb1 := bat_hi C p i
    have hb3 := (Lv_at hk ho hp i).1
    have hb4 := (Lv_at hk ho hp (i + 1)).1
    have ef : fX3_goes N (emX o (xBl S (bat C p i)) w) (o + 12) = some (emX o (xBl S (bat C p (i + 1))) w) := X_goes hX hc hb3 (by omega)
    rw [fX0_nextOn_18]
    simp (disch := omega) only [jn_0, jn_1, jn_2, jn_3, jn_4, jn_5, jn_6, jn_8, jn_9, jn_10, jn_11, jn_12, jn_16, jn_20, jn_24, jn_30, jn_31, jn_32, jn_36, jn_48, jn_57, jn_59, jn_60, jn_63, jn_72, jn_73, jn_96, jn_97, jn_100, jn_122, jn_144, jn_200, jn_240, jn_288, jn_512, jn_840, jn_1200, jn_1600, jn_5040, jn_5390, jn_5400, jn_9999, jn_18688, jn_32400, jn_99999, jn_100000, jn_1000000, jn_858993459, jn_1431655765, jn_252645135, jl_0, jl_1, jl_2, jl_3, jl_8, jl_9, jl_10, jl_20, jl_27, jl_47, jl_96, jl_99, jl_100, jl_200, jl_555, jl_2000, jl_10000, jl_12345, jl_65536, jl_99999, jl_131638, jl_240023, jl_298288, jl_383153, jl_1306021, jl_1960084, jl_4147840, jl_8740238, jl_9872299, jl_175252482, jl_291595537, jl_1103515245, jl_2000000000, jl_2147483648, jl_4721686497, jl_7873079139, J_add, J_sub, J_mul, J_neg, JL_add, JL_sub, JL_mul, JL_neg, J_long, JL_int, ↓remI_fold, ↓remL_fold, Int.reduceAdd, Int.reduceSub, Int.reduceMul, Int.reduceNeg, Int.reduceToNat, J_le, castS, Option.bind_some, ef, xg_6, xk_b, xg_b0, xg_b1, xBl_30, xBl_31, J_eq, castE, decide_eq_true_iff]
    rw [if_neg (by omega)]
  · intro n
    try dsimp only
    rw [fX0_nextOn_18]
    simp (disch := omega) only [jn_0, jn_1, jn_2, jn_3, jn_4, jn_5, jn_6, jn_8, jn_9, jn_10, jn_11, jn_12, jn_16, jn_20, jn_24, jn_30, jn_31, jn_32, jn_36, jn_48, jn_57, jn_59, jn_60, jn_63, jn_72, jn_73, jn_96, jn_97, jn_100, jn_122, jn_144, jn_200, jn_240, jn_288, jn_512, jn_840, jn_1200, jn_1600, jn_5040, jn_5390, jn_5400, jn_9999, jn_18688, jn_32400, jn_99999, jn_100000, jn_1000000, jn_858993459, jn_1431655765, jn_252645135, jl_0, jl_1, jl_2, jl_3, jl_8, jl_9, jl_10, jl_20, jl_27, jl_47, jl_96, jl_99, jl_100, jl_200, jl_555, jl_2000, jl_10000, jl_12345, jl_65536, jl_99999, jl_131638, jl_240023, jl_298288, jl_383153, jl_1306021, jl_1960084, jl_4147840, jl_8740238, jl_9872299, jl_175252482, jl_291595537, jl_1103515245, jl_2000000000, jl_2147483648, jl_4721686497, jl_7873079139, J_add, J_sub, J_mul, J_neg, JL_add, JL_sub, JL_mul, JL_neg, J_long, JL_int, ↓remI_fold, ↓remL_fold, Int.reduceAdd, Int.reduceSub, Int.reduceMul, Int.reduceNeg, Int.reduceToNat, J_le, castS, Option.bind_some]
    rw [if_pos (by omega)]
theorem X_misses (hX : ∀ S, Hc (emX o S w) c th C) (hc : xc S = c) (ho : OkC C) (hN : 1000000 ≤ N) {v b u : Int} (hv : -2147483648 ≤ v ∧ v ≤ 2147483647) (hb : -2147483648 ≤ b ∧ b ≤ 2147483647) (hu : -2147483648 ≤ u ∧ u ≤ 2147483647) : ∃ S', fX0_misses N (emX o S w) o (J v) (J b) (J u) = some (J (sp_misses C v b u), emX o S' w) ∧ FrX S S' := by
  have hR := cR_le C
  have h := hX S
  have hg : gR (emX o S w) [0] o 0 = some c := xg hc
  unfold fX0_misses sp_misses
  simp (disch := omega) only [jn_0, jn_1, jn_2, jn_3, jn_4, jn_5, jn_6, jn_8, jn_9, jn_10, jn_11, jn_12, jn_16, jn_20, jn_24, jn_30, jn_31, jn_32, jn_36, jn_48, jn_57, jn_59, jn_60, jn_63, jn_72, jn_73, jn_96, jn_97, jn_100, jn_122, jn_144, jn_200, jn_240, jn_288, jn_512, jn_840, jn_1200, jn_1600, jn_5040, jn_5390, jn_5400, jn_9999, jn_18688, jn_32400, jn_99999, jn_100000, jn_1000000, jn_858993459, jn_1431655765, jn_252645135, jl_0, jl_1, jl_2, jl_3, jl_8, jl_9, jl_10, jl_20, jl_27, jl_47, jl_96, jl_99, jl_100, jl_200, jl_555, jl_2000, jl_10000, jl_12345, jl_65536, jl_99999, jl_131638, jl_240023, jl_298288, jl_383153, jl_1306021, jl_1960084, jl_4147840, jl_8740238, jl_9872299, jl_175252482, jl_291595537, jl_1103515245, jl_2000000000, jl_2147483648, jl_4721686497, jl_7873079139, J_add, J_sub, J_mul, J_neg, JL_add, JL_sub, JL_mul, JL_neg, J_long, JL_int, ↓remI_fold, ↓remL_fold, Int.reduceAdd, Int.reduceSub, Int.reduceMul, Int.reduceNeg, Int.reduceToNat, Classical.not_not, em_t, Bp_eq0, Bp_eq1, Bp_01, Bp_mk, Bp_mk', Bp_0, Bp_0', Bp_1, Bp_1', if_true, if_false, ite_not, X_isRoof hg h, Option.bind_some]
  by_cases h3 : 0 ≤ u ∧ u < cR C
  case neg => exact ⟨S, by simp only [if_neg h3, ite_self], FrX_r S⟩
  simp only [if_pos h3]
  have ⟨S', e, hF, hS⟩ := X_asksBall (N := N) hX hc hN hv hb
  rw [e, Option.bind_some]
  by_cases h1 : 0 ≤ v ∧ v < cR C
  case neg => simp only [if_neg h1]; exact ⟨S', by rw [if_neg (by rw [J_le (by omega)]; omega)], hF⟩
  simp only [if_pos h1]
  by_cases h2 : 0 ≤ b ∧ b ≤ 99999
  case neg => simp only [if_neg h2]; exact ⟨S', by rw [if_neg (by rw [J_le (by omega)]; omega)], hF⟩
  simp only [if_pos h2]
  by_cases h5 : atB C v b = true
  case neg => simp only [if_neg h5]; exact ⟨S', by rw [if_neg (by rw [J_le (by omega)]; omega)], hF⟩
  simp only [if_pos h5]
  rw [if_pos (by rw [J_le (by omega)]; omega), hS h1 h2 h5]
  obtain ⟨q, hr⟩ : ∃ r : Nat, u = r := ⟨u.toNat, by omega⟩
  subst hr
  have hp : Lv C (v.toNat, b) := ⟨show v.toNat < cR C by omega, (atB_k h5).2⟩
  have ⟨q', e'⟩ := X_nextOn (N := N) hX hc ho (atB_k h5).1 hp hN (u := q) (by omega) h2
  exact ⟨xBl S q', by rw [e', Option.bind_some, Int.toNat_natCast], FrX_Bl _ _⟩
theorem X_alone (hX : ∀ S, Hc (emX o S w) c th C) (hc : xc S = c) (ho : OkC C) (hN : 1000000 ≤ N) {k : Int} (hk : -2147483648 ≤ k ∧ k ≤ 2147483647) : ∃ S', fX0_alone N (emX o S w) o (J k) = some (J (sp_alone C k), emX o S' w) ∧ FrX S S' := by
  have hA := cA_le C k.toNat
  have hD := cD_le C k.toNat
  unfold fX0_alone sp_alone
  have ⟨S', e, hF, hS⟩ := X_asksLetter (N := N) hX hc ho hN hk
  rw [e, Option.bind_some]
  simp only [jn_0, jn_1, jn_2, jn_3, jn_4, jn_5, jn_6, jn_8, jn_9, jn_10, jn_11, jn_12, jn_16, jn_20, jn_24, jn_30, jn_31, jn_32, jn_36, jn_48, jn_57, jn_59, jn_60, jn_63, jn_72, jn_73, jn_96, jn_97, jn_100, jn_122, jn_144, jn_200, jn_240, jn_288, jn_512, jn_840, jn_1200, jn_1600, jn_5040, jn_5390, jn_5400, jn_9999, jn_18688, jn_32400, jn_99999, jn_100000, jn_1000000, jn_858993459, jn_1431655765, jn_252645135, jl_0, jl_1, jl_2, jl_3, jl_8, jl_9, jl_10, jl_20, jl_27, jl_47, jl_96, jl_99, jl_100, jl_200, jl_555, jl_2000, jl_10000, jl_12345, jl_65536, jl_99999, jl_131638, jl_240023, jl_298288, jl_383153, jl_1306021, jl_1960084, jl_4147840, jl_8740238, jl_9872299, jl_175252482, jl_291595537, jl_1103515245, jl_2000000000, jl_2147483648, jl_4721686497, jl_7873079139, J_add, J_sub, J_mul, J_neg, JL_add, JL_sub, JL_mul, JL_neg, J_long, JL_int, ↓remI_fold, ↓remL_fold, Int.reduceAdd, Int.reduceSub, Int.reduceMul, Int.reduceNeg, Int.reduceToNat]
  by_cases h1 : 0 ≤ k ∧ k < cN C
  case neg => simp only [if_neg h1]; exact ⟨S', by rw [if_neg (by rw [J_le (by omega)]; omega)], hF⟩
  simp only [if_pos h1]
  by_cases h5 : atB C (cF C k.toNat) (cA C k.toNat) = true
  case neg => simp only [if_neg h5]; exact ⟨S', by rw [if_neg (by rw [J_le (by omega)]; omega)], hF⟩
  simp only [if_pos h5]
  rw [if_pos (by rw [J_le (by omega)]; omega), hS h1 h5]
  have hok := ho.2.1 k.toNat (by omega)
  have hp : Lv C (cF C k.toNat, (cA C k.toNat : Int)) := ⟨hok.1, (atB_k h5).2⟩
  have h := hX (xBl S (cF C k.toNat, (cA C k.toNat : Int)))
  have hg : gR (emX o (xBl S (cF C k.toNat, (cA C k.toNat : Int))) w) [0] o 0 = some c := xg hc
  have ⟨q', e'⟩ := X_nextOn (N := N) hX hc ho (atB_k h5).1 hp hN (u := cD C k.toNat) (by omega) (show 0 ≤ (cA C k.toNat : Int) ∧ (cA C k.toNat : Int) ≤ 99999 by omega)
  simp (disch := omega) only [hg, hc_0 h, hc_1 h, hc_2 h, hc_3 h, hc_4 h, hc_5 h, hc_7 h, hc_8 h, hc_9 h, hc_10 h, hc_11 h, hc_12 h, hc_k h, hc_at h, Int.toNat_natCast, hc_D h, e', Option.bind_some]
  exact ⟨xBl S q', rfl, FrX_Bl _ _⟩
theorem X_orb18 (hX : ∀ S, Hc (emX o S w) c th C) (hc : xc S = c) (ho : OkC C) (hk : kp C = true) {r : Nat} {b : Int} (hp : Lv C (r, b)) (hb : 0 ≤ b ∧ b ≤ 99999) (x : Int32) (k : Int32 → Int32 → Int32 → Wd → Option (Int32 × Wd)) {n : Nat} (hn : 6000 < n) : fX0_orbitOf_18 N o (J r) (J b) x (J (rnd C)) k n (J 0) (J 0) (J 0) (emX o (xBl S (r, b)) w) = k (J ((obL C (r, b) : Int) + 1)) (J ((bat C (r, b) (obL C (r, b) + 1)).2 - b)) (J (rds C (r, b) (obL C (r, b) + 1))) (emX o (xBl S (bat C (r, b) (obL C (r, b) + 1))) w) := by
  have hr : r < cR C := hp.1
  have hR := cR_le C
  have hp' := rnd_bd C
  have hRr := Rr_le C
  have hL := ob_some hk ho hp
  have ⟨l1, l2, l3⟩ := (fi_some _ _ _).1 hL
  have key := lp_seek (fun n i => fX0_orbitOf_18 N o (J r) (J b) x (J (rnd C)) k n (J (i : Int)) (J ((bat C (r, b) i).2 - b)) (J (rds C (r, b) i)) (emX o (xBl S (bat C (r, b) i)) w)) (fun i => k (J ((i : Int) + 1)) (J ((bat C (r, b) (i + 1)).2 - b)) (J (rds C (r, b) (i + 1))) (emX o (xBl S (bat C (r, b) (i + 1))) w)) (obL C (r, b) + 1) (fun i => decide (Al C (bat C (r, b) (i + 1)) (r, b))) ?_ (fi_cut hL) n (by omega)
  · have e0 : (bat C (r, b) 0).2 - b = 0 := by show b - b = 0; omega
    rw [e0] at key
    exact key
  · intro n i hi
    try dsimp only
    have hb1 := bat_hi C (r, b) i
    have hb2 := bat_hi C (r, b) (i + 1)
    have hb3 := (Lv_at hk ho hp i).1
    have hb4 := (Lv_at hk ho hp (i + 1)).1
    simp only at hb1 hb2
    have ef : fX3_goes N (emX o (xBl S (bat C (r, b) i)) w) (o + 12) = some (emX o (xBl S (bat C (r, b) (i + 1))) w) := X_goes hX hc hb3 (by omega)
    have eh : fX3_height N (emX o (xBl S (bat C (r, b) i)) w) (o + 12) = some (J (hh C (bat C (r, b) i).1 (bat C (r, b) i).2)) := X3_height hX hc hb3 (by omega)
    have e2 : (bat C (r, b) (i + 1)).2 = (bat C (r, b) i).2 + hh C (bat C (r, b) i).1 (bat C (r, b) i).2 := rfl
    have es := J_shl 1 (bat C (r, b) i).1 (by omega)
    rw [show J ((1 : Nat) : Int) = J 1 from rfl] at es
    have er : rds C (r, b) i ||| 1 <<< (bat C (r, b) i).1 = rds C (r, b) (i + 1) := rfl
    rw [fX0_orbitOf_18]
    simp (disch := omega) only [jn_0, jn_1, jn_2, jn_3, jn_4, jn_5, jn_6, jn_8, jn_9, jn_10, jn_11, jn_12, jn_16, jn_20, jn_24, jn_30, jn_31, jn_32, jn_36, jn_48, jn_57, jn_59, jn_60, jn_63, jn_72, jn_73, jn_96, jn_97, jn_100, jn_122, jn_144, jn_200, jn_240, jn_288, jn_512, jn_840, jn_1200, jn_1600, jn_5040, jn_5390, jn_5400, jn_9999, jn_18688, jn_32400, jn_99999, jn_100000, jn_1000000, jn_858993459, jn_1431655765, jn_252645135, jl_0, jl_1, jl_2, jl_3, jl_8, jl_9, jl_10, jl_20, jl_27, jl_47, jl_96, jl_99, jl_100, jl_200, jl_555, jl_2000, jl_10000, jl_12345, jl_65536, jl_99999, jl_131638, jl_240023, jl_298288, jl_383153, jl_1306021, jl_1960084, jl_4147840, jl_8740238, jl_9872299, jl_175252482, jl_291595537, jl_1103515245, jl_2000000000, jl_2147483648, jl_4721686497, jl_7873079139, J_add, J_sub, J_mul, J_neg, JL_add, JL_sub, JL_mul, JL_neg, J_long, JL_int, ↓remI_fold, ↓remL_fold, Int.reduceAdd, Int.reduceSub, Int.reduceMul, Int.reduceNeg, Int.reduceToNat, xg_6, xk_b, xg_b0, xBl_30, Option.bind_some]
    simp only [eh, ef, Option.bind_some]
    simp only [xg_6, xk_b, xg_b0, xg_b1, xBl_30, xBl_31, Option.bind_some]
    simp only [decide_eq_true_iff, J_add, J_sub]
    simp (disch := omega) only [rem0]
    simp (disch := omega) only [J_eq, castE]
    simp only [sub0]
    rw [es, J_or, er, show (bat C (r, b) i).2 - b + hh C (bat C (r, b) i).1 (bat C (r, b) i).2 = (bat C (r, b) (i + 1)).2 - b by rw [e2]; omega]
    by_cases h6 : Al C (bat C (r, b) (i + 1)) (r, b)
    · rw [if_pos h6.1, if_neg (by omega), if_pos h6.2, if_pos h6]
    · rw [if_neg h6, show (i : Int) + 1 = ((i + 1 : Nat) : Int) by omega]
      by_cases h7 : (bat C (r, b) (i + 1)).1 = r
      · rw [if_pos h7, if_neg (by omega), if_neg (fun h => h6 ⟨h7, h⟩)]
      · rw [if_neg h7]
theorem X_orbit (hX : ∀ S, Hc (emX o S w) c th C) (hc : xc S = c) (ho : OkC C) (hN : 1000000 ≤ N) {v b x : Int} (hv : -2147483648 ≤ v ∧ v ≤ 2147483647) (hb : -2147483648 ≤ b ∧ b ≤ 2147483647) (hx : -2147483648 ≤ x ∧ x ≤ 2147483647) : ∃ S', fX0_orbit N (emX o S w) o (J v) (J b) (J x) = some (J (sp_orbit C v b x), emX o S' w) ∧ FrX S S' := by
  have hR := cR_le C
  have hp' := rnd_bd C
  have hRr := Rr_le C
  unfold fX0_orbit sp_orbit
  simp (disch := omega) only [jn_0, jn_1, jn_2, jn_3, jn_4, jn_5, jn_6, jn_8, jn_9, jn_10, jn_11, jn_12, jn_16, jn_20, jn_24, jn_30, jn_31, jn_32, jn_36, jn_48, jn_57, jn_59, jn_60, jn_63, jn_72, jn_73, jn_96, jn_97, jn_100, jn_122, jn_144, jn_200, jn_240, jn_288, jn_512, jn_840, jn_1200, jn_1600, jn_5040, jn_5390, jn_5400, jn_9999, jn_18688, jn_32400, jn_99999, jn_100000, jn_1000000, jn_858993459, jn_1431655765, jn_252645135, jl_0, jl_1, jl_2, jl_3, jl_8, jl_9, jl_10, jl_20, jl_27, jl_47, jl_96, jl_99, jl_100, jl_200, jl_555, jl_2000, jl_10000, jl_12345, jl_65536, jl_99999, jl_131638, jl_240023, jl_298288, jl_383153, jl_1306021, jl_1960084, jl_4147840, jl_8740238, jl_9872299, jl_175252482, jl_291595537, jl_1103515245, jl_2000000000, jl_2147483648, jl_4721686497, jl_7873079139, J_add, J_sub, J_mul, J_neg, JL_add, JL_sub, JL_mul, JL_neg, J_long, JL_int, ↓remI_fold, ↓remL_fold, Int.reduceAdd, Int.reduceSub, Int.reduceMul, Int.reduceNeg, Int.reduceToNat, Classical.not_not, em_t, Bp_eq0, Bp_eq1, Bp_01, Bp_mk, Bp_mk', Bp_0, Bp_0', Bp_1, Bp_1', if_true, if_false, ite_not, X_in, Option.bind_some]
  by_cases h3 : 0 ≤ x ∧ x ≤ 3
  case neg => exact ⟨S, by simp only [if_neg h3, ite_self], FrX_r S⟩
  simp only [if_pos h3]
  have ⟨S', e, hF, hS⟩ := X_asksBall (N := N) hX hc hN hv hb
  rw [e, Option.bind_some]
  by_cases h1 : 0 ≤ v ∧ v < cR C
  case neg => simp only [if_neg h1]; exact ⟨S', by rw [if_neg (by rw [J_le (by omega)]; omega)], hF⟩
  simp only [if_pos h1]
  by_cases h2 : 0 ≤ b ∧ b ≤ 99999
  case neg => simp only [if_neg h2]; exact ⟨S', by rw [if_neg (by rw [J_le (by omega)]; omega)], hF⟩
  simp only [if_pos h2]
  by_cases h5 : atB C v b = true
  case neg => simp only [if_neg h5]; exact ⟨S', by rw [if_neg (by rw [J_le (by omega)]; omega)], hF⟩
  simp only [if_pos h5]
  rw [if_pos (by rw [J_le (by omega)]; omega), hS h1 h2 h5]
  obtain ⟨r, hr⟩ : ∃ r : Nat, v = r := ⟨v.toNat, by omega⟩
  subst hr
  have hr' : r < cR C := by omega
  simp only [Int.toNat_natCast]
  have hk := (atB_k h5).1
  have hp : Lv C (r, b) := ⟨hr', (atB_k h5).2⟩
  have h := hX (xBl S (r, b))
  have hg : gR (emX o (xBl S (r, b)) w) [0] o 0 = some c := xg hc
  unfold fX0_orbitOf
  simp (disch := omega) only [jn_0, jn_1, jn_2, jn_3, jn_4, jn_5, jn_6, jn_8, jn_9, jn_10, jn_11, jn_12, jn_16, jn_20, jn_24, jn_30, jn_31, jn_32, jn_36, jn_48, jn_57, jn_59, jn_60, jn_63, jn_72, jn_73, jn_96, jn_97, jn_100, jn_122, jn_144, jn_200, jn_240, jn_288, jn_512, jn_840, jn_1200, jn_1600, jn_5040, jn_5390, jn_5400, jn_9999, jn_18688, jn_32400, jn_99999, jn_100000, jn_1000000, jn_858993459, jn_1431655765, jn_252645135, jl_0, jl_1, jl_2, jl_3, jl_8, jl_9, jl_10, jl_20, jl_27, jl_47, jl_96, jl_99, jl_100, jl_200, jl_555, jl_2000, jl_10000, jl_12345, jl_65536, jl_99999, jl_131638, jl_240023, jl_298288, jl_383153, jl_1306021, jl_1960084, jl_4147840, jl_8740238, jl_9872299, jl_175252482, jl_291595537, jl_1103515245, jl_2000000000, jl_2147483648, jl_4721686497, jl_7873079139, J_add, J_sub, J_mul, J_neg, JL_add, JL_sub, JL_mul, JL_neg, J_long, JL_int, ↓remI_fold, ↓remL_fold, Int.reduceAdd, Int.reduceSub, Int.reduceMul, Int.reduceNeg, Int.reduceToNat, hg, hc_0 h, hc_1 h, hc_2 h, hc_3 h, hc_4 h, hc_5 h, hc_7 h, hc_8 h, hc_9 h, hc_10 h, hc_11 h, hc_12 h, hc_k h, hc_at h, Int.toNat_natCast, X_round h, Option.bind_some]
  rw [X_orb18 hX hc ho hk hp h2 _ _ (by omega)]
  have hL := ob_some hk ho hp
  have ⟨l1, l2, l3⟩ := (fi_some _ _ _).1 hL
  have hb2 := bat_hi C (r, b) (obL C (r, b) + 1)
  simp only at hb2
  refine ⟨xBl S (bat C (r, b) (obL C (r, b) + 1)), ?_, FrX_Bl _ _⟩
  simp (disch := omega) only [J_eq, J_div]
  by_cases h7 : x = 0
  · simp only [if_pos h7, Option.bind_some]
  simp only [if_neg h7]
  by_cases h8 : x = 1
  · simp only [if_pos h8, Option.bind_some]
  simp only [if_neg h8]
  by_cases h9 : x = 2
  · simp only [if_pos h9]
    rw [if_neg (by omega)]; rfl
  simp only [if_neg h9, Option.bind_some]
end
