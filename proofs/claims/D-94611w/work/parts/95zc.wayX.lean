/-! the component: the soonest way; soonest, way -/
set_option maxRecDepth 100000
section
variable {N o c : Nat} {S : XS} {w : Wd} {C : Cy} {th : Nat → Nat}
theorem ixX_i2 {L : Nat} (hL : L ≤ 80) : ∀ i q j x, i ≤ L → q < cR C → j ≤ L → x < cR C → 200 * q + i = 200 * x + j → i = j ∧ q = x := by
  intro i q j x hi _ hj _ h
  omega
theorem X_min {a b : Int} (h : (-2147483648 ≤ a ∧ a ≤ 2147483647) ∧ -2147483648 ≤ b ∧ b ≤ 2147483647) : fJ0_min N w (J a) (J b) = some (J (if b < a then b else a)) := by
  unfold fJ0_min
  simp only [J_lt (And.intro h.2 h.1)]
  split <;> rfl
theorem X_fl82 (hX : ∀ S, Hc (emX o S w) c th C) (hc : xc S = c) (ho : OkC C) (hN : 1000000 ≤ N) {t : Int} (ht : 0 ≤ t ∧ t ≤ 99999) {L d : Nat} (hL : L ≤ 80) {e r : Nat} (he : e ≤ L) (hr : r < cR C) {f : Nat → Int32} (hf : RlF C t L d (fun i q => 200 * q + i) (fun x q => x < e ∨ (x = e ∧ q < r)) f) (x : Int32) (R : Int32 → Wd → Option Wd) (K : Wd → Option Wd) {best : Nat} (hb : best = if r = d then 0 else if e = 0 then 1000000 else lf C t L d (e - 1) r) : fX0_fillLeft_82 N (emX o (xSR S 15 f) w) o x (J (t + (L : Int))) (J t) (J (t + ((L - e : Nat) : Int))) (J (r : Int)) (J (best : Int)) R K = R (J ((r + 1 : Nat) : Int)) (emX o (xSR S 15 (upd f (200 * r + (L - e)) (J (lf C t L d e r : Int)))) w) := by
  have hR := cR_le C
  have hx := hX (xSR S 15 f)
  have hg : gR (emX o (xSR S 15 f) w) [0] o 0 = some c := xg hc
  have eb : t + ((L - e : Nat) : Int) = t + ((L : Int) - (e : Int)) := by omega
  have h9 := hh_le C r (t + ((L : Int) - (e : Int)))
  have h5 := tt_lt ho hr (t + ((L : Int) - (e : Int)))
  have hbb : best ≤ 1000000 := by
    rw [hb]
    split
    · omega
    · split
      · omega
      · exact lf_le _ _ _ _ _ _ (by omega)
  have hz : 0 ≤ 200 * (r : Int) + (t + ((L : Int) - (e : Int))) - t ∧ 200 * (r : Int) + (t + ((L : Int) - (e : Int))) - t < 1200 := by omega
  have hidx : (200 * (r : Int) + (t + ((L : Int) - (e : Int))) - t).toNat = 200 * r + (L - e) := by omega
  have h163 : ∀ v : Nat, fX0_fillLeft_163 N (emX o (xSR S 15 f) w) o x (J (t + (L : Int))) (J t) (J (t + ((L : Int) - (e : Int)))) (J (r : Int)) (J (v : Int)) R K = R (J ((r + 1 : Nat) : Int)) (emX o (xSR S 15 (upd f (200 * r + (L - e)) (J (v : Int)))) w) := by
    intro v
    unfold fX0_fillLeft_163
    simp only [jn_0, jn_1, jn_2, jn_3, jn_4, jn_5, jn_6, jn_8, jn_9, jn_10, jn_11, jn_12, jn_16, jn_20, jn_24, jn_30, jn_31, jn_32, jn_36, jn_48, jn_57, jn_59, jn_60, jn_63, jn_72, jn_73, jn_96, jn_97, jn_100, jn_122, jn_144, jn_200, jn_240, jn_288, jn_512, jn_840, jn_1200, jn_1600, jn_5040, jn_5390, jn_5400, jn_9999, jn_18688, jn_32400, jn_99999, jn_100000, jn_1000000, jn_858993459, jn_1431655765, jn_252645135, jl_0, jl_1, jl_2, jl_3, jl_8, jl_9, jl_10, jl_20, jl_27, jl_47, jl_96, jl_99, jl_100, jl_200, jl_555, jl_2000, jl_10000, jl_12345, jl_65536, jl_99999, jl_131638, jl_240023, jl_298288, jl_383153, jl_1306021, jl_1960084, jl_4147840, jl_8740238, jl_9872299, jl_175252482, jl_291595537, jl_1103515245, jl_2000000000, jl_2147483648, jl_4721686497, jl_7873079139, J_add, J_sub, J_mul, J_neg, JL_add, JL_sub, JL_mul, JL_neg, J_long, JL_int, ↓remI_fold, ↓remL_fold, Int.reduceAdd, Int.reduceSub, Int.reduceMul, Int.reduceNeg, Int.reduceToNat, xg_9, xw_15 o _ w _ hz, hidx, xSA_R, Option.bind_some, castS]
  have hcase : lf C t L d e r = if 0 < best ∧ 0 < hh C r (t + ((L : Int) - (e : Int))) ∧ hh C r (t + ((L : Int) - (e : Int))) ≤ e ∧ 1 + lf C t L d (e - hh C r (t + ((L : Int) - (e : Int)))) (tt C r (t + ((L : Int) - (e : Int)))) < best then 1 + lf C t L d (e - hh C r (t + ((L : Int) - (e : Int)))) (tt C r (t + ((L : Int) - (e : Int)))) else best := by
    by_cases hd : r = d
    · rw [if_pos hd] at hb
      rw [hb, if_neg (by omega), hd]; exact lf_d _ _ _ _ _
    · rw [if_neg hd] at hb
      cases e with
      | zero => rw [if_neg (by omega), hb, if_pos rfl, lf_0, if_neg hd]
      | succ e =>
        have hb2 : best = lf C t L d e r := by rw [hb, if_neg (by omega), Nat.add_sub_cancel]
        rw [lf_s, hb2]
        by_cases hq : 0 < hh C r (t + ((L : Int) - ((e + 1 : Nat) : Int))) ∧ hh C r (t + ((L : Int) - ((e + 1 : Nat) : Int))) ≤ e + 1 ∧ 1 + lf C t L d (e + 1 - hh C r (t + ((L : Int) - ((e + 1 : Nat) : Int)))) (tt C r (t + ((L : Int) - ((e + 1 : Nat) : Int)))) < lf C t L d e r
        · rw [if_pos hq, if_pos ⟨by omega, hq⟩]
        · rw [if_neg hq, if_neg (fun h => hq h.2)]
  have hat := hc_at hx (z := (r : Int)) (by omega)
  rw [Int.toNat_natCast] at hat
  have hbd : -1000000 ≤ t + ((L : Int) - (e : Int)) ∧ t + ((L : Int) - (e : Int)) ≤ 1000000 := by omega
  rw [eb]
  unfold fX0_fillLeft_82
  simp only [jn_0, jn_1, jn_2, jn_3, jn_4, jn_5, jn_6, jn_8, jn_9, jn_10, jn_11, jn_12, jn_16, jn_20, jn_24, jn_30, jn_31, jn_32, jn_36, jn_48, jn_57, jn_59, jn_60, jn_63, jn_72, jn_73, jn_96, jn_97, jn_100, jn_122, jn_144, jn_200, jn_240, jn_288, jn_512, jn_840, jn_1200, jn_1600, jn_5040, jn_5390, jn_5400, jn_9999, jn_18688, jn_32400, jn_99999, jn_100000, jn_1000000, jn_858993459, jn_1431655765, jn_252645135, jl_0, jl_1, jl_2, jl_3, jl_8, jl_9, jl_10, jl_20, jl_27, jl_47, jl_96, jl_99, jl_100, jl_200, jl_555, jl_2000, jl_10000, jl_12345, jl_65536, jl_99999, jl_131638, jl_240023, jl_298288, jl_383153, jl_1306021, jl_1960084, jl_4147840, jl_8740238, jl_9872299, jl_175252482, jl_291595537, jl_1103515245, jl_2000000000, jl_2147483648, jl_4721686497, jl_7873079139, J_add, J_sub, J_mul, J_neg, JL_add, JL_sub, JL_mul, JL_neg, J_long, JL_int, ↓remI_fold, ↓remL_fold, Int.reduceAdd, Int.reduceSub, Int.reduceMul, Int.reduceNeg, Int.reduceToNat, hg, hc_7 hx, hat, ht_k hx hr, X_height hx hr hbd, X_to hx hr hbd, Option.bind_some]
  by_cases hb0 : 0 < best
  case neg => rw [if_pos (by rw [J_le (by omega)]; omega), h163, hcase, if_neg (fun h => hb0 h.1)]
  rw [if_neg (by rw [J_le (by omega)]; omega)]
  by_cases h0 : 0 < hh C r (t + ((L : Int) - (e : Int)))
  case neg => rw [if_pos (by rw [J_le (by omega)]; omega), h163, hcase, if_neg (fun h => h0 h.2.1)]
  rw [if_neg (by rw [J_le (by omega)]; omega)]
  by_cases h1 : hh C r (t + ((L : Int) - (e : Int))) ≤ e
  case neg => rw [if_pos (by rw [J_lt (by omega)]; omega), h163, hcase, if_neg (fun h => h1 h.2.2.1)]
  have hz2 : 0 ≤ 200 * (tt C r (t + ((L : Int) - (e : Int))) : Int) + (t + ((L : Int) - (e : Int))) + (hh C r (t + ((L : Int) - (e : Int))) : Int) - t ∧ 200 * (tt C r (t + ((L : Int) - (e : Int))) : Int) + (t + ((L : Int) - (e : Int))) + (hh C r (t + ((L : Int) - (e : Int))) : Int) - t < 1200 := by omega
  have hidx2 : (200 * (tt C r (t + ((L : Int) - (e : Int))) : Int) + (t + ((L : Int) - (e : Int))) + (hh C r (t + ((L : Int) - (e : Int))) : Int) - t).toNat = 200 * tt C r (t + ((L : Int) - (e : Int))) + (L - (e - hh C r (t + ((L : Int) - (e : Int))))) := by omega
  have hv : f (200 * tt C r (t + ((L : Int) - (e : Int))) + (L - (e - hh C r (t + ((L : Int) - (e : Int)))))) = J (lf C t L d (e - hh C r (t + ((L : Int) - (e : Int)))) (tt C r (t + ((L : Int) - (e : Int)))) : Int) := hf _ _ (by omega) h5 (Or.inl (by omega))
  have hlf := lf_le C t L d (e - hh C r (t + ((L : Int) - (e : Int)))) (tt C r (t + ((L : Int) - (e : Int)))) (by omega)
  rw [if_neg (by rw [J_lt (by omega)]; omega)]
  simp only [xg_9, xr_15 o _ w hz2, hidx2, Option.bind_some]
  rw [show xa (xSR S 15 f) 15 = f from rfl, hv, J_add, show (1 : Int) + (lf C t L d (e - hh C r (t + ((L : Int) - (e : Int)))) (tt C r (t + ((L : Int) - (e : Int)))) : Int) = ((1 + lf C t L d (e - hh C r (t + ((L : Int) - (e : Int)))) (tt C r (t + ((L : Int) - (e : Int)))) : Nat) : Int) by omega, X_min (by omega), Option.bind_some]
  by_cases h2 : 1 + lf C t L d (e - hh C r (t + ((L : Int) - (e : Int)))) (tt C r (t + ((L : Int) - (e : Int)))) < best
  · rw [if_pos (by omega), h163, hcase, if_pos ⟨hb0, h0, h1, h2⟩]
  · rw [if_neg (by omega), h163, hcase, if_neg (fun h => h2 h.2.2.2)]
theorem X_fl22 (hX : ∀ S, Hc (emX o S w) c th C) (hc : xc S = c) (ho : OkC C) (hN : 1000000 ≤ N) {k : Nat} (hk : k < cN C) {t : Int} (ht : 0 ≤ t ∧ t ≤ 99999) {L : Nat} (hL : L ≤ 80) {e : Nat} (he : e ≤ L) {f : Nat → Int32} (hf : RlF C t L (cD C k) (fun i q => 200 * q + i) (fun x _ => x < e) f) (K : Wd → Option Wd) : ∃ f', fX0_fillLeft_22 N o (J (k : Int)) (J (t + (L : Int))) (J t) (J (t + ((L - e : Nat) : Int))) K N (J 0) (emX o (xSR S 15 f) w) = K (emX o (xSR S 15 f') w) ∧ RlF C t L (cD C k) (fun i q => 200 * q + i) (fun x _ => x < e + 1) f' := by
  have hR := cR_le C
  have hn8 := cN_le C
  have hok := ho.2.1 k hk
  have key := lp_ex (fun n r f => fX0_fillLeft_22 N o (J (k : Int)) (J (t + (L : Int))) (J t) (J (t + ((L - e : Nat) : Int))) K n (J (r : Int)) (emX o (xSR S 15 f) w)) (fun f => K (emX o (xSR S 15 f) w)) (cR C) (fun r f => RlF C t L (cD C k) (fun i q => 200 * q + i) (fun x q => x < e ∨ (x = e ∧ q < r)) f) ?_ ?_ N f (by omega) (fun x q hx hq hv => hf x q hx hq (by omega))
  · obtain ⟨f', e1, h⟩ := key
    exact ⟨f', e1, fun x q hx hq hv => h x q hx hq (by omega)⟩
  · intro n r f hr hI
    have hx := hX (xSR S 15 f)
    have hg : gR (emX o (xSR S 15 f) w) [0] o 0 = some c := xg hc
    have kD := hc_D hx (z := (k : Int)) (by omega)
    rw [Int.toNat_natCast] at kD
    have hle : ¬ J (cR C : Int) ≤ J (r : Int) := by rw [J_le (by omega)]; omega
    refine ⟨upd f (200 * r + (L - e)) (J (lf C t L (cD C k) e r : Int)), ?_, RlF_up (ix := fun i q => 200 * q + i) (ixX_i2 (C := C) hL) he hr hI (fun x q h => by omega)⟩
    show fX0_fillLeft_22 _ _ _ _ _ _ _ _ _ _ = _
    rw [fX0_fillLeft_22]
    simp only [jn_0, jn_1, jn_2, jn_3, jn_4, jn_5, jn_6, jn_8, jn_9, jn_10, jn_11, jn_12, jn_16, jn_20, jn_24, jn_30, jn_31, jn_32, jn_36, jn_48, jn_57, jn_59, jn_60, jn_63, jn_72, jn_73, jn_96, jn_97, jn_100, jn_122, jn_144, jn_200, jn_240, jn_288, jn_512, jn_840, jn_1200, jn_1600, jn_5040, jn_5390, jn_5400, jn_9999, jn_18688, jn_32400, jn_99999, jn_100000, jn_1000000, jn_858993459, jn_1431655765, jn_252645135, jl_0, jl_1, jl_2, jl_3, jl_8, jl_9, jl_10, jl_20, jl_27, jl_47, jl_96, jl_99, jl_100, jl_200, jl_555, jl_2000, jl_10000, jl_12345, jl_65536, jl_99999, jl_131638, jl_240023, jl_298288, jl_383153, jl_1306021, jl_1960084, jl_4147840, jl_8740238, jl_9872299, jl_175252482, jl_291595537, jl_1103515245, jl_2000000000, jl_2147483648, jl_4721686497, jl_7873079139, J_add, J_sub, J_mul, J_neg, JL_add, JL_sub, JL_mul, JL_neg, J_long, JL_int, ↓remI_fold, ↓remL_fold, Int.reduceAdd, Int.reduceSub, Int.reduceMul, Int.reduceNeg, Int.reduceToNat, hg, hc_0 hx, hc_12 hx, kD, if_neg hle, Option.bind_some]
    by_cases h1 : r = cD C k
    · rw [if_pos (by rw [h1])]
      exact X_fl82 (best := 0) hX hc ho hN ht hL he hr hI _ _ _ (by rw [if_pos h1])
    rw [if_neg (by rw [J_eq (by omega)]; omega)]
    by_cases h0 : e = 0
    · rw [if_pos (by rw [h0, Nat.sub_zero])]
      exact X_fl82 (best := 1000000) hX hc ho hN ht hL he hr hI _ _ _ (by rw [if_neg h1, if_pos h0])
    · rw [if_neg (by rw [J_eq (by omega)]; omega)]
      have hz : 0 ≤ 200 * (r : Int) + (t + ((L - e : Nat) : Int)) + 1 - t ∧ 200 * (r : Int) + (t + ((L - e : Nat) : Int)) + 1 - t < 1200 := by omega
      have hidx : (200 * (r : Int) + (t + ((L - e : Nat) : Int)) + 1 - t).toNat = 200 * r + (L - (e - 1)) := by omega
      have hv : f (200 * r + (L - (e - 1))) = J (lf C t L (cD C k) (e - 1) r : Int) := hI (e - 1) r (by omega) hr (Or.inl (by omega))
      simp only [xg_9, xr_15 o _ w hz, hidx, Option.bind_some]
      rw [show xa (xSR S 15 f) 15 = f from rfl, hv]
      exact X_fl82 hX hc ho hN ht hL he hr hI _ _ _ (by rw [if_neg h1, if_neg h0])
  · intro n f hI
    have hx := hX (xSR S 15 f)
    have hg : gR (emX o (xSR S 15 f) w) [0] o 0 = some c := xg hc
    show fX0_fillLeft_22 _ _ _ _ _ _ _ _ _ _ = _
    rw [fX0_fillLeft_22]
    simp only [jn_0, jn_1, jn_2, jn_3, jn_4, jn_5, jn_6, jn_8, jn_9, jn_10, jn_11, jn_12, jn_16, jn_20, jn_24, jn_30, jn_31, jn_32, jn_36, jn_48, jn_57, jn_59, jn_60, jn_63, jn_72, jn_73, jn_96, jn_97, jn_100, jn_122, jn_144, jn_200, jn_240, jn_288, jn_512, jn_840, jn_1200, jn_1600, jn_5040, jn_5390, jn_5400, jn_9999, jn_18688, jn_32400, jn_99999, jn_100000, jn_1000000, jn_858993459, jn_1431655765, jn_252645135, jl_0, jl_1, jl_2, jl_3, jl_8, jl_9, jl_10, jl_20, jl_27, jl_47, jl_96, jl_99, jl_100, jl_200, jl_555, jl_2000, jl_10000, jl_12345, jl_65536, jl_99999, jl_131638, jl_240023, jl_298288, jl_383153, jl_1306021, jl_1960084, jl_4147840, jl_8740238, jl_9872299, jl_175252482, jl_291595537, jl_1103515245, jl_2000000000, jl_2147483648, jl_4721686497, jl_7873079139, J_add, J_sub, J_mul, J_neg, JL_add, JL_sub, JL_mul, JL_neg, J_long, JL_int, ↓remI_fold, ↓remL_fold, Int.reduceAdd, Int.reduceSub, Int.reduceMul, Int.reduceNeg, Int.reduceToNat, hg, hc_0 hx, Option.bind_some]
    rw [if_pos (by rw [J_le (by omega)]; omega)]
theorem X_fillLeft (hX : ∀ S, Hc (emX o S w) c th C) (hc : xc S = c) (ho : OkC C) (hN : 1000000 ≤ N) {k : Nat} (hk : k < cN C) {L : Nat} (hL : L ≤ 80) : ∃ f, fX0_fillLeft N (emX o S w) o (J (k : Int)) (J ((cA C k : Int) + (L : Int))) = some (emX o (xSR S 15 f) w) ∧ RlF C (cA C k) L (cD C k) (fun i q => 200 * q + i) (fun _ _ => True) f := by
  have hn8 := cN_le C
  have hA := cA_le C k
  have hx := hX S
  have hg : gR (emX o S w) [0] o 0 = some c := xg hc
  have kA := hc_A hx (z := (k : Int)) (by omega)
  rw [Int.toNat_natCast] at kA
  unfold fX0_fillLeft
  simp only [hg, hc_11 hx, kA, Option.bind_some]
  have key := lp_ex (fun n e f => fX0_fillLeft_13 N o (J (k : Int)) (J ((cA C k : Int) + (L : Int))) (J (cA C k : Int)) (fun w30 => some w30) n (J ((cA C k : Int) + ((L : Int) - (e : Int)))) (emX o (xSR S 15 f) w)) (fun f => some (emX o (xSR S 15 f) w)) (L + 1) (fun e f => RlF C (cA C k) L (cD C k) (fun i q => 200 * q + i) (fun x _ => x < e) f) ?_ ?_ N (xa S 15) (by omega) (fun x q _ _ h => absurd h (Nat.not_lt_zero _))
  · obtain ⟨f, e1, h⟩ := key
    refine ⟨f, ?_, fun x q hx hq _ => h x q hx hq (by omega)⟩
    rw [xSR_id, show (L : Int) - ((0 : Nat) : Int) = (L : Int) by omega] at e1
    exact e1
  · intro n e f he hI
    obtain ⟨f', e1, h⟩ := X_fl22 (N := N) (o := o) (w := w) hX hc ho hN hk (t := (cA C k : Int)) (by omega) hL (e := e) (by omega) hI (fun w28 => (some (J ((cA C k : Int) + ((L : Int) - ((e + 1 : Nat) : Int))))).bind fun x29 => fX0_fillLeft_13 N o (J (k : Int)) (J ((cA C k : Int) + (L : Int))) (J (cA C k : Int)) (fun w30 => some w30) n x29 w28)
    refine ⟨f', ?_, h⟩
    show fX0_fillLeft_13 _ _ _ _ _ _ _ _ _ = _
    rw [fX0_fillLeft_13]
    simp only [jn_0, jn_1, jn_2, jn_3, jn_4, jn_5, jn_6, jn_8, jn_9, jn_10, jn_11, jn_12, jn_16, jn_20, jn_24, jn_30, jn_31, jn_32, jn_36, jn_48, jn_57, jn_59, jn_60, jn_63, jn_72, jn_73, jn_96, jn_97, jn_100, jn_122, jn_144, jn_200, jn_240, jn_288, jn_512, jn_840, jn_1200, jn_1600, jn_5040, jn_5390, jn_5400, jn_9999, jn_18688, jn_32400, jn_99999, jn_100000, jn_1000000, jn_858993459, jn_1431655765, jn_252645135, jl_0, jl_1, jl_2, jl_3, jl_8, jl_9, jl_10, jl_20, jl_27, jl_47, jl_96, jl_99, jl_100, jl_200, jl_555, jl_2000, jl_10000, jl_12345, jl_65536, jl_99999, jl_131638, jl_240023, jl_298288, jl_383153, jl_1306021, jl_1960084, jl_4147840, jl_8740238, jl_9872299, jl_175252482, jl_291595537, jl_1103515245, jl_2000000000, jl_2147483648, jl_4721686497, jl_7873079139, J_add, J_sub, J_mul, J_neg, JL_add, JL_sub, JL_mul, JL_neg, J_long, JL_int, ↓remI_fold, ↓remL_fold, Int.reduceAdd, Int.reduceSub, Int.reduceMul, Int.reduceNeg, Int.reduceToNat]
    rw [if_neg (by rw [J_lt (by omega)]; omega)]
    have eL : (cA C k : Int) + ((L : Int) - ((e + 1 : Nat) : Int)) = (cA C k : Int) + ((L : Int) - (e : Int)) + -1 := by omega
    rw [eL, show ((L - e : Nat) : Int) = (L : Int) - (e : Int) by omega, Option.bind_some] at e1
    rw [eL]
    exact e1
  · intro n f hI
    show fX0_fillLeft_13 _ _ _ _ _ _ _ _ _ = _
    rw [fX0_fillLeft_13]
    rw [if_pos (by rw [J_lt (by omega)]; omega)]
def xWy (S : XS) (x y : Int32) : XS := xSI (xSI S 10 x) 11 y
theorem xWy_10 (S : XS) (x y z : Int32) : xSI (xWy S x y) 10 z = xWy S z y := by
  unfold xWy xSI
  refine Prod.ext rfl (Prod.ext (funext fun j => ?_) rfl)
  simp only
  by_cases h : j = 11 <;> by_cases h' : j = 10 <;> simp [h, h']
theorem xWy_11 (S : XS) (x y z : Int32) : xSI (xWy S x y) 11 z = xWy S x z := by
  unfold xWy xSI
  refine Prod.ext rfl (Prod.ext (funext fun j => ?_) rfl)
  simp only
  by_cases h : j = 11 <;> simp [h]
theorem xWy_g10 (S : XS) (x y : Int32) : xi (xWy S x y) 10 = x := rfl
theorem xWy_g11 (S : XS) (x y : Int32) : xi (xWy S x y) 11 = y := rfl
theorem xWy_a (S : XS) (x y : Int32) (a : Nat) : xa (xWy S x y) a = xa S a := rfl
theorem xWy_Fr (S : XS) (x y : Int32) : FrX S (xWy S x y) := FrX_t (FrX_I S 10 _ (by decide)) (FrX_I _ 11 _ (by decide))
/-- the state with j steps gone -/
def xWj (S : XS) (j : Nat) (s : Wy) : XS := xWy S (J (s.2.2.1 : Int)) (J ((s.1 : Int) - ((j : Int) - (s.2.2.1 : Int))))
theorem X_gw42 (hX : ∀ S, Hc (emX o S w) c th C) (hc : xc S = c) (ho : OkC C) (hN : 1000000 ≤ N) {k : Nat} (hk : k < cN C) {L : Nat} (hs : sn C (cF C k) (cA C k) (cD C k) = some L) (hf : RlF C (cA C k) L (cD C k) (fun i q => 200 * q + i) (fun _ _ => True) (xa S 15)) {qi : Int} (hqi : -1 ≤ qi ∧ qi ≤ 2147483647) (K1 : Int32 → Int32 → Wd → Option (Int32 × Wd)) (K2 : Wd → Option (Int32 × Wd)) : fX0_goesWay_42 N o (J (k : Int)) (J ((cA C k : Int) + (L : Int))) (J qi) (J (cA C k : Int)) K1 K2 N (J (cA C k : Int)) (J (cF C k : Int)) (emX o (xWy S (J 0) (J 0)) w) = match fi (fun j => cB (wgo C (cA C k) L (cD C k) (wk C (cA C k) L (cD C k) (cF C k) j) ∧ ((wk C (cA C k) L (cD C k) (cF C k) j).2.2.1 : Int) = qi)) (wkN C (cA C k) L (cD C k) (cF C k)) with
    | some j => K1 (J ((cA C k : Int) + ((wk C (cA C k) L (cD C k) (cF C k) j).1 : Int))) (J ((wk C (cA C k) L (cD C k) (cF C k) j).2.1 : Int)) (emX o (xWj S j (wk C (cA C k) L (cD C k) (cF C k) j)) w)
    | none => K2 (emX o (xWj S (wkN C (cA C k) L (cD C k) (cF C k)) (wk C (cA C k) L (cD C k) (cF C k) (wkN C (cA C k) L (cD C k) (cF C k)))) w) := by
  have hR := cR_le C
  have hn8 := cN_le C
  have hA := cA_le C k
  have hok := ho.2.1 k hk
  have hL := (sn_some ho hok.1 hs).1
  have hNk := wkN_is C (cA C k) L (cD C k) (cF C k)
  have e0 : xWy S (J 0) (J 0) = xWj S 0 (wk C (cA C k) L (cD C k) (cF C k) 0) := rfl
  have key := lp_find (fun n j => fX0_goesWay_42 N o (J (k : Int)) (J ((cA C k : Int) + (L : Int))) (J qi) (J (cA C k : Int)) K1 K2 n (J ((cA C k : Int) + ((wk C (cA C k) L (cD C k) (cF C k) j).1 : Int))) (J ((wk C (cA C k) L (cD C k) (cF C k) j).2.1 : Int)) (emX o (xWj S j (wk C (cA C k) L (cD C k) (cF C k) j)) w)) (fun j => K1 (J ((cA C k : Int) + ((wk C (cA C k) L (cD C k) (cF C k) j).1 : Int))) (J ((wk C (cA C k) L (cD C k) (cF C k) j).2.1 : Int)) (emX o (xWj S j (wk C (cA C k) L (cD C k) (cF C k) j)) w)) (K2 (emX o (xWj S (wkN C (cA C k) L (cD C k) (cF C k)) (wk C (cA C k) L (cD C k) (cF C k) (wkN C (cA C k) L (cD C k) (cF C k)))) w)) (wkN C (cA C k) L (cD C k) (cF C k)) (fun j => cB (wgo C (cA C k) L (cD C k) (wk C (cA C k) L (cD C k) (cF C k) j) ∧ ((wk C (cA C k) L (cD C k) (cF C k) j).2.2.1 : Int) = qi)) ?_ ?_ N (by omega)
  · rw [e0]
    refine Eq.trans ?_ key
    show fX0_goesWay_42 _ _ _ _ _ _ _ _ _ _ _ _ = fX0_goesWay_42 N o (J (k : Int)) (J ((cA C k : Int) + (L : Int))) (J qi) (J (cA C k : Int)) K1 K2 N (J ((cA C k : Int) + ((0 : Nat) : Int))) (J (cF C k : Int)) _
    rw [show (cA C k : Int) + ((0 : Nat) : Int) = (cA C k : Int) by omega]
  · intro n j hj
    have ⟨i1, i2, i3, i4, i5, i6⟩ := wk_inv ho hok.1 hs j (by omega)
    have ⟨m1, m2⟩ := wk_mid ho hok.1 hs hj
    have e : wk C (cA C k) L (cD C k) (cF C k) (j + 1) = wys C (cA C k) L (cD C k) (wk C (cA C k) L (cD C k) (cF C k) j) := rfl
    rw [e]
    generalize hsd : wk C (cA C k) L (cD C k) (cF C k) j = s at *
    obtain ⟨i, r, tr, g⟩ := s
    simp only at i1 i2 i3 i4 i5 i6 m1 m2
    have h9 := hh_le C r ((cA C k : Int) + (i : Int))
    have h5 := tt_lt ho i2 ((cA C k : Int) + (i : Int))
    have b : -1000000 ≤ (cA C k : Int) + (i : Int) ∧ (cA C k : Int) + (i : Int) ≤ 1000000 := by omega
    have hcW : ∀ T, xc T = c → gR (emX o T w) [0] o 0 = some c := fun T h => xg h
    have hx := hX (xWj S j (i, r, tr, g))
    have hg : gR (emX o (xWj S j (i, r, tr, g)) w) [0] o 0 = some c := xg hc
    have kD := hc_D hx (z := (k : Int)) (by omega)
    rw [Int.toNat_natCast] at kD
    have hat := hc_at hx (z := (r : Int)) (by omega)
    rw [Int.toNat_natCast] at hat
    have hno : ∀ (_ : ¬ wgo C (cA C k) L (cD C k) (i, r, tr, g)), fX0_goesWay_142 N (emX o (xWj S j (i, r, tr, g)) w) o (J (k : Int)) (J ((cA C k : Int) + (L : Int))) (J qi) (J (cA C k : Int)) (J ((cA C k : Int) + (i : Int))) (J (r : Int)) (th r) (J (hh C r ((cA C k : Int) + (i : Int)) : Int)) (fX0_goesWay_42 N o (J (k : Int)) (J ((cA C k : Int) + (L : Int))) (J qi) (J (cA C k : Int)) K1 K2 n) K1 K2 = if cB (wgo C (cA C k) L (cD C k) (i, r, tr, g) ∧ ((i, r, tr, g) : Wy).2.2.1 = qi) = true then K1 (J ((cA C k : Int) + (i : Int))) (J (r : Int)) (emX o (xWj S j (i, r, tr, g)) w) else fX0_goesWay_42 N o (J (k : Int)) (J ((cA C k : Int) + (L : Int))) (J qi) (J (cA C k : Int)) K1 K2 n (J ((cA C k : Int) + ((wys C (cA C k) L (cD C k) (i, r, tr, g)).1 : Int))) (J ((wys C (cA C k) L (cD C k) (i, r, tr, g)).2.1 : Int)) (emX o (xWj S (j + 1) (wys C (cA C k) L (cD C k) (i, r, tr, g))) w) := by
      intro hgo
      rw [if_neg (fun h => hgo (cB_t.1 h).1), wys_f hgo]
      unfold fX0_goesWay_142 fX0_goesWay_143 fX0_goesWay_167 fX0_goesWay_182 fX0_goesWay_202 fX0_goesWay_223 xWj
      simp only [jn_0, jn_1, jn_2, jn_3, jn_4, jn_5, jn_6, jn_8, jn_9, jn_10, jn_11, jn_12, jn_16, jn_20, jn_24, jn_30, jn_31, jn_32, jn_36, jn_48, jn_57, jn_59, jn_60, jn_63, jn_72, jn_73, jn_96, jn_97, jn_100, jn_122, jn_144, jn_200, jn_240, jn_288, jn_512, jn_840, jn_1200, jn_1600, jn_5040, jn_5390, jn_5400, jn_9999, jn_18688, jn_32400, jn_99999, jn_100000, jn_1000000, jn_858993459, jn_1431655765, jn_252645135, jl_0, jl_1, jl_2, jl_3, jl_8, jl_9, jl_10, jl_20, jl_27, jl_47, jl_96, jl_99, jl_100, jl_200, jl_555, jl_2000, jl_10000, jl_12345, jl_65536, jl_99999, jl_131638, jl_240023, jl_298288, jl_383153, jl_1306021, jl_1960084, jl_4147840, jl_8740238, jl_9872299, jl_175252482, jl_291595537, jl_1103515245, jl_2000000000, jl_2147483648, jl_4721686497, jl_7873079139, J_add, J_sub, J_mul, J_neg, JL_add, JL_sub, JL_mul, JL_neg, J_long, JL_int, ↓remI_fold, ↓remL_fold, Int.reduceAdd, Int.reduceSub, Int.reduceMul, Int.reduceNeg, Int.reduceToNat, if_true, xg_10, xg_11, xWy_g10, xWy_g11, xp_10, xp_11, xWy_10, xWy_11, Option.bind_some]
      rw [show (cA C k : Int) + (i : Int) + 1 = (cA C k : Int) + ((i + 1 : Nat) : Int) by omega, show (tr : Int) + 0 = (tr : Int) by omega, show (i : Int) - ((j : Int) - (tr : Int)) + 0 = ((i + 1 : Nat) : Int) - (((j + 1 : Nat) : Int) - (tr : Int)) by omega]
    show fX0_goesWay_42 _ _ _ _ _ _ _ _ _ _ _ _ = _
    rw [fX0_goesWay_42]
    simp only [jn_0, jn_1, jn_2, jn_3, jn_4, jn_5, jn_6, jn_8, jn_9, jn_10, jn_11, jn_12, jn_16, jn_20, jn_24, jn_30, jn_31, jn_32, jn_36, jn_48, jn_57, jn_59, jn_60, jn_63, jn_72, jn_73, jn_96, jn_97, jn_100, jn_122, jn_144, jn_200, jn_240, jn_288, jn_512, jn_840, jn_1200, jn_1600, jn_5040, jn_5390, jn_5400, jn_9999, jn_18688, jn_32400, jn_99999, jn_100000, jn_1000000, jn_858993459, jn_1431655765, jn_252645135, jl_0, jl_1, jl_2, jl_3, jl_8, jl_9, jl_10, jl_20, jl_27, jl_47, jl_96, jl_99, jl_100, jl_200, jl_555, jl_2000, jl_10000, jl_12345, jl_65536, jl_99999, jl_131638, jl_240023, jl_298288, jl_383153, jl_1306021, jl_1960084, jl_4147840, jl_8740238, jl_9872299, jl_175252482, jl_291595537, jl_1103515245, jl_2000000000, jl_2147483648, jl_4721686497, jl_7873079139, J_add, J_sub, J_mul, J_neg, JL_add, JL_sub, JL_mul, JL_neg, J_long, JL_int, ↓remI_fold, ↓remL_fold, Int.reduceAdd, Int.reduceSub, Int.reduceMul, Int.reduceNeg, Int.reduceToNat, hg, hc_7 hx, hc_12 hx, kD, hat, ht_k hx i2, X_height hx i2 b, X_to hx i2 b, Option.bind_some]
    rw [if_neg (by rw [J_eq (by omega)]; omega)]
    by_cases h0 : 0 < hh C r ((cA C k : Int) + (i : Int))
    case neg =>
      rw [if_pos (by rw [J_le (by omega)]; omega)]
      exact hno (fun h => h0 h.1)
    rw [if_neg (by rw [J_le (by omega)]; omega)]
    by_cases h1 : i + hh C r ((cA C k : Int) + (i : Int)) ≤ L
    case neg =>
      rw [if_pos (by rw [J_lt (by omega)]; omega)]
      exact hno (fun h => h1 h.2.1)
    rw [if_neg (by rw [J_lt (by omega)]; omega)]
    have hz : 0 ≤ 200 * (r : Int) + ((cA C k : Int) + (i : Int)) - (cA C k : Int) ∧ 200 * (r : Int) + ((cA C k : Int) + (i : Int)) - (cA C k : Int) < 1200 := by omega
    have hidx : (200 * (r : Int) + ((cA C k : Int) + (i : Int)) - (cA C k : Int)).toNat = 200 * r + i := by omega
    have hz2 : 0 ≤ 200 * (tt C r ((cA C k : Int) + (i : Int)) : Int) + ((cA C k : Int) + (i : Int)) + (hh C r ((cA C k : Int) + (i : Int)) : Int) - (cA C k : Int) ∧ 200 * (tt C r ((cA C k : Int) + (i : Int)) : Int) + ((cA C k : Int) + (i : Int)) + (hh C r ((cA C k : Int) + (i : Int)) : Int) - (cA C k : Int) < 1200 := by omega
    have hidx2 : (200 * (tt C r ((cA C k : Int) + (i : Int)) : Int) + ((cA C k : Int) + (i : Int)) + (hh C r ((cA C k : Int) + (i : Int)) : Int) - (cA C k : Int)).toNat = 200 * tt C r ((cA C k : Int) + (i : Int)) + (i + hh C r ((cA C k : Int) + (i : Int))) := by omega
    have v1 : xa (xWj S j (i, r, tr, g)) 15 (200 * r + i) = J (lf C (cA C k) L (cD C k) (L - i) r : Int) := by
      have := hf (L - i) r (by omega) i2 trivial
      simp only at this
      rwa [show L - (L - i) = i by omega] at this
    have v2 : xa (xWj S j (i, r, tr, g)) 15 (200 * tt C r ((cA C k : Int) + (i : Int)) + (i + hh C r ((cA C k : Int) + (i : Int)))) = J (lf C (cA C k) L (cD C k) (L - (i + hh C r ((cA C k : Int) + (i : Int)))) (tt C r ((cA C k : Int) + (i : Int))) : Int) := by
      have := hf (L - (i + hh C r ((cA C k : Int) + (i : Int)))) (tt C r ((cA C k : Int) + (i : Int))) (by omega) h5 trivial
      simp only at this
      rwa [show L - (L - (i + hh C r ((cA C k : Int) + (i : Int)))) = i + hh C r ((cA C k : Int) + (i : Int)) by omega] at this
    have l1 := lf_le C (cA C k) L (cD C k) (L - i) r (by omega)
    have l2 := lf_le C (cA C k) L (cD C k) (L - (i + hh C r ((cA C k : Int) + (i : Int)))) (tt C r ((cA C k : Int) + (i : Int))) (by omega)
    simp only [xg_9, xr_15 o _ w hz, xr_15 o _ w hz2, hidx, hidx2, v1, v2, Option.bind_some, J_add]
    by_cases h2 : 1 + lf C (cA C k) L (cD C k) (L - (i + hh C r ((cA C k : Int) + (i : Int)))) (tt C r ((cA C k : Int) + (i : Int))) = lf C (cA C k) L (cD C k) (L - i) r
    case neg =>
      rw [if_neg (by rw [J_eq (by omega)]; omega)]
      exact hno (fun h => h2 h.2.2)
    have hgo : wgo C (cA C k) L (cD C k) (i, r, tr, g) := ⟨h0, h1, h2⟩
    rw [if_pos (by rw [J_eq (by omega)]; omega)]
    unfold fX0_goesWay_143
    rw [jn_0, if_neg (by rw [J_eq (by omega)]; omega), xg_10, Option.bind_some, show xi (xWj S j (i, r, tr, g)) 10 = J (tr : Int) from rfl]
    by_cases h3 : (tr : Int) = qi
    · rw [if_pos (by rw [h3]), if_pos (cB_t.2 ⟨hgo, h3⟩)]
    · rw [if_neg (by rw [J_eq (by omega)]; exact h3), if_neg (fun h => h3 (cB_t.1 h).2), wys_t hgo]
      have hk' : ∀ T, ckC (emX o T w) famT (th r) = some (kc (cK C r)) := fun T => ht_k (hX T) i2
      have ht' : ∀ T, fX2_to N (emX o T w) (th r) (J ((cA C k : Int) + (i : Int))) = some (J (tt C r ((cA C k : Int) + (i : Int)) : Int)) := fun T => X_to (hX T) i2 b
      unfold fX0_goesWay_167 fX0_goesWay_182 fX0_goesWay_202 fX0_goesWay_223 xWj
      have h10 : ¬ J 1 = J 0 := by rw [J_eq (by omega)]; omega
      simp only [jn_0, jn_1, jn_2, jn_3, jn_4, jn_5, jn_6, jn_8, jn_9, jn_10, jn_11, jn_12, jn_16, jn_20, jn_24, jn_30, jn_31, jn_32, jn_36, jn_48, jn_57, jn_59, jn_60, jn_63, jn_72, jn_73, jn_96, jn_97, jn_100, jn_122, jn_144, jn_200, jn_240, jn_288, jn_512, jn_840, jn_1200, jn_1600, jn_5040, jn_5390, jn_5400, jn_9999, jn_18688, jn_32400, jn_99999, jn_100000, jn_1000000, jn_858993459, jn_1431655765, jn_252645135, jl_0, jl_1, jl_2, jl_3, jl_8, jl_9, jl_10, jl_20, jl_27, jl_47, jl_96, jl_99, jl_100, jl_200, jl_555, jl_2000, jl_10000, jl_12345, jl_65536, jl_99999, jl_131638, jl_240023, jl_298288, jl_383153, jl_1306021, jl_1960084, jl_4147840, jl_8740238, jl_9872299, jl_175252482, jl_291595537, jl_1103515245, jl_2000000000, jl_2147483648, jl_4721686497, jl_7873079139, J_add, J_sub, J_mul, J_neg, JL_add, JL_sub, JL_mul, JL_neg, J_long, JL_int, ↓remI_fold, ↓remL_fold, Int.reduceAdd, Int.reduceSub, Int.reduceMul, Int.reduceNeg, Int.reduceToNat, if_neg h10, xg_10, xg_11, xWy_g10, xWy_g11, xp_10, xp_11, xWy_10, xWy_11, hk', ht', Option.bind_some]
      rw [show (cA C k : Int) + (i : Int) + (hh C r ((cA C k : Int) + (i : Int)) : Int) = (cA C k : Int) + ((i + hh C r ((cA C k : Int) + (i : Int)) : Nat) : Int) by omega, show (tr : Int) + 1 = ((tr + 1 : Nat) : Int) by omega, show (i : Int) - ((j : Int) - (tr : Int)) + (hh C r ((cA C k : Int) + (i : Int)) : Int) = ((i + hh C r ((cA C k : Int) + (i : Int)) : Nat) : Int) - (((j + 1 : Nat) : Int) - ((tr + 1 : Nat) : Int)) by omega]
  · intro n
    have ⟨e1, e2⟩ := wk_end ho hok.1 hs
    have hx := hX (xWj S (wkN C (cA C k) L (cD C k) (cF C k)) (wk C (cA C k) L (cD C k) (cF C k) (wkN C (cA C k) L (cD C k) (cF C k))))
    have hg : gR (emX o (xWj S (wkN C (cA C k) L (cD C k) (cF C k)) (wk C (cA C k) L (cD C k) (cF C k) (wkN C (cA C k) L (cD C k) (cF C k)))) w) [0] o 0 = some c := xg hc
    have kD := hc_D hx (z := (k : Int)) (by omega)
    rw [Int.toNat_natCast] at kD
    show fX0_goesWay_42 _ _ _ _ _ _ _ _ _ _ _ _ = _
    rw [fX0_goesWay_42]
    simp only [hg, hc_12 hx, kD, Option.bind_some]
    rw [if_pos (by rw [e2])]
theorem X_goesWay (hX : ∀ S, Hc (emX o S w) c th C) (hc : xc S = c) (ho : OkC C) (hN : 1000000 ≤ N) {k : Nat} (hk : k < cN C) {L : Nat} (hs : sn C (cF C k) (cA C k) (cD C k) = some L) {qi : Int} (hqi : -1 ≤ qi ∧ qi ≤ 2147483647) : ∃ S', FrX S S' ∧ fX0_goesWay N (emX o S w) o (J (k : Int)) (J ((cA C k : Int) + (L : Int))) (J qi) = some ((match fi (fun j => cB (wgo C (cA C k) L (cD C k) (wk C (cA C k) L (cD C k) (cF C k) j) ∧ ((wk C (cA C k) L (cD C k) (cF C k) j).2.2.1 : Int) = qi)) (wkN C (cA C k) L (cD C k) (cF C k)) with
    | some j => J (10 * ((cA C k : Int) + ((wk C (cA C k) L (cD C k) (cF C k) j).1 : Int)) + ((wk C (cA C k) L (cD C k) (cF C k) j).2.1 : Int))
    | none => J (-1)), emX o S' w) ∧ (qi = -1 → xi S' 10 = J ((wk C (cA C k) L (cD C k) (cF C k) (wkN C (cA C k) L (cD C k) (cF C k))).2.2.1 : Int) ∧ xi S' 11 = J ((L : Int) - ((wkN C (cA C k) L (cD C k) (cF C k) : Int) - ((wk C (cA C k) L (cD C k) (cF C k) (wkN C (cA C k) L (cD C k) (cF C k))).2.2.1 : Int)))) := by
  have hR := cR_le C
  have hn8 := cN_le C
  have hA := cA_le C k
  have hok := ho.2.1 k hk
  have hL := (sn_some ho hok.1 hs).1
  have hx := hX S
  have hg : gR (emX o S w) [0] o 0 = some c := xg hc
  have kA := hc_A hx (z := (k : Int)) (by omega)
  have kF := hc_F hx (z := (k : Int)) (by omega)
  rw [Int.toNat_natCast] at kA kF
  have hc2 : xc (xWy S (J 0) (J 0)) = c := hc
  obtain ⟨f, e1, h1⟩ := X_fillLeft (N := N) (S := xWy S (J 0) (J 0)) hX hc2 ho hN hk hL
  have hc3 : xc (xSR S 15 f) = c := hc
  have e2 := X_gw42 (N := N) (S := xSR S 15 f) hX hc3 ho hN hk hs (by exact h1) hqi (fun y33 y34 w35 => some (J 10 * y33 + y34, w35)) (fun w36 => some (J (-1), w36))
  have hem : xSR (xWy S (J 0) (J 0)) 15 f = xWy (xSR S 15 f) (J 0) (J 0) := rfl
  have hp : ∀ y : Int32, xSI (xSI S 10 (J 0)) 11 y = xWy S (J 0) y := fun y => rfl
  unfold fX0_goesWay
  simp only [jn_0, jn_1, jn_2, jn_3, jn_4, jn_5, jn_6, jn_8, jn_9, jn_10, jn_11, jn_12, jn_16, jn_20, jn_24, jn_30, jn_31, jn_32, jn_36, jn_48, jn_57, jn_59, jn_60, jn_63, jn_72, jn_73, jn_96, jn_97, jn_100, jn_122, jn_144, jn_200, jn_240, jn_288, jn_512, jn_840, jn_1200, jn_1600, jn_5040, jn_5390, jn_5400, jn_9999, jn_18688, jn_32400, jn_99999, jn_100000, jn_1000000, jn_858993459, jn_1431655765, jn_252645135, jl_0, jl_1, jl_2, jl_3, jl_8, jl_9, jl_10, jl_20, jl_27, jl_47, jl_96, jl_99, jl_100, jl_200, jl_555, jl_2000, jl_10000, jl_12345, jl_65536, jl_99999, jl_131638, jl_240023, jl_298288, jl_383153, jl_1306021, jl_1960084, jl_4147840, jl_8740238, jl_9872299, jl_175252482, jl_291595537, jl_1103515245, jl_2000000000, jl_2147483648, jl_4721686497, jl_7873079139, J_add, J_sub, J_mul, J_neg, JL_add, JL_sub, JL_mul, JL_neg, J_long, JL_int, ↓remI_fold, ↓remL_fold, Int.reduceAdd, Int.reduceSub, Int.reduceMul, Int.reduceNeg, Int.reduceToNat, hg, hc_10 hx, hc_11 hx, kA, kF, xp_10, xp_11, hp, e1, hem, e2, Option.bind_some]
  have ⟨d1, d2⟩ := wk_end ho hok.1 hs
  cases hfi : fi (fun j => cB (wgo C (cA C k) L (cD C k) (wk C (cA C k) L (cD C k) (cF C k) j) ∧ ((wk C (cA C k) L (cD C k) (cF C k) j).2.2.1 : Int) = qi)) (wkN C (cA C k) L (cD C k) (cF C k)) with
  | some j =>
    refine ⟨_, ?_, rfl, fun hq => ?_⟩
    · exact FrX_t (FrX_R S 15 _ (by decide)) (xWy_Fr _ _ _)
    · exfalso
      have := (cB_t.1 ((fi_some _ _ _).1 hfi).2.1).2
      omega
  | none =>
    refine ⟨_, ?_, rfl, fun hq => ⟨rfl, ?_⟩⟩
    · exact FrX_t (FrX_R S 15 _ (by decide)) (xWy_Fr _ _ _)
    · show J (((wk C (cA C k) L (cD C k) (cF C k) (wkN C (cA C k) L (cD C k) (cF C k))).1 : Int) - _) = _
      rw [d1]
theorem X_soonest (hX : ∀ S, Hc (emX o S w) c th C) (hc : xc S = c) (ho : OkC C) (hN : 1000000000 ≤ N) {v x : Int} (hv : -2147483648 ≤ v ∧ v ≤ 2147483647) (hx : -2147483648 ≤ x ∧ x ≤ 2147483647) : ∃ S', fX0_soonest N (emX o S w) o (J v) (J x) = some (J (sp_soonest C v x), emX o S' w) ∧ FrX S S' := by
  have hx1 := hX S
  have hg : gR (emX o S w) [0] o 0 = some c := xg hc
  have hn8 := cN_le C
  have e1 : fX0_isIn N (emX o S w) (JL x) (JL 0) (JL 2) = some (Bp (0 ≤ x ∧ x ≤ 2)) := X_in (by omega)
  unfold fX0_soonest sp_soonest
  simp only [jn_0, jn_1, jn_2, jn_3, jn_4, jn_5, jn_6, jn_8, jn_9, jn_10, jn_11, jn_12, jn_16, jn_20, jn_24, jn_30, jn_31, jn_32, jn_36, jn_48, jn_57, jn_59, jn_60, jn_63, jn_72, jn_73, jn_96, jn_97, jn_100, jn_122, jn_144, jn_200, jn_240, jn_288, jn_512, jn_840, jn_1200, jn_1600, jn_5040, jn_5390, jn_5400, jn_9999, jn_18688, jn_32400, jn_99999, jn_100000, jn_1000000, jn_858993459, jn_1431655765, jn_252645135, jl_0, jl_1, jl_2, jl_3, jl_8, jl_9, jl_10, jl_20, jl_27, jl_47, jl_96, jl_99, jl_100, jl_200, jl_555, jl_2000, jl_10000, jl_12345, jl_65536, jl_99999, jl_131638, jl_240023, jl_298288, jl_383153, jl_1306021, jl_1960084, jl_4147840, jl_8740238, jl_9872299, jl_175252482, jl_291595537, jl_1103515245, jl_2000000000, jl_2147483648, jl_4721686497, jl_7873079139, J_add, J_sub, J_mul, J_neg, JL_add, JL_sub, JL_mul, JL_neg, J_long, JL_int, ↓remI_fold, ↓remL_fold, Int.reduceAdd, Int.reduceSub, Int.reduceMul, Int.reduceNeg, Int.reduceToNat, Classical.not_not, em_t, Bp_eq0, Bp_eq1, Bp_01, Bp_mk, Bp_mk', Bp_0, Bp_0', Bp_1, Bp_1', if_true, if_false, ite_not, X_isLetter hg hx1 hv, J_long hx, e1, Option.bind_some]
  by_cases h1 : 0 ≤ v ∧ v < cN C
  case neg => exact ⟨S, by rw [if_neg h1, if_neg h1], FrX_r S⟩
  simp only [if_pos h1]
  by_cases h2 : 0 ≤ x ∧ x ≤ 2
  case neg => exact ⟨S, by rw [if_neg h2, if_neg h2], FrX_r S⟩
  simp only [if_pos h2]
  obtain ⟨k, hk⟩ : ∃ k : Nat, v = k := ⟨v.toNat, by omega⟩
  subst hk
  simp only [Int.toNat_natCast]
  have hk' : k < cN C := by omega
  have hok := ho.2.1 k hk'
  have hA := cA_le C k
  obtain ⟨f, e⟩ := X_soonestOf (N := N) hX hc ho hN hk'
  rw [e, Option.bind_some]
  have hF : FrX S (xSR S 14 f) := FrX_R S 14 _ (by decide)
  have hcf : xc (xSR S 14 f) = c := hc
  unfold snB
  cases hs : sn C (cF C k) (cA C k) (cD C k) with
  | none =>
    simp only
    exact ⟨xSR S 14 f, by first | rw [if_pos rfl] | simp only [if_true], hF⟩
  | some L =>
    have hL := (sn_some ho hok.1 hs).1
    have hNk := wkN_is C (cA C k) L (cD C k) (cF C k)
    have hth := (wk_inv ho hok.1 hs _ (Nat.le_refl _)).2.2.2.2
    simp only
    rw [if_neg (by rw [J_eq (by omega)]; omega)]
    by_cases h3 : x = 0
    · refine ⟨xSR S 14 f, ?_, hF⟩
      rw [if_pos (by rw [h3]), if_pos h3]
    · rw [if_neg (by rw [J_eq (by omega)]; omega), if_neg h3]
      obtain ⟨S', hF', e2, h4⟩ := X_goesWay (N := N) (S := xSR S 14 f) hX hcf ho (by omega) hk' hs (qi := -1) (by omega)
      have ⟨h5, h6⟩ := h4 rfl
      refine ⟨S', ?_, FrX_t hF hF'⟩
      rw [e2, Option.bind_some]
      have hcS : xc S' = c := hF'.1.trans hcf
      have kA := hc_A (hX S') (z := (k : Int)) (by omega)
      rw [Int.toNat_natCast] at kA
      simp only [xg_10, xg_11, h5, h6, xg hcS, hc_11 (hX S'), kA, Option.bind_some, J_sub]
      by_cases h7 : x = 1
      · rw [if_pos (by rw [h7]), if_pos h7]
      · rw [if_neg (by rw [J_eq (by omega)]; omega), if_neg h7]
        congr 3
        omega
theorem wk_find {C : Cy} {t : Int} {L d a : Nat} (q : Nat) : ∀ n, q < (wk C t L d a n).2.2.1 → ∃ j, j < n ∧ wgo C t L d (wk C t L d a j) ∧ (wk C t L d a j).2.2.1 = q := by
  intro n
  induction n with
  | zero => intro h; exact absurd h (Nat.not_lt_zero _)
  | succ n ih =>
    intro h
    by_cases h1 : q < (wk C t L d a n).2.2.1
    · obtain ⟨j, h2, h3⟩ := ih h1
      exact ⟨j, by omega, h3⟩
    · have e : wk C t L d a (n + 1) = wys C t L d (wk C t L d a n) := rfl
      by_cases hg : wgo C t L d (wk C t L d a n)
      · rw [e, wys_t hg] at h
        simp only at h
        exact ⟨n, by omega, hg, by omega⟩
      · rw [e, wys_f hg] at h
        exact absurd h h1
theorem X_way (hX : ∀ S, Hc (emX o S w) c th C) (hc : xc S = c) (ho : OkC C) (hN : 1000000000 ≤ N) {v i : Int} (hv : -2147483648 ≤ v ∧ v ≤ 2147483647) (hi : -2147483648 ≤ i ∧ i ≤ 2147483647) : ∃ S', fX0_way N (emX o S w) o (J v) (J i) = some (J (sp_way C v i), emX o S' w) ∧ FrX S S' := by
  have hx1 := hX S
  have hg : gR (emX o S w) [0] o 0 = some c := xg hc
  have hn8 := cN_le C
  unfold fX0_way sp_way
  simp only [jn_0, jn_1, jn_2, jn_3, jn_4, jn_5, jn_6, jn_8, jn_9, jn_10, jn_11, jn_12, jn_16, jn_20, jn_24, jn_30, jn_31, jn_32, jn_36, jn_48, jn_57, jn_59, jn_60, jn_63, jn_72, jn_73, jn_96, jn_97, jn_100, jn_122, jn_144, jn_200, jn_240, jn_288, jn_512, jn_840, jn_1200, jn_1600, jn_5040, jn_5390, jn_5400, jn_9999, jn_18688, jn_32400, jn_99999, jn_100000, jn_1000000, jn_858993459, jn_1431655765, jn_252645135, jl_0, jl_1, jl_2, jl_3, jl_8, jl_9, jl_10, jl_20, jl_27, jl_47, jl_96, jl_99, jl_100, jl_200, jl_555, jl_2000, jl_10000, jl_12345, jl_65536, jl_99999, jl_131638, jl_240023, jl_298288, jl_383153, jl_1306021, jl_1960084, jl_4147840, jl_8740238, jl_9872299, jl_175252482, jl_291595537, jl_1103515245, jl_2000000000, jl_2147483648, jl_4721686497, jl_7873079139, J_add, J_sub, J_mul, J_neg, JL_add, JL_sub, JL_mul, JL_neg, J_long, JL_int, ↓remI_fold, ↓remL_fold, Int.reduceAdd, Int.reduceSub, Int.reduceMul, Int.reduceNeg, Int.reduceToNat, Classical.not_not, em_t, Bp_eq0, Bp_eq1, Bp_01, Bp_mk, Bp_mk', Bp_0, Bp_0', Bp_1, Bp_1', if_true, if_false, ite_not, X_isLetter hg hx1 hv, Option.bind_some]
  by_cases h1 : 0 ≤ v ∧ v < cN C
  case neg => exact ⟨S, by rw [if_neg h1, if_neg h1], FrX_r S⟩
  simp only [if_pos h1]
  obtain ⟨k, hk⟩ : ∃ k : Nat, v = k := ⟨v.toNat, by omega⟩
  subst hk
  simp only [Int.toNat_natCast]
  have hk' : k < cN C := by omega
  have hok := ho.2.1 k hk'
  have hA := cA_le C k
  obtain ⟨f, e⟩ := X_soonestOf (N := N) hX hc ho hN hk'
  rw [e, Option.bind_some]
  have hF : FrX S (xSR S 14 f) := FrX_R S 14 _ (by decide)
  have hcf : xc (xSR S 14 f) = c := hc
  unfold snB
  cases hs : sn C (cF C k) (cA C k) (cD C k) with
  | none =>
    simp only
    exact ⟨xSR S 14 f, by first | rw [if_pos rfl] | simp only [if_true], hF⟩
  | some L =>
    have hL := (sn_some ho hok.1 hs).1
    simp only
    rw [if_neg (by rw [J_eq (by omega)]; omega)]
    by_cases h3 : 0 ≤ i
    case neg => exact ⟨xSR S 14 f, by rw [if_neg (by rw [J_le (by omega)]; omega), if_neg (fun h => h3 h.1)], hF⟩
    rw [if_pos (by rw [J_le (by omega)]; omega)]
    obtain ⟨S', hF', e2, _⟩ := X_goesWay (N := N) (S := xSR S 14 f) hX hcf ho (by omega) hk' hs (qi := i) (by omega)
    refine ⟨S', ?_, FrX_t hF hF'⟩
    rw [e2, Option.bind_some]
    cases hfi : fi (fun j => cB (wgo C (cA C k) L (cD C k) (wk C (cA C k) L (cD C k) (cF C k) j) ∧ ((wk C (cA C k) L (cD C k) (cF C k) j).2.2.1 : Int) = i)) (wkN C (cA C k) L (cD C k) (cF C k)) with
    | some j =>
      have ⟨f1, f2, _⟩ := (fi_some _ _ _).1 hfi
      have ⟨g1, g2⟩ := cB_t.1 f2
      have em : wk C (cA C k) L (cD C k) (cF C k) (j + 1) = wys C (cA C k) L (cD C k) (wk C (cA C k) L (cD C k) (cF C k) j) := rfl
      have hm := wk_mono C (cA C k) L (cD C k) (cF C k) (j + 1) (wkN C (cA C k) L (cD C k) (cF C k)) (by omega)
      rw [em, wys_t g1] at hm
      simp only at hm
      have hm2 := hm.2 (wk C (cA C k) L (cD C k) (cF C k) j).2.2.1 (by omega)
      rw [if_pos rfl] at hm2
      have hi' : i.toNat = (wk C (cA C k) L (cD C k) (cF C k) j).2.2.1 := by omega
      simp only
      rw [if_pos (by omega), hi', hm2]
    | none =>
      simp only
      rw [if_neg]
      intro h4
      obtain ⟨j, j1, j2, j3⟩ := wk_find (C := C) (t := (cA C k : Int)) (L := L) (d := cD C k) (a := cF C k) i.toNat (wkN C (cA C k) L (cD C k) (cF C k)) (by omega)
      exact (fi_none _ _).1 hfi j j1 (cB_t.2 ⟨j2, by omega⟩)
end
