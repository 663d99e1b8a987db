/-! the reference: the soonest way, its throws; soonest, way -/
set_option maxRecDepth 100000
theorem lf_le (C : Cy) (t : Int) (L d e r : Nat) (he : e ≤ 1000000) : lf C t L d e r ≤ 1000000 := by
  have := lf_bd C t L d e r
  omega
/-- rows of throws left: e' beats left lie at L - e' -/
def RlF (C : Cy) (t : Int) (L d : Nat) (ix : Nat → Nat → Nat) (V : Nat → Nat → Prop) (f : Nat → Int32) : Prop := ∀ e r, e ≤ L → r < cR C → V e r → f (ix (L - e) r) = J (lf C t L d e r : Int)
theorem RlF_up {C : Cy} {t : Int} {L d : Nat} {ix : Nat → Nat → Nat} {V V' : Nat → Nat → Prop} {f : Nat → Int32} {e r : Nat} (hix : ∀ i q j x, i ≤ L → q < cR C → j ≤ L → x < cR C → ix i q = ix j x → i = j ∧ q = x) (he : e ≤ L) (hr : r < cR C) (h : RlF C t L d ix V f) (hv : ∀ x q, V' x q → V x q ∨ (x = e ∧ q = r)) : RlF C t L d ix V' (upd f (ix (L - e) r) (J (lf C t L d e r : Int))) := by
  intro x q hx hq hV
  unfold upd
  by_cases h1 : ix (L - x) q = ix (L - e) r
  · rw [if_pos h1]
    have ⟨h2, h3⟩ := hix _ _ _ _ (by omega) hq (by omega) hr h1
    rw [show x = e by omega, h3]
  · rw [if_neg h1]
    rcases hv x q hV with h2 | ⟨h2, h3⟩
    · exact h x q hx hq h2
    · rw [h2, h3] at h1; exact absurd rfl h1
section
variable {N o : Nat} {S : MS} {w : Wd} {C : Cy}
theorem ixM_i2 {L : Nat} : ∀ i q j x, i ≤ L → q < cR C → j ≤ L → x < cR C → 6 * i + q = 6 * j + x → i = j ∧ q = x := by
  intro i q j x _ hq _ hx h
  have := cR_le C
  omega
theorem M_gs105 (hG : GdM S 0 C) (ho : OkC C) (hN : 1000000 ≤ N) {t : Int} (ht : 0 ≤ t ∧ t ≤ 99999) {L d : Nat} (hL : L ≤ 80) (h35 : mi S 35 = J (L : Int)) {e r : Nat} (he : e ≤ L) (hr : r < cR C) {f : Nat → Int32} (hf : RlF C t L d (fun i q => 6 * i + q) (fun x q => x < e ∨ (x = e ∧ q < r)) f) (x : Int32) (R : Int32 → Wd → Option (Int32 × Wd)) (K : Wd → Option (Int32 × Wd)) {best : Nat} (hb : best = if e = 0 then (if r = d then 0 else 1000000) else lf C t L d (e - 1) r) : fX5_goesSoonest_105 N (emM o (mSR S 21 f) w) o x (J t) (J (d : Int)) (J ((L - e : Nat) : Int)) (J (r : Int)) (J (best : Int)) R K = R (J ((r + 1 : Nat) : Int)) (emM o (mSR S 21 (upd f (6 * (L - e) + r) (J (lf C t L d e r : Int)))) w) := by
  have hR := cR_le C
  have hGf : ∀ g, GdM (mSR S 21 g) 0 C := fun g => FrM_G (FrM_R S 21 _ (by decide)) hG
  have eb : t + ((L - e : Nat) : Int) = t + ((L : Int) - (e : Int)) := by omega
  have h9 := hh_le C r (t + ((L : Int) - (e : Int)))
  have h5 := tt_lt ho hr (t + ((L : Int) - (e : Int)))
  have hbb : best ≤ 1000000 := by
    rw [hb]
    split
    · split <;> omega
    · exact lf_le _ _ _ _ _ _ (by omega)
  have hz : 0 ≤ 6 * ((L - e : Nat) : Int) + (r : Int) ∧ 6 * ((L - e : Nat) : Int) + (r : Int) < 32400 := by omega
  have hidx : (6 * ((L - e : Nat) : Int) + (r : Int)).toNat = 6 * (L - e) + r := by omega
  have h180 : ∀ v : Nat, fX5_goesSoonest_180 N (emM o (mSR S 21 f) w) o x (J t) (J (d : Int)) (J ((L - e : Nat) : Int)) (J (r : Int)) (J (v : Int)) R K = R (J ((r + 1 : Nat) : Int)) (emM o (mSR S 21 (upd f (6 * (L - e) + r) (J (v : Int)))) w) := by
    intro v
    unfold fX5_goesSoonest_180
    simp only [jn_0, jn_1, jn_2, jn_3, jn_4, jn_5, jn_6, jn_8, jn_9, jn_10, jn_11, jn_12, jn_16, jn_20, jn_24, jn_30, jn_31, jn_32, jn_36, jn_48, jn_57, jn_59, jn_60, jn_63, jn_72, jn_73, jn_96, jn_97, jn_100, jn_122, jn_144, jn_200, jn_240, jn_288, jn_512, jn_840, jn_1200, jn_1600, jn_5040, jn_5390, jn_5400, jn_9999, jn_18688, jn_32400, jn_99999, jn_100000, jn_1000000, jn_858993459, jn_1431655765, jn_252645135, jl_0, jl_1, jl_2, jl_3, jl_8, jl_9, jl_10, jl_20, jl_27, jl_47, jl_96, jl_99, jl_100, jl_200, jl_555, jl_2000, jl_10000, jl_12345, jl_65536, jl_99999, jl_131638, jl_240023, jl_298288, jl_383153, jl_1306021, jl_1960084, jl_4147840, jl_8740238, jl_9872299, jl_175252482, jl_291595537, jl_1103515245, jl_2000000000, jl_2147483648, jl_4721686497, jl_7873079139, J_add, J_sub, J_mul, J_neg, JL_add, JL_sub, JL_mul, JL_neg, J_long, JL_int, ↓remI_fold, ↓remL_fold, Int.reduceAdd, Int.reduceSub, Int.reduceMul, Int.reduceNeg, Int.reduceToNat, mg_34, mw_21 o _ w _ hz, hidx, mSA_R, Option.bind_some, castS]
  have hhM : fX5_highOf N (emM o (mSR S 21 f) w) o (J (r : Int)) (J (t + ((L - e : Nat) : Int))) = some (J (hh C r (t + ((L : Int) - (e : Int))) : Int)) := by
    rw [eb]; exact M_highOf (hGf f) hr (by omega)
  have htM : fX5_toOf N (emM o (mSR S 21 f) w) o (J (r : Int)) (J (t + ((L - e : Nat) : Int))) = some (J (tt C r (t + ((L : Int) - (e : Int))) : Int)) := by
    rw [eb]; exact M_toOf (hGf f) hr (by omega)
  have hcase : lf C t L d e r = if 0 < hh C r (t + ((L : Int) - (e : Int))) ∧ hh C r (t + ((L : Int) - (e : Int))) ≤ e ∧ 1 + lf C t L d (e - hh C r (t + ((L : Int) - (e : Int)))) (tt C r (t + ((L : Int) - (e : Int)))) < best then 1 + lf C t L d (e - hh C r (t + ((L : Int) - (e : Int)))) (tt C r (t + ((L : Int) - (e : Int)))) else best := by
    cases e with
    | zero => rw [if_neg (by omega), hb, if_pos rfl, lf_0]
    | succ e =>
      have hb2 : best = lf C t L d e r := by rw [hb, if_neg (by omega), Nat.add_sub_cancel]
      rw [lf_s, hb2]
  unfold fX5_goesSoonest_105
  simp only [jn_0, jn_1, jn_2, jn_3, jn_4, jn_5, jn_6, jn_8, jn_9, jn_10, jn_11, jn_12, jn_16, jn_20, jn_24, jn_30, jn_31, jn_32, jn_36, jn_48, jn_57, jn_59, jn_60, jn_63, jn_72, jn_73, jn_96, jn_97, jn_100, jn_122, jn_144, jn_200, jn_240, jn_288, jn_512, jn_840, jn_1200, jn_1600, jn_5040, jn_5390, jn_5400, jn_9999, jn_18688, jn_32400, jn_99999, jn_100000, jn_1000000, jn_858993459, jn_1431655765, jn_252645135, jl_0, jl_1, jl_2, jl_3, jl_8, jl_9, jl_10, jl_20, jl_27, jl_47, jl_96, jl_99, jl_100, jl_200, jl_555, jl_2000, jl_10000, jl_12345, jl_65536, jl_99999, jl_131638, jl_240023, jl_298288, jl_383153, jl_1306021, jl_1960084, jl_4147840, jl_8740238, jl_9872299, jl_175252482, jl_291595537, jl_1103515245, jl_2000000000, jl_2147483648, jl_4721686497, jl_7873079139, J_add, J_sub, J_mul, J_neg, JL_add, JL_sub, JL_mul, JL_neg, J_long, JL_int, ↓remI_fold, ↓remL_fold, Int.reduceAdd, Int.reduceSub, Int.reduceMul, Int.reduceNeg, Int.reduceToNat, hhM, Option.bind_some, mg_35, show mi (mSR S 21 f) 35 = J (L : Int) from h35]
  by_cases h0 : 0 < hh C r (t + ((L : Int) - (e : Int)))
  case neg => rw [if_pos (by rw [J_le (by omega)]; omega), h180, hcase, if_neg (fun h => h0 h.1)]
  rw [if_neg (by rw [J_le (by omega)]; omega)]
  by_cases h1 : hh C r (t + ((L : Int) - (e : Int))) ≤ e
  case neg => rw [if_pos (by rw [J_lt (by omega)]; omega), h180, hcase, if_neg (fun h => h1 h.2.1)]
  have hz2 : 0 ≤ 6 * (((L - e : Nat) : Int) + (hh C r (t + ((L : Int) - (e : Int))) : Int)) + (tt C r (t + ((L : Int) - (e : Int))) : Int) ∧ 6 * (((L - e : Nat) : Int) + (hh C r (t + ((L : Int) - (e : Int))) : Int)) + (tt C r (t + ((L : Int) - (e : Int))) : Int) < 32400 := by omega
  have hidx2 : (6 * (((L - e : Nat) : Int) + (hh C r (t + ((L : Int) - (e : Int))) : Int)) + (tt C r (t + ((L : Int) - (e : Int))) : Int)).toNat = 6 * (L - (e - hh C r (t + ((L : Int) - (e : Int))))) + tt C r (t + ((L : Int) - (e : Int))) := by omega
  have hv : f (6 * (L - (e - hh C r (t + ((L : Int) - (e : Int))))) + tt C r (t + ((L : Int) - (e : Int)))) = J (lf C t L d (e - hh C r (t + ((L : Int) - (e : Int)))) (tt C r (t + ((L : Int) - (e : Int)))) : Int) := hf _ _ (by omega) h5 (Or.inl (by omega))
  have hlf := lf_le C t L d (e - hh C r (t + ((L : Int) - (e : Int)))) (tt C r (t + ((L : Int) - (e : Int)))) (by omega)
  rw [if_neg (by rw [J_lt (by omega)]; omega)]
  simp only [mg_34, htM, J_add, mr_21 o _ w hz2, hidx2, Option.bind_some]
  rw [show ma (mSR S 21 f) 21 = f from rfl, hv, J_add, show (1 : Int) + (lf C t L d (e - hh C r (t + ((L : Int) - (e : Int)))) (tt C r (t + ((L : Int) - (e : Int)))) : Int) = ((1 + lf C t L d (e - hh C r (t + ((L : Int) - (e : Int)))) (tt C r (t + ((L : Int) - (e : Int)))) : Nat) : Int) by omega]
  by_cases h2 : 1 + lf C t L d (e - hh C r (t + ((L : Int) - (e : Int)))) (tt C r (t + ((L : Int) - (e : Int)))) < best
  · rw [if_neg (by rw [J_le (by omega)]; omega)]
    unfold fX5_goesSoonest_178
    rw [h180, hcase, if_pos ⟨h0, h1, h2⟩]
  · rw [if_pos (by rw [J_le (by omega)]; omega)]
    unfold fX5_goesSoonest_178
    rw [h180, hcase, if_neg (fun h => h2 h.2.2)]
theorem M_gs55 (hG : GdM S 0 C) (ho : OkC C) (hN : 1000000 ≤ N) {t : Int} (ht : 0 ≤ t ∧ t ≤ 99999) {L d : Nat} (hL : L ≤ 80) (hd : d ≤ 6) (h35 : mi S 35 = J (L : Int)) {e : Nat} (he : e ≤ L) {f : Nat → Int32} (hf : RlF C t L d (fun i q => 6 * i + q) (fun x _ => x < e) f) (x : Int32) (K : Wd → Option (Int32 × Wd)) : ∃ f', fX5_goesSoonest_55 N o x (J t) (J (d : Int)) (J ((L - e : Nat) : Int)) K N (J 0) (emM o (mSR S 21 f) w) = K (emM o (mSR S 21 f') w) ∧ RlF C t L d (fun i q => 6 * i + q) (fun x _ => x < e + 1) f' := by
  have hR := cR_le C
  have hGf : ∀ g, GdM (mSR S 21 g) 0 C := fun g => FrM_G (FrM_R S 21 _ (by decide)) hG
  have key := lp_ex (fun n r f => fX5_goesSoonest_55 N o x (J t) (J (d : Int)) (J ((L - e : Nat) : Int)) K n (J (r : Int)) (emM o (mSR S 21 f) w)) (fun f => K (emM o (mSR S 21 f) w)) (cR C) (fun r f => RlF C t L d (fun i q => 6 * i + q) (fun x q => x < e ∨ (x = e ∧ q < r)) f) ?_ ?_ N f (by omega) (fun x q hx hq hv => hf x q hx hq (by omega))
  · obtain ⟨f', e1, h⟩ := key
    exact ⟨f', e1, fun x q hx hq hv => h x q hx hq (by omega)⟩
  · intro n r f hr hI
    have hle : ¬ J (cR C : Int) ≤ J (r : Int) := by rw [J_le (by omega)]; omega
    refine ⟨upd f (6 * (L - e) + r) (J (lf C t L d e r : Int)), ?_, RlF_up (ix := fun i q => 6 * i + q) (ixM_i2 (C := C)) he hr hI (fun x q h => by omega)⟩
    show fX5_goesSoonest_55 _ _ _ _ _ _ _ _ _ _ = _
    rw [fX5_goesSoonest_55]
    simp only [jn_0, jn_1, jn_2, jn_3, jn_4, jn_5, jn_6, jn_8, jn_9, jn_10, jn_11, jn_12, jn_16, jn_20, jn_24, jn_30, jn_31, jn_32, jn_36, jn_48, jn_57, jn_59, jn_60, jn_63, jn_72, jn_73, jn_96, jn_97, jn_100, jn_122, jn_144, jn_200, jn_240, jn_288, jn_512, jn_840, jn_1200, jn_1600, jn_5040, jn_5390, jn_5400, jn_9999, jn_18688, jn_32400, jn_99999, jn_100000, jn_1000000, jn_858993459, jn_1431655765, jn_252645135, jl_0, jl_1, jl_2, jl_3, jl_8, jl_9, jl_10, jl_20, jl_27, jl_47, jl_96, jl_99, jl_100, jl_200, jl_555, jl_2000, jl_10000, jl_12345, jl_65536, jl_99999, jl_131638, jl_240023, jl_298288, jl_383153, jl_1306021, jl_1960084, jl_4147840, jl_8740238, jl_9872299, jl_175252482, jl_291595537, jl_1103515245, jl_2000000000, jl_2147483648, jl_4721686497, jl_7873079139, J_add, J_sub, J_mul, J_neg, JL_add, JL_sub, JL_mul, JL_neg, J_long, JL_int, ↓remI_fold, ↓remL_fold, Int.reduceAdd, Int.reduceSub, Int.reduceMul, Int.reduceNeg, Int.reduceToNat, mg_17, mr_7 o _ w (show (0 : Int) ≤ 0 ∧ (0 : Int) < 6 by omega), gm_R (hGf f), Option.bind_some, Int.toNat_zero, if_neg hle, mg_35, show mi (mSR S 21 f) 35 = J (L : Int) from h35]
    by_cases h0 : e = 0
    · rw [if_pos (by rw [h0, Nat.sub_zero])]
      by_cases h1 : r = d
      · rw [if_pos (by rw [h1])]
        exact M_gs105 (best := 0) hG ho hN ht hL h35 he hr hI _ _ _ (by rw [if_pos h0, if_pos h1])
      · rw [if_neg (by rw [J_eq (by omega)]; omega)]
        exact M_gs105 (best := 1000000) hG ho hN ht hL h35 he hr hI _ _ _ (by rw [if_pos h0, if_neg h1])
    · rw [if_neg (by rw [J_eq (by omega)]; omega)]
      have hz : 0 ≤ 6 * (((L - e : Nat) : Int) + 1) + (r : Int) ∧ 6 * (((L - e : Nat) : Int) + 1) + (r : Int) < 32400 := by omega
      have hidx : (6 * (((L - e : Nat) : Int) + 1) + (r : Int)).toNat = 6 * (L - (e - 1)) + r := by omega
      have hv : f (6 * (L - (e - 1)) + r) = J (lf C t L d (e - 1) r : Int) := hI (e - 1) r (by omega) hr (Or.inl (by omega))
      simp only [mg_34, mr_21 o _ w hz, hidx, Option.bind_some]
      rw [show ma (mSR S 21 f) 21 = f from rfl, hv]
      exact M_gs105 hG ho hN ht hL h35 he hr hI _ _ _ (by rw [if_neg h0])
  · intro n f hI
    show fX5_goesSoonest_55 _ _ _ _ _ _ _ _ _ _ = _
    rw [fX5_goesSoonest_55]
    simp only [jn_0, jn_1, jn_2, jn_3, jn_4, jn_5, jn_6, jn_8, jn_9, jn_10, jn_11, jn_12, jn_16, jn_20, jn_24, jn_30, jn_31, jn_32, jn_36, jn_48, jn_57, jn_59, jn_60, jn_63, jn_72, jn_73, jn_96, jn_97, jn_100, jn_122, jn_144, jn_200, jn_240, jn_288, jn_512, jn_840, jn_1200, jn_1600, jn_5040, jn_5390, jn_5400, jn_9999, jn_18688, jn_32400, jn_99999, jn_100000, jn_1000000, jn_858993459, jn_1431655765, jn_252645135, jl_0, jl_1, jl_2, jl_3, jl_8, jl_9, jl_10, jl_20, jl_27, jl_47, jl_96, jl_99, jl_100, jl_200, jl_555, jl_2000, jl_10000, jl_12345, jl_65536, jl_99999, jl_131638, jl_240023, jl_298288, jl_383153, jl_1306021, jl_1960084, jl_4147840, jl_8740238, jl_9872299, jl_175252482, jl_291595537, jl_1103515245, jl_2000000000, jl_2147483648, jl_4721686497, jl_7873079139, J_add, J_sub, J_mul, J_neg, JL_add, JL_sub, JL_mul, JL_neg, J_long, JL_int, ↓remI_fold, ↓remL_fold, Int.reduceAdd, Int.reduceSub, Int.reduceMul, Int.reduceNeg, Int.reduceToNat, mg_17, mr_7 o _ w (show (0 : Int) ≤ 0 ∧ (0 : Int) < 6 by omega), gm_R (hGf f), Option.bind_some, Int.toNat_zero]
    rw [if_pos (by rw [J_le (by omega)]; omega)]
theorem M_gs47 (hG : GdM S 0 C) (ho : OkC C) (hN : 1000000 ≤ N) {t : Int} (ht : 0 ≤ t ∧ t ≤ 99999) {L d : Nat} (hL : L ≤ 80) (hd : d ≤ 6) (h35 : mi S 35 = J (L : Int)) (x : Int32) (K : Wd → Option (Int32 × Wd)) : ∃ f, fX5_goesSoonest_47 N o x (J t) (J (d : Int)) K N (J (L : Int)) (emM o S w) = K (emM o (mSR S 21 f) w) ∧ RlF C t L d (fun i q => 6 * i + q) (fun _ _ => True) f := by
  have key := lp_ex (fun n e f => fX5_goesSoonest_47 N o x (J t) (J (d : Int)) K n (J ((L : Int) - (e : Int))) (emM o (mSR S 21 f) w)) (fun f => K (emM o (mSR S 21 f) w)) (L + 1) (fun e f => RlF C t L d (fun i q => 6 * i + q) (fun x _ => x < e) f) ?_ ?_ N (ma S 21) (by omega) (fun x q _ _ h => absurd h (Nat.not_lt_zero _))
  · obtain ⟨f, e1, h⟩ := key
    refine ⟨f, ?_, fun x q hx hq _ => h x q hx hq (by omega)⟩
    rw [mSR_id, show (L : Int) - ((0 : Nat) : Int) = (L : Int) by omega] at e1
    exact e1
  · intro n e f he hI
    obtain ⟨f', e1, h⟩ := M_gs55 (N := N) (o := o) (w := w) hG ho hN ht hL hd h35 (e := e) (by omega) hI x (fun w23 => (some (J ((L : Int) - ((e + 1 : Nat) : Int)))).bind fun x24 => fX5_goesSoonest_47 N o x (J t) (J (d : Int)) K n x24 w23)
    refine ⟨f', ?_, h⟩
    show fX5_goesSoonest_47 _ _ _ _ _ _ _ _ _ = _
    rw [fX5_goesSoonest_47]
    simp only [jn_0, jn_1, jn_2, jn_3, jn_4, jn_5, jn_6, jn_8, jn_9, jn_10, jn_11, jn_12, jn_16, jn_20, jn_24, jn_30, jn_31, jn_32, jn_36, jn_48, jn_57, jn_59, jn_60, jn_63, jn_72, jn_73, jn_96, jn_97, jn_100, jn_122, jn_144, jn_200, jn_240, jn_288, jn_512, jn_840, jn_1200, jn_1600, jn_5040, jn_5390, jn_5400, jn_9999, jn_18688, jn_32400, jn_99999, jn_100000, jn_1000000, jn_858993459, jn_1431655765, jn_252645135, jl_0, jl_1, jl_2, jl_3, jl_8, jl_9, jl_10, jl_20, jl_27, jl_47, jl_96, jl_99, jl_100, jl_200, jl_555, jl_2000, jl_10000, jl_12345, jl_65536, jl_99999, jl_131638, jl_240023, jl_298288, jl_383153, jl_1306021, jl_1960084, jl_4147840, jl_8740238, jl_9872299, jl_175252482, jl_291595537, jl_1103515245, jl_2000000000, jl_2147483648, jl_4721686497, jl_7873079139, J_add, J_sub, J_mul, J_neg, JL_add, JL_sub, JL_mul, JL_neg, J_long, JL_int, ↓remI_fold, ↓remL_fold, Int.reduceAdd, Int.reduceSub, Int.reduceMul, Int.reduceNeg, Int.reduceToNat]
    rw [if_neg (by rw [J_lt (by omega)]; omega)]
    have eL : (L : Int) - ((e + 1 : Nat) : Int) = (L : Int) - (e : Int) + -1 := by omega
    rw [eL, show ((L - e : Nat) : Int) = (L : Int) - (e : Int) by omega, Option.bind_some] at e1
    rw [eL]
    exact e1
  · intro n f hI
    show fX5_goesSoonest_47 _ _ _ _ _ _ _ _ _ = _
    rw [fX5_goesSoonest_47]
    simp only [jn_0, jn_1, jn_2, jn_3, jn_4, jn_5, jn_6, jn_8, jn_9, jn_10, jn_11, jn_12, jn_16, jn_20, jn_24, jn_30, jn_31, jn_32, jn_36, jn_48, jn_57, jn_59, jn_60, jn_63, jn_72, jn_73, jn_96, jn_97, jn_100, jn_122, jn_144, jn_200, jn_240, jn_288, jn_512, jn_840, jn_1200, jn_1600, jn_5040, jn_5390, jn_5400, jn_9999, jn_18688, jn_32400, jn_99999, jn_100000, jn_1000000, jn_858993459, jn_1431655765, jn_252645135, jl_0, jl_1, jl_2, jl_3, jl_8, jl_9, jl_10, jl_20, jl_27, jl_47, jl_96, jl_99, jl_100, jl_200, jl_555, jl_2000, jl_10000, jl_12345, jl_65536, jl_99999, jl_131638, jl_240023, jl_298288, jl_383153, jl_1306021, jl_1960084, jl_4147840, jl_8740238, jl_9872299, jl_175252482, jl_291595537, jl_1103515245, jl_2000000000, jl_2147483648, jl_4721686497, jl_7873079139, J_add, J_sub, J_mul, J_neg, JL_add, JL_sub, JL_mul, JL_neg, J_long, JL_int, ↓remI_fold, ↓remL_fold, Int.reduceAdd, Int.reduceSub, Int.reduceMul, Int.reduceNeg, Int.reduceToNat]
    rw [if_pos (by rw [J_lt (by omega)]; omega)]
def mWk (S : MS) (g : Nat → Int32) (x y : Int32) : MS := mSI (mSI (mSR S 22 g) 37 x) 36 y
theorem mWk_37 (S : MS) (g : Nat → Int32) (x y z : Int32) : mSI (mWk S g x y) 37 z = mWk S g z y := by
  unfold mWk mSI
  refine Prod.ext (funext fun j => ?_) rfl
  simp only
  by_cases h : j = 36 <;> by_cases h' : j = 37 <;> simp [h, h']
theorem mWk_36 (S : MS) (g : Nat → Int32) (x y z : Int32) : mSI (mWk S g x y) 36 z = mWk S g x z := by
  unfold mWk mSI
  refine Prod.ext (funext fun j => ?_) rfl
  simp only
  by_cases h : j = 36 <;> simp [h]
theorem mWk_A (S : MS) (g : Nat → Int32) (x y z : Int32) (i : Nat) : mSA (mWk S g x y) 22 i z = mWk S (upd g i z) x y := by
  show mSI (mSI (mSA (mSR S 22 g) 22 i z) 37 x) 36 y = _
  rw [mSA_R]; rfl
theorem mWk_g37 (S : MS) (g : Nat → Int32) (x y : Int32) : mi (mWk S g x y) 37 = x := rfl
theorem mWk_g36 (S : MS) (g : Nat → Int32) (x y : Int32) : mi (mWk S g x y) 36 = y := rfl
theorem mWk_g35 (S : MS) (g : Nat → Int32) (x y : Int32) : mi (mWk S g x y) 35 = mi S 35 := rfl
theorem mWk_a (S : MS) (g : Nat → Int32) (x y : Int32) : ma (mWk S g x y) 21 = ma S 21 := rfl
theorem mWk_22 (S : MS) (g : Nat → Int32) (x y : Int32) : ma (mWk S g x y) 22 = g := rfl
theorem mWk_Fr (S : MS) (g : Nat → Int32) (x y : Int32) : FrM S (mWk S g x y) := FrM_t (FrM_R S 22 _ (by decide)) (FrM_t (FrM_I _ 37 _ (by decide)) (FrM_I _ 36 _ (by decide)))
/-- the row in which throws are told -/
def wkF (S : MS) (s : Wy) : Nat → Int32 := fun p => if p < s.2.2.1 then J (s.2.2.2 p) else ma S 22 p
theorem M_gs230 (hG : GdM S 0 C) (ho : OkC C) (hN : 1000000 ≤ N) {a : Nat} (ha : a < cR C) {t : Int} (ht : 0 ≤ t ∧ t ≤ 99999) {L d : Nat} (hs : sn C a t d = some L) (h35 : mi S 35 = J (L : Int)) (hf : RlF C t L d (fun i q => 6 * i + q) (fun _ _ => True) (ma S 21)) (K : Wd → Option (Int32 × Wd)) : fX5_goesSoonest_230 N o (J t) K N (J (a : Int)) (J 0) (emM o (mWk S (ma S 22) (J 0) (J 0)) w) = K (emM o (mWk S (wkF S (wk C t L d a (wkN C t L d a))) (J ((wk C t L d a (wkN C t L d a)).2.2.1 : Int)) (J ((wkN C t L d a : Int) - ((wk C t L d a (wkN C t L d a)).2.2.1 : Int)))) w) := by
  have hR := cR_le C
  have hL := (sn_some ho ha hs).1
  have hNk := wkN_is C t L d a
  have key := lp_cnt (fun n j => fX5_goesSoonest_230 N o (J t) K n (J ((wk C t L d a j).2.1 : Int)) (J ((wk C t L d a j).1 : Int)) (emM o (mWk S (wkF S (wk C t L d a j)) (J ((wk C t L d a j).2.2.1 : Int)) (J ((j : Int) - ((wk C t L d a j).2.2.1 : Int)))) w)) (K (emM o (mWk S (wkF S (wk C t L d a (wkN C t L d a))) (J ((wk C t L d a (wkN C t L d a)).2.2.1 : Int)) (J ((wkN C t L d a : Int) - ((wk C t L d a (wkN C t L d a)).2.2.1 : Int)))) w)) (wkN C t L d a) ?_ ?_ N (by omega)
  · have e0 : wkF S (wk C t L d a 0) = ma S 22 := by
      funext p
      unfold wkF
      rw [if_neg (by show ¬ p < 0; omega)]
    rw [e0] at key
    exact key
  · intro n j hj
    have ⟨i1, i2, i3, i4, i5, i6⟩ := wk_inv ho ha hs j (by omega)
    have ⟨m1, m2⟩ := wk_mid ho ha hs hj
    have e : wk C t L d a (j + 1) = wys C t L d (wk C t L d a j) := rfl
    rw [e]
    generalize hsd : wk C t L d a j = s at *
    obtain ⟨i, r, th, g⟩ := s
    simp only at i1 i2 i3 i4 i5 i6 m1 m2
    have h9 := hh_le C r (t + (i : Int))
    have h5 := tt_lt ho i2 (t + (i : Int))
    have hGf : ∀ g x y, GdM (mWk S g x y) 0 C := fun g x y => FrM_G (mWk_Fr S g x y) hG
    have b : -1000000 ≤ t + (i : Int) ∧ t + (i : Int) ≤ 1000000 := by omega
    have hno : ∀ (_ : ¬ wgo C t L d (i, r, th, g)), fX5_goesSoonest_314 N (emM o (mWk S (wkF S (i, r, th, g)) (J (th : Int)) (J ((j : Int) - (th : Int)))) w) o (J t) (J (r : Int)) (J (i : Int)) (J (hh C r (t + (i : Int)) : Int)) (fX5_goesSoonest_230 N o (J t) K n) K = fX5_goesSoonest_230 N o (J t) K n (J ((wys C t L d (i, r, th, g)).2.1 : Int)) (J ((wys C t L d (i, r, th, g)).1 : Int)) (emM o (mWk S (wkF S (wys C t L d (i, r, th, g))) (J ((wys C t L d (i, r, th, g)).2.2.1 : Int)) (J (((j + 1 : Nat) : Int) - ((wys C t L d (i, r, th, g)).2.2.1 : Int)))) w) := by
      intro hg
      rw [wys_f hg]
      unfold fX5_goesSoonest_314 fX5_goesSoonest_315
      simp only [jn_0, jn_1, jn_2, jn_3, jn_4, jn_5, jn_6, jn_8, jn_9, jn_10, jn_11, jn_12, jn_16, jn_20, jn_24, jn_30, jn_31, jn_32, jn_36, jn_48, jn_57, jn_59, jn_60, jn_63, jn_72, jn_73, jn_96, jn_97, jn_100, jn_122, jn_144, jn_200, jn_240, jn_288, jn_512, jn_840, jn_1200, jn_1600, jn_5040, jn_5390, jn_5400, jn_9999, jn_18688, jn_32400, jn_99999, jn_100000, jn_1000000, jn_858993459, jn_1431655765, jn_252645135, jl_0, jl_1, jl_2, jl_3, jl_8, jl_9, jl_10, jl_20, jl_27, jl_47, jl_96, jl_99, jl_100, jl_200, jl_555, jl_2000, jl_10000, jl_12345, jl_65536, jl_99999, jl_131638, jl_240023, jl_298288, jl_383153, jl_1306021, jl_1960084, jl_4147840, jl_8740238, jl_9872299, jl_175252482, jl_291595537, jl_1103515245, jl_2000000000, jl_2147483648, jl_4721686497, jl_7873079139, J_add, J_sub, J_mul, J_neg, JL_add, JL_sub, JL_mul, JL_neg, J_long, JL_int, ↓remI_fold, ↓remL_fold, Int.reduceAdd, Int.reduceSub, Int.reduceMul, Int.reduceNeg, Int.reduceToNat, if_true, mg_36, mWk_g36, mp_36, mWk_36, Option.bind_some, castS]
      rw [show (j : Int) - (th : Int) + 1 = ((j + 1 : Nat) : Int) - (th : Int) by omega]
      rfl
    show fX5_goesSoonest_230 _ _ _ _ _ _ _ _ = _
    rw [fX5_goesSoonest_230]
    simp only [jn_0, jn_1, jn_2, jn_3, jn_4, jn_5, jn_6, jn_8, jn_9, jn_10, jn_11, jn_12, jn_16, jn_20, jn_24, jn_30, jn_31, jn_32, jn_36, jn_48, jn_57, jn_59, jn_60, jn_63, jn_72, jn_73, jn_96, jn_97, jn_100, jn_122, jn_144, jn_200, jn_240, jn_288, jn_512, jn_840, jn_1200, jn_1600, jn_5040, jn_5390, jn_5400, jn_9999, jn_18688, jn_32400, jn_99999, jn_100000, jn_1000000, jn_858993459, jn_1431655765, jn_252645135, jl_0, jl_1, jl_2, jl_3, jl_8, jl_9, jl_10, jl_20, jl_27, jl_47, jl_96, jl_99, jl_100, jl_200, jl_555, jl_2000, jl_10000, jl_12345, jl_65536, jl_99999, jl_131638, jl_240023, jl_298288, jl_383153, jl_1306021, jl_1960084, jl_4147840, jl_8740238, jl_9872299, jl_175252482, jl_291595537, jl_1103515245, jl_2000000000, jl_2147483648, jl_4721686497, jl_7873079139, J_add, J_sub, J_mul, J_neg, JL_add, JL_sub, JL_mul, JL_neg, J_long, JL_int, ↓remI_fold, ↓remL_fold, Int.reduceAdd, Int.reduceSub, Int.reduceMul, Int.reduceNeg, Int.reduceToNat, mg_35, mWk_g35, h35, Option.bind_some, M_highOf (hGf _ _ _) i2 b]
    rw [if_neg (by rw [J_le (by omega)]; omega)]
    by_cases h0 : 0 < hh C r (t + (i : Int))
    case neg =>
      rw [if_pos (by rw [J_le (by omega)]; omega)]
      exact hno (fun h => h0 h.1)
    rw [if_neg (by rw [J_le (by omega)]; omega)]
    by_cases h1 : i + hh C r (t + (i : Int)) ≤ L
    case neg =>
      rw [if_pos (by rw [J_lt (by omega)]; omega)]
      exact hno (fun h => h1 h.2.1)
    rw [if_neg (by rw [J_lt (by omega)]; omega)]
    have hz : 0 ≤ 6 * (i : Int) + (r : Int) ∧ 6 * (i : Int) + (r : Int) < 32400 := by omega
    have hidx : (6 * (i : Int) + (r : Int)).toNat = 6 * i + r := by omega
    have hz2 : 0 ≤ 6 * ((i : Int) + (hh C r (t + (i : Int)) : Int)) + (tt C r (t + (i : Int)) : Int) ∧ 6 * ((i : Int) + (hh C r (t + (i : Int)) : Int)) + (tt C r (t + (i : Int)) : Int) < 32400 := by omega
    have hidx2 : (6 * ((i : Int) + (hh C r (t + (i : Int)) : Int)) + (tt C r (t + (i : Int)) : Int)).toNat = 6 * (i + hh C r (t + (i : Int))) + tt C r (t + (i : Int)) := by omega
    have v1 : ma S 21 (6 * i + r) = J (lf C t L d (L - i) r : Int) := by
      have := hf (L - i) r (by omega) i2 trivial
      simp only at this
      rwa [show L - (L - i) = i by omega] at this
    have v2 : ma S 21 (6 * (i + hh C r (t + (i : Int))) + tt C r (t + (i : Int))) = J (lf C t L d (L - (i + hh C r (t + (i : Int)))) (tt C r (t + (i : Int))) : Int) := by
      have := hf (L - (i + hh C r (t + (i : Int)))) (tt C r (t + (i : Int))) (by omega) h5 trivial
      simp only at this
      rwa [show L - (L - (i + hh C r (t + (i : Int)))) = i + hh C r (t + (i : Int)) by omega] at this
    have l1 := lf_le C t L d (L - i) r (by omega)
    have l2 := lf_le C t L d (L - (i + hh C r (t + (i : Int)))) (tt C r (t + (i : Int))) (by omega)
    simp only [mg_34, M_toOf (hGf _ _ _) i2 b, mr_21 o _ w hz, mr_21 o _ w hz2, hidx, hidx2, mWk_a, v1, v2, Option.bind_some, J_add]
    by_cases h2 : 1 + lf C t L d (L - (i + hh C r (t + (i : Int)))) (tt C r (t + (i : Int))) = lf C t L d (L - i) r
    case neg =>
      rw [if_neg (by rw [J_eq (by omega)]; omega)]
      exact hno (fun h => h2 h.2.2)
    rw [if_pos (by rw [J_eq (by omega)]; omega), wys_t ⟨h0, h1, h2⟩]
    unfold fX5_goesSoonest_315 fX5_goesSoonest_366
    simp only [jn_0, jn_1, jn_2, jn_3, jn_4, jn_5, jn_6, jn_8, jn_9, jn_10, jn_11, jn_12, jn_16, jn_20, jn_24, jn_30, jn_31, jn_32, jn_36, jn_48, jn_57, jn_59, jn_60, jn_63, jn_72, jn_73, jn_96, jn_97, jn_100, jn_122, jn_144, jn_200, jn_240, jn_288, jn_512, jn_840, jn_1200, jn_1600, jn_5040, jn_5390, jn_5400, jn_9999, jn_18688, jn_32400, jn_99999, jn_100000, jn_1000000, jn_858993459, jn_1431655765, jn_252645135, jl_0, jl_1, jl_2, jl_3, jl_8, jl_9, jl_10, jl_20, jl_27, jl_47, jl_96, jl_99, jl_100, jl_200, jl_555, jl_2000, jl_10000, jl_12345, jl_65536, jl_99999, jl_131638, jl_240023, jl_298288, jl_383153, jl_1306021, jl_1960084, jl_4147840, jl_8740238, jl_9872299, jl_175252482, jl_291595537, jl_1103515245, jl_2000000000, jl_2147483648, jl_4721686497, jl_7873079139, J_add, J_sub, J_mul, J_neg, JL_add, JL_sub, JL_mul, JL_neg, J_long, JL_int, ↓remI_fold, ↓remL_fold, Int.reduceAdd, Int.reduceSub, Int.reduceMul, Int.reduceNeg, Int.reduceToNat, mg_37, mWk_g37, Option.bind_some]
    rw [if_neg (by rw [J_eq (by omega)]; omega), if_neg (by rw [J_le (by omega)]; omega)]
    simp only [mg_38, mg_37, mWk_g37, mw_22 o _ w _ (show 0 ≤ (th : Int) ∧ (th : Int) < 100 by omega), Int.toNat_natCast, mWk_A, mp_37, mWk_37, Option.bind_some, J_add, M_toOf (hGf _ _ _) i2 b]
    have ef : upd (wkF S (i, r, th, g)) th (J (10 * (t + (i : Int)) + (r : Int))) = wkF S (i + hh C r (t + (i : Int)), tt C r (t + (i : Int)), th + 1, fun j => if j = th then 10 * (t + (i : Int)) + (r : Int) else g j) := by
      funext p
      unfold upd wkF
      simp only
      by_cases hp : p = th
      · rw [if_pos hp, if_pos (by omega), if_pos hp]
      · rw [if_neg hp]
        by_cases hp2 : p < th
        · rw [if_pos hp2, if_pos (by omega), if_neg hp]
        · rw [if_neg hp2, if_neg (by omega)]
    rw [ef, show (i : Int) + (hh C r (t + (i : Int)) : Int) = ((i + hh C r (t + (i : Int)) : Nat) : Int) by omega, show (th : Int) + 1 = ((th + 1 : Nat) : Int) by omega, show ((j + 1 : Nat) : Int) - ((th + 1 : Nat) : Int) = (j : Int) - (th : Int) by omega]
  · intro n
    have ⟨e1, e2⟩ := wk_end ho ha hs
    show fX5_goesSoonest_230 _ _ _ _ _ _ _ _ = _
    rw [fX5_goesSoonest_230]
    simp only [jn_0, jn_1, jn_2, jn_3, jn_4, jn_5, jn_6, jn_8, jn_9, jn_10, jn_11, jn_12, jn_16, jn_20, jn_24, jn_30, jn_31, jn_32, jn_36, jn_48, jn_57, jn_59, jn_60, jn_63, jn_72, jn_73, jn_96, jn_97, jn_100, jn_122, jn_144, jn_200, jn_240, jn_288, jn_512, jn_840, jn_1200, jn_1600, jn_5040, jn_5390, jn_5400, jn_9999, jn_18688, jn_32400, jn_99999, jn_100000, jn_1000000, jn_858993459, jn_1431655765, jn_252645135, jl_0, jl_1, jl_2, jl_3, jl_8, jl_9, jl_10, jl_20, jl_27, jl_47, jl_96, jl_99, jl_100, jl_200, jl_555, jl_2000, jl_10000, jl_12345, jl_65536, jl_99999, jl_131638, jl_240023, jl_298288, jl_383153, jl_1306021, jl_1960084, jl_4147840, jl_8740238, jl_9872299, jl_175252482, jl_291595537, jl_1103515245, jl_2000000000, jl_2147483648, jl_4721686497, jl_7873079139, J_add, J_sub, J_mul, J_neg, JL_add, JL_sub, JL_mul, JL_neg, J_long, JL_int, ↓remI_fold, ↓remL_fold, Int.reduceAdd, Int.reduceSub, Int.reduceMul, Int.reduceNeg, Int.reduceToNat, mg_35, mWk_g35, h35, Option.bind_some, e1]
    rw [if_pos (by rw [J_le (by omega)]; omega)]
theorem M_goesSoonest (hG : GdM S 0 C) (ho : OkC C) (hN : 1000000 ≤ N) {k : Nat} (hk : k < cN C) : ∃ S', FrM S S' ∧ fX5_goesSoonest N (emM o S w) o (J (k : Int)) = some ((match sn C (cF C k) (cA C k) (cD C k) with | some _ => J 1 | none => J 0), emM o S' w) ∧ ∀ L, sn C (cF C k) (cA C k) (cD C k) = some L → mi S' 35 = J (L : Int) ∧ mi S' 37 = J ((wk C (cA C k) L (cD C k) (cF C k) (wkN C (cA C k) L (cD C k) (cF C k))).2.2.1 : Int) ∧ mi S' 36 = J ((wkN C (cA C k) L (cD C k) (cF C k) : Int) - ((wk C (cA C k) L (cD C k) (cF C k) (wkN C (cA C k) L (cD C k) (cF C k))).2.2.1 : Int)) ∧ ∀ p, p < (wk C (cA C k) L (cD C k) (cF C k) (wkN C (cA C k) L (cD C k) (cF C k))).2.2.1 → ma S' 22 p = J ((wk C (cA C k) L (cD C k) (cF C k) (wkN C (cA C k) L (cD C k) (cF C k))).2.2.2 p) := by
  have hn8 := cN_le C
  have hA := cA_le C k
  have hok := ho.2.1 k hk
  have hR := cR_le C
  have z0 : 0 ≤ 3 * (k : Int) ∧ 3 * (k : Int) < 144 := by omega
  have z1 : 0 ≤ 3 * (k : Int) + 1 ∧ 3 * (k : Int) + 1 < 144 := by omega
  have z2 : 0 ≤ 3 * (k : Int) + 2 ∧ 3 * (k : Int) + 2 < 144 := by omega
  have i0 : (3 * (k : Int)).toNat = 3 * k := by omega
  have i1 : (3 * (k : Int) + 1).toNat = 3 * k + 1 := by omega
  have i2 : (3 * (k : Int) + 2).toNat = 3 * k + 2 := by omega
  obtain ⟨f, e⟩ := M_soonestOf (N := N) (o := o) (w := w) hG ho hN hk
  unfold fX5_goesSoonest
  simp only [jn_0, jn_1, jn_2, jn_3, jn_4, jn_5, jn_6, jn_8, jn_9, jn_10, jn_11, jn_12, jn_16, jn_20, jn_24, jn_30, jn_31, jn_32, jn_36, jn_48, jn_57, jn_59, jn_60, jn_63, jn_72, jn_73, jn_96, jn_97, jn_100, jn_122, jn_144, jn_200, jn_240, jn_288, jn_512, jn_840, jn_1200, jn_1600, jn_5040, jn_5390, jn_5400, jn_9999, jn_18688, jn_32400, jn_99999, jn_100000, jn_1000000, jn_858993459, jn_1431655765, jn_252645135, jl_0, jl_1, jl_2, jl_3, jl_8, jl_9, jl_10, jl_20, jl_27, jl_47, jl_96, jl_99, jl_100, jl_200, jl_555, jl_2000, jl_10000, jl_12345, jl_65536, jl_99999, jl_131638, jl_240023, jl_298288, jl_383153, jl_1306021, jl_1960084, jl_4147840, jl_8740238, jl_9872299, jl_175252482, jl_291595537, jl_1103515245, jl_2000000000, jl_2147483648, jl_4721686497, jl_7873079139, J_add, J_sub, J_mul, J_neg, JL_add, JL_sub, JL_mul, JL_neg, J_long, JL_int, ↓remI_fold, ↓remL_fold, Int.reduceAdd, Int.reduceSub, Int.reduceMul, Int.reduceNeg, Int.reduceToNat, mg_24, mr_14 o _ w z1, mr_14 o _ w z2, i1, i2, gm_A hG hk, gm_D hG hk, e, mp_35, mg_35, Option.bind_some, mi_I, if_true]
  unfold snI
  cases hs : sn C (cF C k) (cA C k) (cD C k) with
  | none =>
    simp only
    refine ⟨mSI (mSR S 20 f) 35 (J (-1)), FrM_t (FrM_R S 20 _ (by decide)) (FrM_I _ 35 _ (by decide)), by first | rw [if_pos rfl] | simp only [if_true], fun L h => by cases h⟩
  | some L =>
    have hL := (sn_some ho hok.1 hs).1
    simp only
    rw [if_neg (by rw [J_eq (by omega)]; omega)]
    have hF1 : FrM S (mSI (mSR S 20 f) 35 (J (L : Int))) := FrM_t (FrM_R S 20 _ (by decide)) (FrM_I _ 35 _ (by decide))
    obtain ⟨f2, e2, h2⟩ := M_gs47 (N := N) (o := o) (S := mSI (mSR S 20 f) 35 (J (L : Int))) (w := w) (FrM_G hF1 hG) ho hN (t := (cA C k : Int)) (by omega) (L := L) (d := cD C k) hL (by omega) rfl (J (k : Int)) (fun w25 =>
        (pF w25 [5] o 37 (.int (J 0))).bind fun w26 =>
        (pF w26 [5] o 36 (.int (J 0))).bind fun w27 =>
        (gR w27 [5] o 24).bind fun x28 =>
        (aI 0 w27 x28 (J (3 * (k : Int)))).bind fun x29 =>
        fX5_goesSoonest_230 N o (J (cA C k : Int)) (fun w49 => some (J 1, w49)) N x29 (J 0) w27)
    have hF2 : FrM S (mSR (mSI (mSR S 20 f) 35 (J (L : Int))) 21 f2) := FrM_t hF1 (FrM_R _ 21 _ (by decide))
    have e3 := M_gs230 (N := N) (o := o) (S := mSR (mSI (mSR S 20 f) 35 (J (L : Int))) 21 f2) (w := w) (FrM_G hF2 hG) ho hN hok.1 (t := (cA C k : Int)) (by omega) hs rfl h2 (fun w49 => some (J 1, w49))
    refine ⟨mWk (mSR (mSI (mSR S 20 f) 35 (J (L : Int))) 21 f2) (wkF (mSR (mSI (mSR S 20 f) 35 (J (L : Int))) 21 f2) (wk C (cA C k) L (cD C k) (cF C k) (wkN C (cA C k) L (cD C k) (cF C k)))) (J ((wk C (cA C k) L (cD C k) (cF C k) (wkN C (cA C k) L (cD C k) (cF C k))).2.2.1 : Int)) (J ((wkN C (cA C k) L (cD C k) (cF C k) : Int) - ((wk C (cA C k) L (cD C k) (cF C k) (wkN C (cA C k) L (cD C k) (cF C k))).2.2.1 : Int))), FrM_t hF2 (mWk_Fr _ _ _ _), ?_, fun L' hL' => ?_⟩
    · refine e2.trans ?_
      rw [mp_37, Option.bind_some, mp_36, Option.bind_some, mg_24, Option.bind_some, mr_14 o _ w z0, Option.bind_some, i0]
      have hG3 : GdM (mSI (mSI (mSR (mSI (mSR S 20 f) 35 (J (L : Int))) 21 f2) 37 (J 0)) 36 (J 0)) 0 C := FrM_G (FrM_t hF2 (FrM_t (FrM_I _ 37 _ (by decide)) (FrM_I _ 36 _ (by decide)))) hG
      rw [gm_F hG3 hk]
      have em : mSI (mSI (mSR (mSI (mSR S 20 f) 35 (J (L : Int))) 21 f2) 37 (J 0)) 36 (J 0) = mWk (mSR (mSI (mSR S 20 f) 35 (J (L : Int))) 21 f2) (ma (mSR (mSI (mSR S 20 f) 35 (J (L : Int))) 21 f2) 22) (J 0) (J 0) := by
        unfold mWk; rw [mSR_id]
      rw [em]
      exact e3
    · injection hL' with hL'
      subst hL'
      refine ⟨rfl, rfl, rfl, fun p hp => ?_⟩
      rw [mWk_22]
      unfold wkF
      rw [if_pos hp]
theorem M_soonest (hG : GdM S 0 C) (ho : OkC C) (hN : 1000000 ≤ N) {v x : Int} (hv : -2147483648 ≤ v ∧ v ≤ 2147483647) (hx : -2147483648 ≤ x ∧ x ≤ 2147483647) : ∃ S', fX5_soonest N (emM o S w) o (J v) (J x) = some (J (sp_soonest C v x), emM o S' w) ∧ FrM S S' := by
  have hG' : GdM (mSI S 0 (J 0)) 0 C := hG
  have hF : FrM S (mSI S 0 (J 0)) := FrM_I S 0 _ (by decide)
  have hn8 := cN_le C
  have e1 : fX5_in N (emM o (mSI S 0 (J 0)) w) (JL x) (JL 0) (JL 2) = some (Bp (0 ≤ x ∧ x ≤ 2)) := M_in (by omega)
  unfold fX5_soonest sp_soonest
  simp only [jn_0, jn_1, jn_2, jn_3, jn_4, jn_5, jn_6, jn_8, jn_9, jn_10, jn_11, jn_12, jn_16, jn_20, jn_24, jn_30, jn_31, jn_32, jn_36, jn_48, jn_57, jn_59, jn_60, jn_63, jn_72, jn_73, jn_96, jn_97, jn_100, jn_122, jn_144, jn_200, jn_240, jn_288, jn_512, jn_840, jn_1200, jn_1600, jn_5040, jn_5390, jn_5400, jn_9999, jn_18688, jn_32400, jn_99999, jn_100000, jn_1000000, jn_858993459, jn_1431655765, jn_252645135, jl_0, jl_1, jl_2, jl_3, jl_8, jl_9, jl_10, jl_20, jl_27, jl_47, jl_96, jl_99, jl_100, jl_200, jl_555, jl_2000, jl_10000, jl_12345, jl_65536, jl_99999, jl_131638, jl_240023, jl_298288, jl_383153, jl_1306021, jl_1960084, jl_4147840, jl_8740238, jl_9872299, jl_175252482, jl_291595537, jl_1103515245, jl_2000000000, jl_2147483648, jl_4721686497, jl_7873079139, J_add, J_sub, J_mul, J_neg, JL_add, JL_sub, JL_mul, JL_neg, J_long, JL_int, ↓remI_fold, ↓remL_fold, Int.reduceAdd, Int.reduceSub, Int.reduceMul, Int.reduceNeg, Int.reduceToNat, Classical.not_not, em_t, Bp_eq0, Bp_eq1, Bp_01, Bp_mk, Bp_mk', Bp_0, Bp_0', Bp_1, Bp_1', if_true, if_false, ite_not, mp_0, M_isLetter hG' hv, J_long hx, e1, Option.bind_some]
  by_cases h1 : 0 ≤ v ∧ v < cN C
  case neg => exact ⟨_, by rw [if_neg h1, if_neg h1], hF⟩
  simp only [if_pos h1]
  by_cases h2 : 0 ≤ x ∧ x ≤ 2
  case neg => exact ⟨_, by rw [if_neg h2, if_neg h2], hF⟩
  simp only [if_pos h2]
  obtain ⟨k, hk⟩ : ∃ k : Nat, v = k := ⟨v.toNat, by omega⟩
  subst hk
  simp only [Int.toNat_natCast]
  have hk' : k < cN C := by omega
  have hA := cA_le C k
  have z1 : 0 ≤ 3 * (k : Int) + 1 ∧ 3 * (k : Int) + 1 < 144 := by omega
  have i1 : (3 * (k : Int) + 1).toNat = 3 * k + 1 := by omega
  obtain ⟨S', hF', e, h⟩ := M_goesSoonest (N := N) (o := o) (w := w) hG' ho hN hk'
  have hGS := FrM_G hF' hG'
  rw [e, Option.bind_some]
  cases hs : sn C (cF C k) (cA C k) (cD C k) with
  | none =>
    simp only
    exact ⟨S', by first | rw [if_pos rfl] | simp only [if_true], FrM_t hF hF'⟩
  | some L =>
    obtain ⟨a1, a2, a3, _⟩ := h L hs
    simp only
    refine ⟨S', ?_, FrM_t hF hF'⟩
    rw [if_neg (by rw [J_eq (by omega)]; omega)]
    simp only [mg_24, mr_14 o _ w z1, i1, gm_A hGS hk', mg_35, mg_36, mg_37, a1, a2, a3, Option.bind_some, J_add]
    by_cases h3 : x = 0
    · rw [if_pos (by rw [h3]), if_pos h3]
    · rw [if_neg (by rw [J_eq (by omega)]; omega), if_neg h3]
      by_cases h4 : x = 1
      · rw [if_pos (by rw [h4]), if_pos h4]
      · rw [if_neg (by rw [J_eq (by omega)]; omega), if_neg h4]
theorem M_way (hG : GdM S 0 C) (ho : OkC C) (hN : 1000000 ≤ N) {v i : Int} (hv : -2147483648 ≤ v ∧ v ≤ 2147483647) (hi : -2147483648 ≤ i ∧ i ≤ 2147483647) : ∃ S', fX5_way N (emM o S w) o (J v) (J i) = some (J (sp_way C v i), emM o S' w) ∧ FrM S S' := by
  have hG' : GdM (mSI S 0 (J 0)) 0 C := hG
  have hF : FrM S (mSI S 0 (J 0)) := FrM_I S 0 _ (by decide)
  have hn8 := cN_le C
  unfold fX5_way sp_way
  simp only [jn_0, jn_1, jn_2, jn_3, jn_4, jn_5, jn_6, jn_8, jn_9, jn_10, jn_11, jn_12, jn_16, jn_20, jn_24, jn_30, jn_31, jn_32, jn_36, jn_48, jn_57, jn_59, jn_60, jn_63, jn_72, jn_73, jn_96, jn_97, jn_100, jn_122, jn_144, jn_200, jn_240, jn_288, jn_512, jn_840, jn_1200, jn_1600, jn_5040, jn_5390, jn_5400, jn_9999, jn_18688, jn_32400, jn_99999, jn_100000, jn_1000000, jn_858993459, jn_1431655765, jn_252645135, jl_0, jl_1, jl_2, jl_3, jl_8, jl_9, jl_10, jl_20, jl_27, jl_47, jl_96, jl_99, jl_100, jl_200, jl_555, jl_2000, jl_10000, jl_12345, jl_65536, jl_99999, jl_131638, jl_240023, jl_298288, jl_383153, jl_1306021, jl_1960084, jl_4147840, jl_8740238, jl_9872299, jl_175252482, jl_291595537, jl_1103515245, jl_2000000000, jl_2147483648, jl_4721686497, jl_7873079139, J_add, J_sub, J_mul, J_neg, JL_add, JL_sub, JL_mul, JL_neg, J_long, JL_int, ↓remI_fold, ↓remL_fold, Int.reduceAdd, Int.reduceSub, Int.reduceMul, Int.reduceNeg, Int.reduceToNat, Classical.not_not, em_t, Bp_eq0, Bp_eq1, Bp_01, Bp_mk, Bp_mk', Bp_0, Bp_0', Bp_1, Bp_1', if_true, if_false, ite_not, mp_0, M_isLetter hG' hv, J_long hi, Option.bind_some]
  by_cases h1 : 0 ≤ v ∧ v < cN C
  case neg => exact ⟨_, by rw [if_neg h1, if_neg h1], hF⟩
  simp only [if_pos h1]
  obtain ⟨k, hk⟩ : ∃ k : Nat, v = k := ⟨v.toNat, by omega⟩
  subst hk
  simp only [Int.toNat_natCast]
  have hk' : k < cN C := by omega
  have hok := ho.2.1 k hk'
  obtain ⟨S', hF', e, h⟩ := M_goesSoonest (N := N) (o := o) (w := w) hG' ho hN hk'
  rw [e, Option.bind_some]
  cases hs : sn C (cF C k) (cA C k) (cD C k) with
  | none =>
    simp only
    exact ⟨S', by first | rw [if_pos rfl] | simp only [if_true], FrM_t hF hF'⟩
  | some L =>
    obtain ⟨a1, a2, a3, a4⟩ := h L hs
    simp only
    refine ⟨S', ?_, FrM_t hF hF'⟩
    have hL := (sn_some ho hok.1 hs).1
    have hNk := wkN_is C (cA C k) L (cD C k) (cF C k)
    have hth := (wk_inv ho hok.1 hs _ (Nat.le_refl _)).2.2.2.2.1
    generalize (wk C (cA C k) L (cD C k) (cF C k) (wkN C (cA C k) L (cD C k) (cF C k))).2.2.1 = th at *
    have e1 : fX5_in N (emM o S' w) (JL i) (JL 0) (JL ((th : Int) - 1)) = some (Bp (0 ≤ i ∧ i ≤ (th : Int) - 1)) := M_in (by omega)
    have e2 : (J ((th : Int) - 1)).toInt64 = JL ((th : Int) - 1) := J_long (by omega)
    rw [if_neg (by rw [J_eq (by omega)]; omega)]
    simp only [mg_37, a2, Option.bind_some, J_sub, e2, e1, Classical.not_not, em_t, Bp_eq0, Bp_eq1, Bp_01, Bp_mk, Bp_mk', Bp_0, Bp_0', Bp_1, Bp_1', if_true, if_false, ite_not]
    by_cases h3 : 0 ≤ i ∧ i ≤ (th : Int) - 1
    · rw [if_pos h3, if_pos (by omega), mg_38, Option.bind_some, mr_22 o _ w (by omega), Option.bind_some, a4 i.toNat (by omega)]
    · rw [if_neg h3, if_neg (by omega)]
end
