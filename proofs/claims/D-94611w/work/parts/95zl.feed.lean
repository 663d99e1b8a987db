/-! the tape: feed, end -/
set_option maxRecDepth 100000
def byZ (v z : Int32) : Int32 := nar 2 (v >>> (z &&& 31)).toInt8.toInt32
def tp4 (T : Nat → Int32) (n : Nat) (v : Int32) : Nat → Int32 := upd (upd (upd (upd T n (byZ v (J 24))) (n + 1) (byZ v (J 16))) (n + 2) (byZ v (J 8))) (n + 3) (byZ v (J 0))
theorem tp4_cg {f g : Nat → Int32} {n : Nat} {v : Int32} (h : ∀ i, i < n → f i = g i) : ∀ i, i < n + 4 → tp4 f n v i = tp4 g n v i := by
  intro i hi
  unfold tp4 upd
  by_cases e3 : i = n + 3
  · rw [if_pos e3, if_pos e3]
  · rw [if_neg e3, if_neg e3]
    by_cases e2 : i = n + 2
    · rw [if_pos e2, if_pos e2]
    · rw [if_neg e2, if_neg e2]
      by_cases e1 : i = n + 1
      · rw [if_pos e1, if_pos e1]
      · rw [if_neg e1, if_neg e1]
        by_cases e0 : i = n
        · rw [if_pos e0, if_pos e0]
        · rw [if_neg e0, if_neg e0]
          exact h i (by omega)
def FrT (S S' : MS) : Prop := (∀ a, a ≠ 5 → ma S' a = ma S a) ∧ (∀ a, mb S' a = mb S a) ∧ mi S' 14 = mi S 14 ∧ mi S' 15 = mi S 15
theorem FrT_r (S : MS) : FrT S S := ⟨fun _ _ => rfl, fun _ => rfl, rfl, rfl⟩
theorem FrT_t {S T U : MS} (h : FrT S T) (h' : FrT T U) : FrT S U := ⟨fun a h1 => (h'.1 a h1).trans (h.1 a h1), fun a => (h'.2.1 a).trans (h.2.1 a), h'.2.2.1.trans h.2.2.1, h'.2.2.2.trans h.2.2.2⟩
section
variable {N o : Nat} {S : MS} {w : Wd}
theorem M_four1 {n m : Nat} (hn : n < 1600) (h6 : mi S 6 = J (n : Int)) {z : Int} (hz : 0 ≤ z ∧ z ≤ 24) (v : Int32) (k : Wd → Option Wd) : ∃ S', fX5_four_3 N o v k (m + 1) (J z) (emM o S w) = fX5_four_3 N o v k m (J (z - 8)) (emM o S' w) ∧ mi S' 6 = J ((n + 1 : Nat) : Int) ∧ ma S' 5 = upd (ma S 5) n (byZ v (J z)) ∧ FrT S S' := by
  refine ⟨mSI (mSA S 5 n (byZ v (J z))) 6 (J ((n + 1 : Nat) : Int)), ?_, rfl, rfl, ⟨fun a ha => ?_, fun _ => rfl, rfl, rfl⟩⟩
  · rw [fX5_four_3, jn_0, if_neg (by rw [J_lt (by omega)]; omega), mg_5, Option.bind_some, mg_6, Option.bind_some, h6, mw_5 o _ w _ (by omega), Option.bind_some, Int.toNat_natCast, mg_6, Option.bind_some, show mi (mSA S 5 n (nar 2 (v >>> (J z &&& 31)).toInt8.toInt32)) 6 = J (n : Int) from h6, jn_1, J_add, mp_6, Option.bind_some, Option.bind_some, castS]
    rw [show (-8 : Int32) = J (-8) from rfl, J_add, show z + -8 = z - 8 by omega]
    rfl
  · show ma (mSA S 5 n _) a = ma S a
    rw [ma_A, if_neg ha]
theorem M_four (hN : 1000000 ≤ N) {n : Nat} (hn : n + 4 ≤ 1600) (h6 : mi S 6 = J (n : Int)) (v : Int32) : ∃ S', fX5_four N (emM o S w) o v = some (emM o S' w) ∧ mi S' 6 = J ((n + 4 : Nat) : Int) ∧ ma S' 5 = tp4 (ma S 5) n v ∧ FrT S S' := by
  obtain ⟨m, hm⟩ : ∃ m, N = m + 1 + 1 + 1 + 1 + 1 := ⟨N - 5, by omega⟩
  obtain ⟨S1, e1, a1, b1, c1⟩ := M_four1 (N := N) (o := o) (w := w) (m := m + 1 + 1 + 1 + 1) (by omega) h6 (z := 24) (by omega) v (fun w7 => some w7)
  obtain ⟨S2, e2, a2, b2, c2⟩ := M_four1 (N := N) (o := o) (w := w) (m := m + 1 + 1 + 1) (by omega) a1 (z := 16) (by omega) v (fun w7 => some w7)
  obtain ⟨S3, e3, a3, b3, c3⟩ := M_four1 (N := N) (o := o) (w := w) (m := m + 1 + 1) (by omega) a2 (z := 8) (by omega) v (fun w7 => some w7)
  obtain ⟨S4, e4, a4, b4, c4⟩ := M_four1 (N := N) (o := o) (w := w) (m := m + 1) (by omega) a3 (z := 0) (by omega) v (fun w7 => some w7)
  refine ⟨S4, ?_, a4, by rw [b4, b3, b2, b1]; rfl, FrT_t c1 (FrT_t c2 (FrT_t c3 c4))⟩
  unfold fX5_four
  rw [show (24 : Int32) = J 24 from rfl]
  rw [← hm] at e1
  refine e1.trans (e2.trans (e3.trans (e4.trans ?_)))
  rw [fX5_four_3, jn_0, if_pos (by rw [J_lt (by omega)]; omega)]
theorem M_feed (hN : 1000000 ≤ N) {n : Nat} (hn : n ≤ 1600) (h6 : mi S 6 = J (n : Int)) (a b c d e : Int32) : ∃ S', fX5_feed N (emM o S w) o a b c d e = some (if n + 20 ≤ 1600 then J ((n + 20 : Nat) : Int) else J (-1), emM o S' w) ∧ FrT S S' ∧ (if n + 20 ≤ 1600 then mi S' 6 = J ((n + 20 : Nat) : Int) ∧ ma S' 5 = tp4 (tp4 (tp4 (tp4 (tp4 (ma S 5) n a) (n + 4) b) (n + 8) c) (n + 12) d) (n + 16) e else mi S' 6 = J (n : Int) ∧ ma S' 5 = ma S 5) := by
  unfold fX5_feed
  have h6' : mi (mSI S 0 (J 0)) 6 = J (n : Int) := h6
  have hF : FrT S (mSI S 0 (J 0)) := ⟨fun _ _ => rfl, fun _ => rfl, rfl, rfl⟩
  simp only [jn_0, jn_1, jn_2, jn_3, jn_4, jn_5, jn_6, jn_8, jn_9, jn_10, jn_11, jn_12, jn_16, jn_20, jn_24, jn_30, jn_31, jn_32, jn_36, jn_48, jn_57, jn_59, jn_60, jn_63, jn_72, jn_73, jn_96, jn_97, jn_100, jn_122, jn_144, jn_200, jn_240, jn_288, jn_512, jn_840, jn_1200, jn_1600, jn_5040, jn_5390, jn_5400, jn_9999, jn_18688, jn_32400, jn_99999, jn_100000, jn_1000000, jn_858993459, jn_1431655765, jn_252645135, jl_0, jl_1, jl_2, jl_3, jl_8, jl_9, jl_10, jl_20, jl_27, jl_47, jl_96, jl_99, jl_100, jl_200, jl_555, jl_2000, jl_10000, jl_12345, jl_65536, jl_99999, jl_131638, jl_240023, jl_298288, jl_383153, jl_1306021, jl_1960084, jl_4147840, jl_8740238, jl_9872299, jl_175252482, jl_291595537, jl_1103515245, jl_2000000000, jl_2147483648, jl_4721686497, jl_7873079139, J_add, J_sub, J_mul, J_neg, JL_add, JL_sub, JL_mul, JL_neg, J_long, JL_int, ↓remI_fold, ↓remL_fold, Int.reduceAdd, Int.reduceSub, Int.reduceMul, Int.reduceNeg, Int.reduceToNat, mp_0, mg_6, h6', Option.bind_some]
  by_cases h : n + 20 ≤ 1600
  case neg => exact ⟨_, by rw [if_neg (by rw [J_le (by omega)]; omega), if_neg h], hF, by rw [if_neg h]; exact ⟨h6, rfl⟩⟩
  rw [if_pos (by rw [J_le (by omega)]; omega)]
  obtain ⟨S1, e1, a1, b1, c1⟩ := M_four (N := N) (o := o) (w := w) hN (by omega) h6' a
  obtain ⟨S2, e2, a2, b2, c2⟩ := M_four (N := N) (o := o) (w := w) hN (by omega) a1 b
  obtain ⟨S3, e3, a3, b3, c3⟩ := M_four (N := N) (o := o) (w := w) hN (by omega) a2 c
  obtain ⟨S4, e4, a4, b4, c4⟩ := M_four (N := N) (o := o) (w := w) hN (by omega) a3 d
  obtain ⟨S5, e5, a5, b5, c5⟩ := M_four (N := N) (o := o) (w := w) hN (by omega) a4 e
  rw [e1, Option.bind_some, e2, Option.bind_some, e3, Option.bind_some, e4, Option.bind_some, e5, Option.bind_some, mg_6, Option.bind_some, a5]
  refine ⟨S5, by rw [if_pos h], FrT_t hF (FrT_t c1 (FrT_t c2 (FrT_t c3 (FrT_t c4 c5)))), ?_⟩
  rw [if_pos h]
  refine ⟨by rw [a5], ?_⟩
  rw [b5, b4, b3, b2, b1]
  rfl
theorem M_end {n : Nat} (hn : n ≤ 1600) (h6 : mi S 6 = J (n : Int)) {v : Int} (hv : -2147483648 ≤ v ∧ v ≤ 2147483647) : fX5_end N (emM o S w) o (J v) = some (if 0 ≤ v ∧ v ≤ n then (J v, emM o (mSI (mSI S 0 (J 0)) 6 (J v)) w) else (J (-1), emM o (mSI S 0 (J 0)) w)) := by
  have h6' : mi (mSI S 0 (J 0)) 6 = J (n : Int) := h6
  have e1 : fX5_in N (emM o (mSI S 0 (J 0)) w) (JL v) (JL 0) (JL (n : Int)) = some (Bp (0 ≤ v ∧ v ≤ (n : Int))) := M_in (by omega)
  unfold fX5_end
  simp only [jn_0, jn_1, jn_2, jn_3, jn_4, jn_5, jn_6, jn_8, jn_9, jn_10, jn_11, jn_12, jn_16, jn_20, jn_24, jn_30, jn_31, jn_32, jn_36, jn_48, jn_57, jn_59, jn_60, jn_63, jn_72, jn_73, jn_96, jn_97, jn_100, jn_122, jn_144, jn_200, jn_240, jn_288, jn_512, jn_840, jn_1200, jn_1600, jn_5040, jn_5390, jn_5400, jn_9999, jn_18688, jn_32400, jn_99999, jn_100000, jn_1000000, jn_858993459, jn_1431655765, jn_252645135, jl_0, jl_1, jl_2, jl_3, jl_8, jl_9, jl_10, jl_20, jl_27, jl_47, jl_96, jl_99, jl_100, jl_200, jl_555, jl_2000, jl_10000, jl_12345, jl_65536, jl_99999, jl_131638, jl_240023, jl_298288, jl_383153, jl_1306021, jl_1960084, jl_4147840, jl_8740238, jl_9872299, jl_175252482, jl_291595537, jl_1103515245, jl_2000000000, jl_2147483648, jl_4721686497, jl_7873079139, J_add, J_sub, J_mul, J_neg, JL_add, JL_sub, JL_mul, JL_neg, J_long, JL_int, ↓remI_fold, ↓remL_fold, Int.reduceAdd, Int.reduceSub, Int.reduceMul, Int.reduceNeg, Int.reduceToNat, mp_0, mg_6, h6', J_long hv, J_long (show -2147483648 ≤ (n : Int) ∧ (n : Int) ≤ 2147483647 by omega), e1, Classical.not_not, em_t, Bp_eq0, Bp_eq1, Bp_01, Bp_mk, Bp_mk', Bp_0, Bp_0', Bp_1, Bp_1', if_true, if_false, ite_not, mp_6, Option.bind_some]
  by_cases h : 0 ≤ v ∧ v ≤ (n : Int)
  · rw [if_pos h, if_pos h]
  · rw [if_neg h, if_neg h]
end
def FxT (S S' : XS) : Prop := xc S' = xc S ∧ xi S' 3 = xi S 3 ∧ xi S' 4 = xi S 4
theorem FxT_r (S : XS) : FxT S S := ⟨rfl, rfl, rfl⟩
theorem FxT_t {S T U : XS} (h : FxT S T) (h' : FxT T U) : FxT S U := ⟨h'.1.trans h.1, h'.2.1.trans h.2.1, h'.2.2.trans h.2.2⟩
section
variable {N o : Nat} {S : XS} {w : Wd}
theorem X_puts1 {n m : Nat} (hn : n < 1600) (h2 : xi S 2 = J (n : Int)) {z : Int} (hz : 0 ≤ z ∧ z ≤ 24) (v : Int32) (k : Wd → Option Wd) : ∃ S', fX0_puts_3 N o v k (m + 1) (J z) (emX o S w) = fX0_puts_3 N o v k m (J (z - 8)) (emX o S' w) ∧ xi S' 2 = J ((n + 1 : Nat) : Int) ∧ xa S' 8 = upd (xa S 8) n (byZ v (J z)) ∧ FxT S S' := by
  refine ⟨xSI (xSA S 8 n (byZ v (J z))) 2 (J ((n + 1 : Nat) : Int)), ?_, rfl, rfl, rfl, rfl, rfl⟩
  rw [fX0_puts_3, jn_0, if_neg (by rw [J_lt (by omega)]; omega), xg_1, Option.bind_some, xg_2, Option.bind_some, h2, xw_8 o _ w _ (by omega), Option.bind_some, Int.toNat_natCast, xg_2, Option.bind_some, show xi (xSA S 8 n (nar 2 (v >>> (J z &&& 31)).toInt8.toInt32)) 2 = J (n : Int) from h2, jn_1, J_add, xp_2, Option.bind_some, Option.bind_some, castS]
  rw [show (-8 : Int32) = J (-8) from rfl, J_add, show z + -8 = z - 8 by omega]
  rfl
theorem X_puts (hN : 1000000 ≤ N) {n : Nat} (hn : n + 4 ≤ 1600) (h2 : xi S 2 = J (n : Int)) (v : Int32) : ∃ S', fX0_puts N (emX o S w) o v = some (emX o S' w) ∧ xi S' 2 = J ((n + 4 : Nat) : Int) ∧ xa S' 8 = tp4 (xa S 8) n v ∧ FxT S S' := by
  obtain ⟨m, hm⟩ : ∃ m, N = m + 1 + 1 + 1 + 1 + 1 := ⟨N - 5, by omega⟩
  obtain ⟨S1, e1, a1, b1, c1⟩ := X_puts1 (N := N) (o := o) (w := w) (m := m + 1 + 1 + 1 + 1) (by omega) h2 (z := 24) (by omega) v (fun w7 => some w7)
  obtain ⟨S2, e2, a2, b2, c2⟩ := X_puts1 (N := N) (o := o) (w := w) (m := m + 1 + 1 + 1) (by omega) a1 (z := 16) (by omega) v (fun w7 => some w7)
  obtain ⟨S3, e3, a3, b3, c3⟩ := X_puts1 (N := N) (o := o) (w := w) (m := m + 1 + 1) (by omega) a2 (z := 8) (by omega) v (fun w7 => some w7)
  obtain ⟨S4, e4, a4, b4, c4⟩ := X_puts1 (N := N) (o := o) (w := w) (m := m + 1) (by omega) a3 (z := 0) (by omega) v (fun w7 => some w7)
  refine ⟨S4, ?_, a4, by rw [b4, b3, b2, b1]; rfl, FxT_t c1 (FxT_t c2 (FxT_t c3 c4))⟩
  unfold fX0_puts
  rw [show (24 : Int32) = J 24 from rfl]
  rw [← hm] at e1
  refine e1.trans (e2.trans (e3.trans (e4.trans ?_)))
  rw [fX0_puts_3, jn_0, if_pos (by rw [J_lt (by omega)]; omega)]
theorem X_feed (hN : 1000000 ≤ N) {n : Nat} (hn : n ≤ 1600) (h2 : xi S 2 = J (n : Int)) (a b c d e : Int32) : ∃ S', fX0_feed N (emX o S w) o a b c d e = some (if n + 20 ≤ 1600 then J ((n + 20 : Nat) : Int) else J (-1), emX o S' w) ∧ FxT S S' ∧ (if n + 20 ≤ 1600 then xi S' 2 = J ((n + 20 : Nat) : Int) ∧ xa S' 8 = tp4 (tp4 (tp4 (tp4 (tp4 (xa S 8) n a) (n + 4) b) (n + 8) c) (n + 12) d) (n + 16) e else xi S' 2 = J (n : Int) ∧ xa S' 8 = xa S 8) := by
  unfold fX0_feed
  simp only [jn_0, jn_1, jn_2, jn_3, jn_4, jn_5, jn_6, jn_8, jn_9, jn_10, jn_11, jn_12, jn_16, jn_20, jn_24, jn_30, jn_31, jn_32, jn_36, jn_48, jn_57, jn_59, jn_60, jn_63, jn_72, jn_73, jn_96, jn_97, jn_100, jn_122, jn_144, jn_200, jn_240, jn_288, jn_512, jn_840, jn_1200, jn_1600, jn_5040, jn_5390, jn_5400, jn_9999, jn_18688, jn_32400, jn_99999, jn_100000, jn_1000000, jn_858993459, jn_1431655765, jn_252645135, jl_0, jl_1, jl_2, jl_3, jl_8, jl_9, jl_10, jl_20, jl_27, jl_47, jl_96, jl_99, jl_100, jl_200, jl_555, jl_2000, jl_10000, jl_12345, jl_65536, jl_99999, jl_131638, jl_240023, jl_298288, jl_383153, jl_1306021, jl_1960084, jl_4147840, jl_8740238, jl_9872299, jl_175252482, jl_291595537, jl_1103515245, jl_2000000000, jl_2147483648, jl_4721686497, jl_7873079139, J_add, J_sub, J_mul, J_neg, JL_add, JL_sub, JL_mul, JL_neg, J_long, JL_int, ↓remI_fold, ↓remL_fold, Int.reduceAdd, Int.reduceSub, Int.reduceMul, Int.reduceNeg, Int.reduceToNat, xg_2, h2, Option.bind_some]
  by_cases h : n + 20 ≤ 1600
  case neg => exact ⟨S, by rw [if_neg (by rw [J_le (by omega)]; omega), if_neg h], FxT_r S, by rw [if_neg h]; exact ⟨h2, rfl⟩⟩
  rw [if_pos (by rw [J_le (by omega)]; omega)]
  obtain ⟨S1, e1, a1, b1, c1⟩ := X_puts (N := N) (o := o) (w := w) hN (by omega) h2 a
  obtain ⟨S2, e2, a2, b2, c2⟩ := X_puts (N := N) (o := o) (w := w) hN (by omega) a1 b
  obtain ⟨S3, e3, a3, b3, c3⟩ := X_puts (N := N) (o := o) (w := w) hN (by omega) a2 c
  obtain ⟨S4, e4, a4, b4, c4⟩ := X_puts (N := N) (o := o) (w := w) hN (by omega) a3 d
  obtain ⟨S5, e5, a5, b5, c5⟩ := X_puts (N := N) (o := o) (w := w) hN (by omega) a4 e
  rw [e1, Option.bind_some, e2, Option.bind_some, e3, Option.bind_some, e4, Option.bind_some, e5, Option.bind_some, xg_2, Option.bind_some, a5]
  refine ⟨S5, by rw [if_pos h], FxT_t c1 (FxT_t c2 (FxT_t c3 (FxT_t c4 c5))), ?_⟩
  rw [if_pos h]
  refine ⟨by rw [a5], ?_⟩
  rw [b5, b4, b3, b2, b1]
theorem X_end {n : Nat} (hn : n ≤ 1600) (h2 : xi S 2 = J (n : Int)) {v : Int} (hv : -2147483648 ≤ v ∧ v ≤ 2147483647) : fX0_end N (emX o S w) o (J v) = some (if 0 ≤ v ∧ v ≤ n then (J v, emX o (xSI S 2 (J v)) w) else (J (-1), emX o S w)) := by
  have e1 : fX0_isIn N (emX o S w) (JL v) (JL 0) (JL (n : Int)) = some (Bp (0 ≤ v ∧ v ≤ (n : Int))) := X_in (by omega)
  unfold fX0_end
  simp only [jn_0, jn_1, jn_2, jn_3, jn_4, jn_5, jn_6, jn_8, jn_9, jn_10, jn_11, jn_12, jn_16, jn_20, jn_24, jn_30, jn_31, jn_32, jn_36, jn_48, jn_57, jn_59, jn_60, jn_63, jn_72, jn_73, jn_96, jn_97, jn_100, jn_122, jn_144, jn_200, jn_240, jn_288, jn_512, jn_840, jn_1200, jn_1600, jn_5040, jn_5390, jn_5400, jn_9999, jn_18688, jn_32400, jn_99999, jn_100000, jn_1000000, jn_858993459, jn_1431655765, jn_252645135, jl_0, jl_1, jl_2, jl_3, jl_8, jl_9, jl_10, jl_20, jl_27, jl_47, jl_96, jl_99, jl_100, jl_200, jl_555, jl_2000, jl_10000, jl_12345, jl_65536, jl_99999, jl_131638, jl_240023, jl_298288, jl_383153, jl_1306021, jl_1960084, jl_4147840, jl_8740238, jl_9872299, jl_175252482, jl_291595537, jl_1103515245, jl_2000000000, jl_2147483648, jl_4721686497, jl_7873079139, J_add, J_sub, J_mul, J_neg, JL_add, JL_sub, JL_mul, JL_neg, J_long, JL_int, ↓remI_fold, ↓remL_fold, Int.reduceAdd, Int.reduceSub, Int.reduceMul, Int.reduceNeg, Int.reduceToNat, xg_2, h2, J_long hv, J_long (show -2147483648 ≤ (n : Int) ∧ (n : Int) ≤ 2147483647 by omega), e1, Classical.not_not, em_t, Bp_eq0, Bp_eq1, Bp_01, Bp_mk, Bp_mk', Bp_0, Bp_0', Bp_1, Bp_1', if_true, if_false, ite_not, xp_2, Option.bind_some]
  by_cases h : 0 ≤ v ∧ v ≤ (n : Int)
  · rw [if_pos h, if_pos h]
  · rw [if_neg h, if_neg h]
end
