/-! the reference: backwards, the loops -/
set_option maxRecDepth 100000
def bwH (C : Cy) (r : Nat) (b : Int) (q : Nat) (s : Int × Int) : Int × Int := fo (fun h s => if lnd C r b q h = true then (((1 + h : Nat) : Int), (q : Int)) else s) 9 s
def bwQ (C : Cy) (r : Nat) (b : Int) : Int × Int := fo (fun q s => bwH C r b q s) (cR C) (0, (r : Int))
def mT2 (S : MS) (p : Nat) (s : Int × Int) : MS := mSA (mSA S 10 p (J s.1)) 11 p (J s.2)
theorem upd_upd (f : Nat → Int32) (p : Nat) (x y : Int32) : upd (upd f p x) p y = upd f p y := by
  funext j; unfold upd; by_cases h : j = p <;> simp [h]
theorem mT2_w (S : MS) (p : Nat) (s : Int × Int) (x y : Int) : mSA (mSA (mT2 S p s) 10 p (J x)) 11 p (J y) = mT2 S p (x, y) := by
  unfold mT2 mSA
  refine Prod.ext rfl (Prod.ext rfl (Prod.ext (funext fun j => ?_) rfl))
  simp only
  by_cases h1 : j = 11
  · simp [h1, upd_upd]
  · by_cases h2 : j = 10
    · simp [h2, upd_upd]
    · simp [h1, h2]
section
variable {N o : Nat} {S : MS} {w : Wd} {C : Cy}
theorem M_bw107 {pos : Nat} (hG : ∀ s, GdM (mT2 S pos s) 0 C) (hpos : pos < 288) {r q : Nat} (hr : r < 6) (hq : q < cR C) {P i : Nat} (hP : P ≤ 8) (hi : i < P) (k : Wd → Option (Int32 × Wd)) {n : Nat} (hn : 20 < n) (s : Int × Int) : fX5_backwards_107 N o (J P) (J r) (J i) (J pos) (J q) k n (J 1) (emM o (mT2 S pos s) w) = k (emM o (mT2 S pos (bwH C r ((P : Int) - i) q s)) w) := by
  have hR := cR_le C
  refine lp_fold' (fun n h (s : Int × Int) => fX5_backwards_107 N o (J P) (J r) (J i) (J pos) (J q) k n (J ((1 + h : Nat) : Int)) (emM o (mT2 S pos s) w)) (fun s => k (emM o (mT2 S pos s) w)) 9 (fun h s => if lnd C r ((P : Int) - i) q h = true then (((1 + h : Nat) : Int), (q : Int)) else s) ?_ ?_ n s (by omega)
  · intro n h s hh9
    have e1 : J (P : Int) - J (i : Int) - J ((1 + h : Nat) : Int) = J ((P : Int) - i - (1 + h : Nat)) := by rw [J_sub, J_sub]
    have b1 := hh_le C q ((P : Int) - i - (1 + h : Nat))
    have b2 := tt_le C q ((P : Int) - i - (1 + h : Nat))
    have ec : ((1 + h : Nat) : Int) = 1 + (h : Int) := by omega
    rw [fX5_backwards_107, jn_9, if_neg (by rw [J_lt (by omega)]; omega), e1, M_highOf (hG s) hq (by omega), Option.bind_some, M_toOf (hG s) hq (by omega), Option.bind_some]
    by_cases h1 : hh C q ((P : Int) - i - (1 + h : Nat)) = 1 + h
    · rw [if_pos (by rw [h1])]
      by_cases h2 : tt C q ((P : Int) - i - (1 + h : Nat)) = r
      · have hl : lnd C r ((P : Int) - i) q h = true := by
          unfold lnd
          rw [ec] at h1 h2
          exact decide_eq_true ⟨h1, h2⟩
        rw [if_pos (by rw [h2]), if_pos hl, mg_20, Option.bind_some, mw_10 o _ w _ (by omega), Option.bind_some, mg_21, Option.bind_some, mw_11 o _ w _ (by omega), Option.bind_some, Int.toNat_natCast, mT2_w]
        simp only [jn_0, jn_1, jn_2, jn_3, jn_4, jn_5, jn_6, jn_8, jn_9, jn_10, jn_11, jn_12, jn_16, jn_20, jn_24, jn_30, jn_31, jn_32, jn_36, jn_48, jn_57, jn_59, jn_60, jn_63, jn_72, jn_73, jn_96, jn_97, jn_100, jn_122, jn_144, jn_200, jn_240, jn_288, jn_512, jn_840, jn_1200, jn_1600, jn_5040, jn_5390, jn_5400, jn_9999, jn_18688, jn_32400, jn_99999, jn_100000, jn_1000000, jn_858993459, jn_1431655765, jn_252645135, jl_0, jl_1, jl_2, jl_3, jl_8, jl_9, jl_10, jl_20, jl_27, jl_47, jl_96, jl_99, jl_100, jl_200, jl_555, jl_2000, jl_10000, jl_12345, jl_65536, jl_99999, jl_131638, jl_240023, jl_298288, jl_383153, jl_1306021, jl_1960084, jl_4147840, jl_8740238, jl_9872299, jl_175252482, jl_291595537, jl_1103515245, jl_2000000000, jl_2147483648, jl_4721686497, jl_7873079139, J_add, J_sub, J_mul, J_neg, JL_add, JL_sub, JL_mul, JL_neg, J_long, JL_int, ↓remI_fold, ↓remL_fold, Int.reduceAdd, Int.reduceSub, Int.reduceMul, Int.reduceNeg, Int.reduceToNat, Option.bind_some]
        rw [show ((1 + h : Nat) : Int) + 1 = ((1 + (h + 1) : Nat) : Int) by omega]
      · have hl : ¬ lnd C r ((P : Int) - i) q h = true := by
          unfold lnd
          rw [ec] at h2
          intro e
          exact h2 (of_decide_eq_true e).2
        rw [if_neg (by rw [J_eq (by omega)]; omega), if_neg hl]
        simp only [jn_0, jn_1, jn_2, jn_3, jn_4, jn_5, jn_6, jn_8, jn_9, jn_10, jn_11, jn_12, jn_16, jn_20, jn_24, jn_30, jn_31, jn_32, jn_36, jn_48, jn_57, jn_59, jn_60, jn_63, jn_72, jn_73, jn_96, jn_97, jn_100, jn_122, jn_144, jn_200, jn_240, jn_288, jn_512, jn_840, jn_1200, jn_1600, jn_5040, jn_5390, jn_5400, jn_9999, jn_18688, jn_32400, jn_99999, jn_100000, jn_1000000, jn_858993459, jn_1431655765, jn_252645135, jl_0, jl_1, jl_2, jl_3, jl_8, jl_9, jl_10, jl_20, jl_27, jl_47, jl_96, jl_99, jl_100, jl_200, jl_555, jl_2000, jl_10000, jl_12345, jl_65536, jl_99999, jl_131638, jl_240023, jl_298288, jl_383153, jl_1306021, jl_1960084, jl_4147840, jl_8740238, jl_9872299, jl_175252482, jl_291595537, jl_1103515245, jl_2000000000, jl_2147483648, jl_4721686497, jl_7873079139, J_add, J_sub, J_mul, J_neg, JL_add, JL_sub, JL_mul, JL_neg, J_long, JL_int, ↓remI_fold, ↓remL_fold, Int.reduceAdd, Int.reduceSub, Int.reduceMul, Int.reduceNeg, Int.reduceToNat, Option.bind_some]
        rw [show ((1 + h : Nat) : Int) + 1 = ((1 + (h + 1) : Nat) : Int) by omega]
    · have hl : ¬ lnd C r ((P : Int) - i) q h = true := by
        unfold lnd
        rw [ec] at h1
        intro e
        exact h1 (of_decide_eq_true e).1
      rw [if_neg (by rw [J_eq (by omega)]; omega), if_neg hl]
      simp only [jn_0, jn_1, jn_2, jn_3, jn_4, jn_5, jn_6, jn_8, jn_9, jn_10, jn_11, jn_12, jn_16, jn_20, jn_24, jn_30, jn_31, jn_32, jn_36, jn_48, jn_57, jn_59, jn_60, jn_63, jn_72, jn_73, jn_96, jn_97, jn_100, jn_122, jn_144, jn_200, jn_240, jn_288, jn_512, jn_840, jn_1200, jn_1600, jn_5040, jn_5390, jn_5400, jn_9999, jn_18688, jn_32400, jn_99999, jn_100000, jn_1000000, jn_858993459, jn_1431655765, jn_252645135, jl_0, jl_1, jl_2, jl_3, jl_8, jl_9, jl_10, jl_20, jl_27, jl_47, jl_96, jl_99, jl_100, jl_200, jl_555, jl_2000, jl_10000, jl_12345, jl_65536, jl_99999, jl_131638, jl_240023, jl_298288, jl_383153, jl_1306021, jl_1960084, jl_4147840, jl_8740238, jl_9872299, jl_175252482, jl_291595537, jl_1103515245, jl_2000000000, jl_2147483648, jl_4721686497, jl_7873079139, J_add, J_sub, J_mul, J_neg, JL_add, JL_sub, JL_mul, JL_neg, J_long, JL_int, ↓remI_fold, ↓remL_fold, Int.reduceAdd, Int.reduceSub, Int.reduceMul, Int.reduceNeg, Int.reduceToNat, Option.bind_some]
      rw [show ((1 + h : Nat) : Int) + 1 = ((1 + (h + 1) : Nat) : Int) by omega]
  · intro n s
    rw [fX5_backwards_107, jn_9, if_pos (by rw [J_lt (by omega)]; omega)]
theorem M_bw93 {pos : Nat} (hG : ∀ s, GdM (mT2 S pos s) 0 C) (hpos : pos < 288) (hN : 1000000 ≤ N) {r : Nat} (hr : r < 6) {P i : Nat} (hP : P ≤ 8) (hi : i < P) (k : Wd → Option (Int32 × Wd)) : fX5_backwards_93 N o (J P) (J r) (J i) (J pos) k N (J 0) (emM o (mT2 S pos (0, (r : Int))) w) = k (emM o (mT2 S pos (bwQ C r ((P : Int) - i))) w) := by
  have hR := cR_le C
  refine lp_fold' (fun n q (s : Int × Int) => fX5_backwards_93 N o (J P) (J r) (J i) (J pos) k n (J (q : Int)) (emM o (mT2 S pos s) w)) (fun s => k (emM o (mT2 S pos s) w)) (cR C) (fun q s => bwH C r ((P : Int) - i) q s) ?_ ?_ N (0, (r : Int)) (by omega)
  · intro n q s hq
    rw [fX5_backwards_93, mg_17, Option.bind_some, jn_0, mr_7 o _ w (by omega), Option.bind_some, show (0 : Int).toNat = 0 from rfl, gm_R (hG s), if_neg (by rw [J_le (by omega)]; omega), jn_1, M_bw107 hG hpos hr hq hP hi _ (by omega)]
    simp only [jn_0, jn_1, jn_2, jn_3, jn_4, jn_5, jn_6, jn_8, jn_9, jn_10, jn_11, jn_12, jn_16, jn_20, jn_24, jn_30, jn_31, jn_32, jn_36, jn_48, jn_57, jn_59, jn_60, jn_63, jn_72, jn_73, jn_96, jn_97, jn_100, jn_122, jn_144, jn_200, jn_240, jn_288, jn_512, jn_840, jn_1200, jn_1600, jn_5040, jn_5390, jn_5400, jn_9999, jn_18688, jn_32400, jn_99999, jn_100000, jn_1000000, jn_858993459, jn_1431655765, jn_252645135, jl_0, jl_1, jl_2, jl_3, jl_8, jl_9, jl_10, jl_20, jl_27, jl_47, jl_96, jl_99, jl_100, jl_200, jl_555, jl_2000, jl_10000, jl_12345, jl_65536, jl_99999, jl_131638, jl_240023, jl_298288, jl_383153, jl_1306021, jl_1960084, jl_4147840, jl_8740238, jl_9872299, jl_175252482, jl_291595537, jl_1103515245, jl_2000000000, jl_2147483648, jl_4721686497, jl_7873079139, J_add, J_sub, J_mul, J_neg, JL_add, JL_sub, JL_mul, JL_neg, J_long, JL_int, ↓remI_fold, ↓remL_fold, Int.reduceAdd, Int.reduceSub, Int.reduceMul, Int.reduceNeg, Int.reduceToNat, Option.bind_some, castS]
  · intro n s
    rw [fX5_backwards_93, mg_17, Option.bind_some, jn_0, mr_7 o _ w (by omega), Option.bind_some, show (0 : Int).toNat = 0 from rfl, gm_R (hG s), if_pos (by rw [J_le (by omega)]; omega)]
/-- what lies far off in the rows of throws is no part of city 0 -/
theorem far_G {S' : MS} (hG : GdM S 0 C) (h : ∀ a, a ≠ 9 → a ≠ 10 → a ≠ 11 → ma S' a = ma S a) (h9 : ∀ p, p < 6 → ma S' 9 p = ma S 9 p) (h10 : ∀ p, p < 48 → ma S' 10 p = ma S 10 p) (h11 : ∀ p, p < 48 → ma S' 11 p = ma S 11 p) : GdM S' 0 C := by
  have hR := cR_le C
  obtain ⟨g1, g2, g3, g4, g5, g6, g7, g8⟩ := hG
  refine ⟨?_, ?_, fun r hr => ?_, ?_, ?_, ?_, ?_, ?_⟩
  · rw [h 6 (by decide) (by decide) (by decide)]; exact g1
  · rw [h 7 (by decide) (by decide) (by decide)]; exact g2
  · have ⟨a1, a2, a3⟩ := g3 r hr
    refine ⟨?_, ?_, fun i hi => ?_⟩
    · rw [h 8 (by decide) (by decide) (by decide)]; exact a1
    · rw [h9 _ (by omega)]; exact a2
    · have hP := cP_bd C r
      rw [h10 _ (by omega), h11 _ (by omega)]
      exact a3 i hi
  · rw [h 12 (by decide) (by decide) (by decide)]; exact g4
  · rw [h 12 (by decide) (by decide) (by decide)]; exact g5
  · rw [h 13 (by decide) (by decide) (by decide)]; exact g6
  · rw [h 14 (by decide) (by decide) (by decide)]; exact g7
  · rw [h 15 (by decide) (by decide) (by decide)]; exact g8
theorem mT2_G (hG : GdM S 0 C) {pos : Nat} (h : 48 ≤ pos) (s : Int × Int) : GdM (mT2 S pos s) 0 C := by
  refine far_G hG (fun a h1 h2 h3 => ?_) (fun p hp => rfl) (fun p hp => ?_) (fun p hp => ?_)
  · unfold mT2
    rw [ma_A, if_neg h3, ma_A, if_neg h2]
  · show upd (ma S 10) pos (J s.1) p = ma S 10 p
    exact upd_o _ _ (by omega)
  · show upd (ma S 11) pos (J s.2) p = ma S 11 p
    exact upd_o _ _ (by omega)
def bwF (C : Cy) (P r : Nat) (i : Nat) : Int32 := J (bwQ C r ((P : Int) - i)).1
def bwT (C : Cy) (P r : Nat) (i : Nat) : Int32 := J (bwQ C r ((P : Int) - i)).2
theorem mS2_far (hG : GdM S 0 C) {r i : Nat} (hr : 6 ≤ r) (f g : Nat → Int32) : GdM (mS2 S r i f g) 0 C := by
  refine far_G hG (fun a h1 h2 h3 => mS2_9 _ _ _ _ _ _ ⟨h2, h3⟩) (fun p hp => by rw [mS2_9 _ _ _ _ _ _ (by decide)]) (fun p hp => ?_) (fun p hp => ?_)
  · show (if p < 8 * r + i then (if 8 * r ≤ p then f (p - 8 * r) else ma S 10 p) else ma S 10 p) = ma S 10 p
    by_cases h : p < 8 * r + i
    · rw [if_pos h, if_neg (by omega)]
    · rw [if_neg h]
  · show (if p < 8 * r + i then (if 8 * r ≤ p then g (p - 8 * r) else ma S 11 p) else ma S 11 p) = ma S 11 p
    by_cases h : p < 8 * r + i
    · rw [if_pos h, if_neg (by omega)]
    · rw [if_neg h]
theorem M_bw58 (hG : GdM S 0 C) (hN : 1000000 ≤ N) {r : Nat} (hr : r < 6) {P : Nat} (hP : P ≤ 8) (k : Wd → Option (Int32 × Wd)) : fX5_backwards_58 N o (J P) (J r) k N (J 0) (emM o S w) = k (emM o (mS2 S (30 + r) P (bwF C P r) (bwT C P r)) w) := by
  have key := lp_cnt (fun n i => fX5_backwards_58 N o (J P) (J r) k n (J (i : Int)) (emM o (mS2 S (30 + r) i (bwF C P r) (bwT C P r)) w)) (k (emM o (mS2 S (30 + r) P (bwF C P r) (bwT C P r)) w)) P ?_ ?_ N (by omega)
  · rw [mS2_0] at key
    exact key
  · intro n i hi
    have hG1 := mS2_far hG (r := 30 + r) (i := i) (by omega) (bwF C P r) (bwT C P r)
    have e1 : (8 : Int32) * ((30 : Int32) + J (r : Int)) + J (i : Int) = J ((8 * (30 + r) + i : Nat) : Int) := by
      rw [jn_8, jn_30, J_add, J_mul, J_add]
      congr 1
    rw [fX5_backwards_58, if_neg (by rw [J_le (by omega)]; omega), e1, Option.bind_some, mg_20, Option.bind_some, jn_0, mw_10 o _ w _ (by omega), Option.bind_some, mg_21, Option.bind_some, mw_11 o _ w _ (by omega), Option.bind_some, Int.toNat_natCast]
    have e2 := M_bw93 (N := N) (o := o) (w := w) (S := mS2 S (30 + r) i (bwF C P r) (bwT C P r)) (C := C) (pos := 8 * (30 + r) + i) (fun s => mT2_G hG1 (by omega) s) (by omega) hN hr hP hi (fun w26 => (some (J (i : Int) + (1 : Int32))).bind fun x27 => fX5_backwards_58 N o (J P) (J r) k n x27 w26)
    refine Eq.trans e2 ?_
    simp only [jn_0, jn_1, jn_2, jn_3, jn_4, jn_5, jn_6, jn_8, jn_9, jn_10, jn_11, jn_12, jn_16, jn_20, jn_24, jn_30, jn_31, jn_32, jn_36, jn_48, jn_57, jn_59, jn_60, jn_63, jn_72, jn_73, jn_96, jn_97, jn_100, jn_122, jn_144, jn_200, jn_240, jn_288, jn_512, jn_840, jn_1200, jn_1600, jn_5040, jn_5390, jn_5400, jn_9999, jn_18688, jn_32400, jn_99999, jn_100000, jn_1000000, jn_858993459, jn_1431655765, jn_252645135, jl_0, jl_1, jl_2, jl_3, jl_8, jl_9, jl_10, jl_20, jl_27, jl_47, jl_96, jl_99, jl_100, jl_200, jl_555, jl_2000, jl_10000, jl_12345, jl_65536, jl_99999, jl_131638, jl_240023, jl_298288, jl_383153, jl_1306021, jl_1960084, jl_4147840, jl_8740238, jl_9872299, jl_175252482, jl_291595537, jl_1103515245, jl_2000000000, jl_2147483648, jl_4721686497, jl_7873079139, J_add, J_sub, J_mul, J_neg, JL_add, JL_sub, JL_mul, JL_neg, J_long, JL_int, ↓remI_fold, ↓remL_fold, Int.reduceAdd, Int.reduceSub, Int.reduceMul, Int.reduceNeg, Int.reduceToNat, Option.bind_some, castS]
    congr 2
    exact mS2_s S (30 + r) i (bwF C P r) (bwT C P r)
  · intro n
    rw [fX5_backwards_58, if_pos (by rw [J_le (by omega)]; omega)]
/-- the rows of city 5 that are laid -/
def bwS (C : Cy) (P : Nat) (S : MS) : Nat → MS
  | 0 => S
  | r + 1 => mSA (mS2 (bwS C P S r) (30 + r) P (bwF C P r) (bwT C P r)) 9 (30 + r) (J P)
theorem bwS_G (hG : GdM S 0 C) (P : Nat) : ∀ r, GdM (bwS C P S r) 0 C := by
  intro r
  induction r with
  | zero => exact hG
  | succ r ih =>
    refine far_G (mS2_far ih (r := 30 + r) (i := P) (by omega) (bwF C P r) (bwT C P r)) (fun a h1 h2 h3 => ?_) (fun p hp => ?_) (fun p hp => rfl) (fun p hp => rfl)
    · show ma (mSA _ 9 _ _) a = _
      rw [ma_A, if_neg h1]
    · show ma (mSA _ 9 _ _) 9 p = _
      rw [ma_A, if_pos rfl]
      exact upd_o _ _ (by omega)
theorem M_bw46 (hG : GdM S 0 C) (hN : 1000000 ≤ N) {P : Nat} (hP : P ≤ 8) (k : Wd → Option (Int32 × Wd)) : fX5_backwards_46 N o (J P) k N (J 0) (emM o S w) = k (emM o (bwS C P S (cR C)) w) := by
  have hR := cR_le C
  refine lp_cnt (fun n r => fX5_backwards_46 N o (J P) k n (J (r : Int)) (emM o (bwS C P S r) w)) (k (emM o (bwS C P S (cR C)) w)) (cR C) ?_ ?_ N (by omega)
  · intro n r hr
    have hG1 := bwS_G hG P r
    rw [fX5_backwards_46, mg_17, Option.bind_some, jn_0, mr_7 o _ w (by omega), Option.bind_some, show (0 : Int).toNat = 0 from rfl, gm_R hG1, if_neg (by rw [J_le (by omega)]; omega), M_bw58 hG1 hN (by omega) hP]
    rw [mg_19, Option.bind_some, jn_30, J_add, mw_9 o _ w _ (by omega), Option.bind_some]
    simp only [jn_0, jn_1, jn_2, jn_3, jn_4, jn_5, jn_6, jn_8, jn_9, jn_10, jn_11, jn_12, jn_16, jn_20, jn_24, jn_30, jn_31, jn_32, jn_36, jn_48, jn_57, jn_59, jn_60, jn_63, jn_72, jn_73, jn_96, jn_97, jn_100, jn_122, jn_144, jn_200, jn_240, jn_288, jn_512, jn_840, jn_1200, jn_1600, jn_5040, jn_5390, jn_5400, jn_9999, jn_18688, jn_32400, jn_99999, jn_100000, jn_1000000, jn_858993459, jn_1431655765, jn_252645135, jl_0, jl_1, jl_2, jl_3, jl_8, jl_9, jl_10, jl_20, jl_27, jl_47, jl_96, jl_99, jl_100, jl_200, jl_555, jl_2000, jl_10000, jl_12345, jl_65536, jl_99999, jl_131638, jl_240023, jl_298288, jl_383153, jl_1306021, jl_1960084, jl_4147840, jl_8740238, jl_9872299, jl_175252482, jl_291595537, jl_1103515245, jl_2000000000, jl_2147483648, jl_4721686497, jl_7873079139, J_add, J_sub, J_mul, J_neg, JL_add, JL_sub, JL_mul, JL_neg, J_long, JL_int, ↓remI_fold, ↓remL_fold, Int.reduceAdd, Int.reduceSub, Int.reduceMul, Int.reduceNeg, Int.reduceToNat, Option.bind_some, castS]
    rw [show ((30 : Int) + (r : Int)).toNat = 30 + r by omega]
    rfl
  · intro n
    rw [fX5_backwards_46, mg_17, Option.bind_some, jn_0, mr_7 o _ w (by omega), Option.bind_some, show (0 : Int).toNat = 0 from rfl, gm_R (bwS_G hG P (cR C)), if_pos (by rw [J_le (by omega)]; omega)]
end
