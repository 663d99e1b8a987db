/-! the component: how many rows, the loops about it -/
set_option maxRecDepth 100000
def loF (m : Nat) (ch : Nat → Nat) (i : Nat) : Nat := if i < m then ch i else 0
def cnF (m top : Nat) (i : Nat) : Nat := if i < m then 1 else top + 1
def b3A (p : Nat) (A : Nat → Int) : Prop := ∀ j, j < 73 * 2 ^ p → 0 ≤ A j ∧ A j ≤ 1000000000
section
variable {N o : Nat} {S : XS} {w : Wd} {C : Cy}
theorem X_throwsOn {p i s v top m : Nat} (hp : 1 ≤ p ∧ p ≤ 8) (hi : i < p) (hs : s < 2 ^ p) (hv : v < 73) (ht : top ≤ 9) {ch : Nat → Nat} (hch : ∀ i, i < m → ch i ≤ 9 ∧ xa S 19 i = J (ch i)) {A : Nat → Int} (D : Nat → Int) (hN : 1000000 ≤ N) : ∃ D', fX0_throwsOn N (emX o (x2 S A D) w) o (J p) (J top) (J i) (J s) (J v) (J (if i < m then 1 else 0)) = some (emX o (x2 S A D') w) ∧ (∀ g, ph p g D' = ph p g D + A (73 * s + v) * tgs p i (loF m ch i) (cnF m top i) g s v) ∧ (0 ≤ A (73 * s + v) → ∀ j, D j ≤ D' j) := by
  unfold fX0_throwsOn loF cnF tgs
  by_cases hm : i < m
  · have ⟨h9, hx⟩ := hch i hm
    simp only [if_pos hm]
    have ⟨D', e1, e2, e3⟩ := X_to17 (N := N) (o := o) (S := S) (w := w) hp hi hs hv h9 (A := A) (J 1) (J top) (Or.inr ⟨rfl, hx⟩) (fun w16 => some w16) 1 (ch i) D N (by omega) (by omega)
    refine ⟨D', ?_, e2, e3⟩
    rw [if_neg (by decide), xg_16, Option.bind_some, xr_19 o _ w (by omega), Option.bind_some, x2_19, Int.toNat_natCast, hx, e1]
  · simp only [if_neg hm]
    have ⟨D', e1, e2, e3⟩ := X_to17 (N := N) (o := o) (S := S) (w := w) hp hi hs hv ht (A := A) (J 0) (J top) (Or.inl ⟨rfl, rfl⟩) (fun w16 => some w16) (top + 1) 0 D N (by omega) (by omega)
    refine ⟨D', ?_, e2, e3⟩
    rw [if_pos (show J 0 = 0 from rfl)]
    exact e1
theorem X_ww86 {p i s top m : Nat} (hp : 1 ≤ p ∧ p ≤ 8) (hi : i < p) (hs : s < 2 ^ p) (ht : top ≤ 9) (hm : m ≤ 8) {ch : Nat → Nat} (hch : ∀ i, i < m → ch i ≤ 9 ∧ xa S 19 i = J (ch i)) {A : Nat → Int} (hA : b3A p A) (hN : 1000000 ≤ N) (y : Int32) (k : Wd → Option (Int64 × Wd)) : ∀ (d x : Nat) (D : Nat → Int) (n : Nat), x + d = 73 → d < n → ∃ D', fX0_waysWith_86 N o (J p) y (J top) (J m) (J i) (J s) k n (J x) (emX o (x2 S A D) w) = k (emX o (x2 S A D') w) ∧ (∀ g, ph p g D' = ph p g D + sm (fun v => A (73 * s + (x + v)) * tgs p i (loF m ch i) (cnF m top i) g s (x + v)) d) ∧ (∀ j, D j ≤ D' j) := by
  have h256 : 2 ^ p ≤ 256 := by have := Nat.pow_le_pow_right (show 2 > 0 by decide) hp.2; omega
  intro d
  induction d with
  | zero =>
    intro x D n hx hn
    cases n with
    | zero => omega
    | succ n =>
      refine ⟨D, ?_, fun g => by simp [sm], fun j => Int.le_refl _⟩
      rw [fX0_waysWith_86, jn_73, if_pos (by rw [J_le (by omega)]; omega)]
  | succ d ih =>
    intro x D n hx hn
    cases n with
    | zero => omega
    | succ n =>
      have hb := hA (73 * s + x) (by omega)
      have ec : (lg_cmp (JL (A (73 * s + x))) (JL 0) ≤ J 0) = (A (73 * s + x) ≤ 0) := cmp_le0 (by omega)
      have ⟨D1, e1, e2, e3⟩ : ∃ D1, fX0_waysWith_86 N o (J p) y (J top) (J m) (J i) (J s) k (n + 1) (J x) (emX o (x2 S A D) w) = fX0_waysWith_86 N o (J p) y (J top) (J m) (J i) (J s) k n (J ((x + 1 : Nat) : Int)) (emX o (x2 S A D1) w) ∧ (∀ g, ph p g D1 = ph p g D + A (73 * s + x) * tgs p i (loF m ch i) (cnF m top i) g s x) ∧ (∀ j, D j ≤ D1 j) := by
        rw [fX0_waysWith_86, jn_73, if_neg (by rw [J_le (by omega)]; omega), xg_14, Option.bind_some]
        simp only [jn_0, jn_1, jn_2, jn_3, jn_4, jn_5, jn_6, jn_8, jn_9, jn_10, jn_11, jn_12, jn_16, jn_20, jn_24, jn_30, jn_31, jn_32, jn_36, jn_48, jn_57, jn_59, jn_60, jn_63, jn_72, jn_73, jn_96, jn_97, jn_100, jn_122, jn_144, jn_200, jn_240, jn_288, jn_512, jn_840, jn_1200, jn_1600, jn_5040, jn_5390, jn_5400, jn_9999, jn_18688, jn_32400, jn_99999, jn_100000, jn_1000000, jn_858993459, jn_1431655765, jn_252645135, jl_0, jl_1, jl_2, jl_3, jl_8, jl_9, jl_10, jl_20, jl_27, jl_47, jl_96, jl_99, jl_100, jl_200, jl_555, jl_2000, jl_10000, jl_12345, jl_65536, jl_99999, jl_131638, jl_240023, jl_298288, jl_383153, jl_1306021, jl_1960084, jl_4147840, jl_8740238, jl_9872299, jl_175252482, jl_291595537, jl_1103515245, jl_2000000000, jl_2147483648, jl_4721686497, jl_7873079139, J_add, J_sub, J_mul, J_neg, JL_add, JL_sub, JL_mul, JL_neg, J_long, JL_int, ↓remI_fold, ↓remL_fold, Int.reduceAdd, Int.reduceSub, Int.reduceMul, Int.reduceNeg, Int.reduceToNat, castS]
        rw [xr_17 o _ w (by omega), Option.bind_some, x2_17, show ((73 : Int) * (s : Int) + (x : Int)).toNat = 73 * s + x by omega]
        by_cases h0 : A (73 * s + x) ≤ 0
        · refine ⟨D, ?_, fun g => by rw [show A (73 * s + x) = 0 by omega]; simp, fun j => Int.le_refl _⟩
          simp only [ec, if_pos h0, Option.bind_some]
        · have ⟨D1, t1, t2, t3⟩ := X_throwsOn (N := N) (o := o) (S := S) (w := w) hp hi hs (show x < 73 by omega) ht hch (A := A) D hN
          refine ⟨D1, ?_, t2, t3 hb.1⟩
          simp only [ec, if_neg h0]
          by_cases him : i < m
          · rw [if_pos him] at t1
            rw [if_neg (by rw [J_le (by omega)]; omega), t1]
            rfl
          · rw [if_neg him] at t1
            rw [if_pos (by rw [J_le (by omega)]; omega), t1]
            rfl
      have ⟨D', i1, i2, i3⟩ := ih (x + 1) D1 n (by omega) (by omega)
      refine ⟨D', e1.trans i1, fun g => ?_, fun j => Int.le_trans (e3 j) (i3 j)⟩
      rw [i2 g, e2 g, sm_front]
      simp only [Nat.add_zero]
      rw [show (fun v => A (73 * s + (x + 1 + v)) * tgs p i (loF m ch i) (cnF m top i) g s (x + 1 + v)) = (fun v => A (73 * s + (x + (v + 1))) * tgs p i (loF m ch i) (cnF m top i) g s (x + (v + 1))) from funext fun v => by rw [show x + 1 + v = x + (v + 1) by omega]]
      omega
theorem X_ww75 {p i top m : Nat} (hp : 1 ≤ p ∧ p ≤ 8) (hi : i < p) (ht : top ≤ 9) (hm : m ≤ 8) {ch : Nat → Nat} (hch : ∀ i, i < m → ch i ≤ 9 ∧ xa S 19 i = J (ch i)) {A : Nat → Int} (hA : b3A p A) (hN : 1000000 ≤ N) (y : Int32) (k : Wd → Option (Int64 × Wd)) : ∀ (d x : Nat) (D : Nat → Int) (n : Nat), x + d = 2 ^ p → d < n → ∃ D', fX0_waysWith_75 N o (J p) y (J top) (J m) (J i) k n (J x) (emX o (x2 S A D) w) = k (emX o (x2 S A D') w) ∧ (∀ g, ph p g D' = ph p g D + sm (fun s => sm (fun v => A (73 * (x + s) + v) * tgs p i (loF m ch i) (cnF m top i) g (x + s) v) 73) d) ∧ (∀ j, D j ≤ D' j) := by
  have h256 : 2 ^ p ≤ 256 := by have := Nat.pow_le_pow_right (show 2 > 0 by decide) hp.2; omega
  have r2 : (1 : Int32) <<< (J (p : Int) &&& 31) = J ((2 ^ p : Nat) : Int) := by
    have := J_shlz (k := (p : Int)) (by omega)
    rw [Int.toNat_natCast, Nat.shiftLeft_eq, Nat.one_mul] at this
    exact this
  intro d
  induction d with
  | zero =>
    intro x D n hx hn
    cases n with
    | zero => omega
    | succ n =>
      refine ⟨D, ?_, fun g => by simp [sm], fun j => Int.le_refl _⟩
      rw [fX0_waysWith_75, r2, if_pos (by rw [J_le (by omega)]; omega)]
  | succ d ih =>
    intro x D n hx hn
    cases n with
    | zero => omega
    | succ n =>
      have ⟨D1, e1, e2, e3⟩ := X_ww86 (N := N) (o := o) (S := S) (w := w) hp hi (show x < 2 ^ p by omega) ht hm hch hA hN y (fun w22 => fX0_waysWith_75 N o (J p) y (J top) (J m) (J i) k n (J ((x + 1 : Nat) : Int)) w22) 73 0 D N (by omega) (by omega)
      have ⟨D', i1, i2, i3⟩ := ih (x + 1) D1 n (by omega) (by omega)
      refine ⟨D', ?_, fun g => ?_, fun j => Int.le_trans (e3 j) (i3 j)⟩
      · rw [fX0_waysWith_75, r2, if_neg (by rw [J_le (by omega)]; omega)]
        simp only [jn_0, jn_1, jn_2, jn_3, jn_4, jn_5, jn_6, jn_8, jn_9, jn_10, jn_11, jn_12, jn_16, jn_20, jn_24, jn_30, jn_31, jn_32, jn_36, jn_48, jn_57, jn_59, jn_60, jn_63, jn_72, jn_73, jn_96, jn_97, jn_100, jn_122, jn_144, jn_200, jn_240, jn_288, jn_512, jn_840, jn_1200, jn_1600, jn_5040, jn_5390, jn_5400, jn_9999, jn_18688, jn_32400, jn_99999, jn_100000, jn_1000000, jn_858993459, jn_1431655765, jn_252645135, jl_0, jl_1, jl_2, jl_3, jl_8, jl_9, jl_10, jl_20, jl_27, jl_47, jl_96, jl_99, jl_100, jl_200, jl_555, jl_2000, jl_10000, jl_12345, jl_65536, jl_99999, jl_131638, jl_240023, jl_298288, jl_383153, jl_1306021, jl_1960084, jl_4147840, jl_8740238, jl_9872299, jl_175252482, jl_291595537, jl_1103515245, jl_2000000000, jl_2147483648, jl_4721686497, jl_7873079139, J_add, J_sub, J_mul, J_neg, JL_add, JL_sub, JL_mul, JL_neg, J_long, JL_int, ↓remI_fold, ↓remL_fold, Int.reduceAdd, Int.reduceSub, Int.reduceMul, Int.reduceNeg, Int.reduceToNat, Option.bind_some, castS]
        exact e1.trans i1
      · rw [i2 g, e2 g, sm_front _ d]
        simp only [Nat.add_zero, Nat.zero_add]
        rw [show (fun s => sm (fun v => A (73 * (x + 1 + s) + v) * tgs p i (loF m ch i) (cnF m top i) g (x + 1 + s) v) 73) = (fun s => sm (fun v => A (73 * (x + (s + 1)) + v) * tgs p i (loF m ch i) (cnF m top i) g (x + (s + 1)) v) 73) from funext fun s => by rw [show x + 1 + s = x + (s + 1) by omega]]
        omega
end
