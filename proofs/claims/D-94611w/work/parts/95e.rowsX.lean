/-! the component: how many rows -/
set_option maxRecDepth 100000
theorem sm_apnd (f : Nat → Int) (a b : Nat) : sm f (a + b) = sm f a + sm (fun i => f (a + i)) b := by
  induction b with
  | zero => simp [sm]
  | succ b ih => rw [← Nat.add_assoc]; simp only [sm]; rw [ih]; omega
theorem sm_front (f : Nat → Int) (d : Nat) : sm f (d + 1) = f 0 + sm (fun i => f (i + 1)) d := by
  rw [Nat.add_comm d 1, sm_apnd]
  have : sm f 1 = f 0 := by simp [sm]
  rw [this]
  congr 2
  funext i
  rw [Nat.add_comm]
theorem sm_updg (D g : Nat → Int) (v : Int) {m n : Nat} (h : m < n) : sm (fun j => (if j = m then v else D j) * g j) n = sm (fun j => D j * g j) n + (v - D m) * g m := by
  induction n with
  | zero => omega
  | succ n ih =>
    simp only [sm]
    by_cases hm : m = n
    · subst hm
      have e : sm (fun j => (if j = m then v else D j) * g j) m = sm (fun j => D j * g j) m := sm_congr (fun j hj => by rw [if_neg (by omega)])
      rw [e, if_pos rfl, Int.sub_mul]; omega
    · rw [ih (by omega), if_neg (fun e => hm e.symm)]; omega
theorem sm_blk (f : Nat → Int) (m : Nat) : sm (fun s => sm (fun v => f (73 * s + v)) 73) m = sm f (73 * m) := by
  induction m with
  | zero => rfl
  | succ m ih => rw [show 73 * (m + 1) = 73 * m + 73 by omega, sm_apnd f (73 * m) 73, ← ih]; rfl
/-- what a table weighs -/
def ph (p : Nat) (g D : Nat → Int) : Int := sm (fun j => D j * g j) (73 * 2 ^ p)
def tg (p i s v : Nat) (g : Nat → Int) (h : Nat) : Int := if frS p i s h = true ∧ v + h < 73 then g (73 * nxR p i s h + (v + h)) else 0
def tgs (p i lo cn : Nat) (g : Nat → Int) (s v : Nat) : Int := sm (fun y => tg p i s v g (lo + y)) cn
def x2 (S : XS) (A D : Nat → Int) : XS := xSQ (xSQ S 17 (fun j => JL (A j))) 18 (fun j => JL (D j))
theorem x2_17 (S : XS) (A D : Nat → Int) (j : Nat) : xb (x2 S A D) 17 j = JL (A j) := rfl
theorem x2_18 (S : XS) (A D : Nat → Int) (j : Nat) : xb (x2 S A D) 18 j = JL (D j) := rfl
theorem x2_19 (S : XS) (A D : Nat → Int) : xa (x2 S A D) 19 = xa S 19 := rfl
theorem x2_w (S : XS) (A D : Nat → Int) (i : Nat) (v : Int) : xSB (x2 S A D) 18 i (JL v) = x2 S A (fun j => if j = i then v else D j) := by
  unfold x2; rw [xSB_Q, vpL_J]
section
variable {N o : Nat} {S : XS} {w : Wd} {C : Cy}
theorem X_hasb {s b : Nat} (hs : s < 256) (hb : b < 8) (W : Wd) : fX0_has N W (J s) (J b) = some (J (if s.testBit b = true then 1 else 0)) := by
  have r3 : (J (s : Int) >>> (J (b : Int) &&& J 31) &&& J 1 = J 1) = (s.testBit b = true) := by
    rw [J_shr s _ (by omega) (by omega), J_and1 (Int.natCast_nonneg _), J_eq (by omega)]
    exact propext ⟨fun e => (shr1_bit _ _).1 (by omega), fun e => by have := (shr1_bit _ _).2 e; omega⟩
  unfold fX0_has
  simp only [jn_0, jn_1, jn_2, jn_3, jn_4, jn_5, jn_6, jn_8, jn_9, jn_10, jn_11, jn_12, jn_16, jn_20, jn_24, jn_30, jn_31, jn_32, jn_36, jn_48, jn_57, jn_59, jn_60, jn_63, jn_72, jn_73, jn_96, jn_97, jn_100, jn_122, jn_144, jn_200, jn_240, jn_288, jn_512, jn_840, jn_1200, jn_1600, jn_5040, jn_5390, jn_5400, jn_9999, jn_18688, jn_32400, jn_99999, jn_100000, jn_1000000, jn_858993459, jn_1431655765, jn_252645135, jl_0, jl_1, jl_2, jl_3, jl_8, jl_9, jl_10, jl_20, jl_27, jl_47, jl_96, jl_99, jl_100, jl_200, jl_555, jl_2000, jl_10000, jl_12345, jl_65536, jl_99999, jl_131638, jl_240023, jl_298288, jl_383153, jl_1306021, jl_1960084, jl_4147840, jl_8740238, jl_9872299, jl_175252482, jl_291595537, jl_1103515245, jl_2000000000, jl_2147483648, jl_4721686497, jl_7873079139, J_add, J_sub, J_mul, J_neg, JL_add, JL_sub, JL_mul, JL_neg, J_long, JL_int, ↓remI_fold, ↓remL_fold, Int.reduceAdd, Int.reduceSub, Int.reduceMul, Int.reduceNeg, Int.reduceToNat, r3]
  by_cases h : s.testBit b = true
  · rw [if_pos h, if_pos h]
  · rw [if_neg h, if_neg h]
theorem X_to17 {p i s v e : Nat} (hp : 1 ≤ p ∧ p ≤ 8) (hi : i < p) (hs : s < 2 ^ p) (hv : v < 73) (he : e ≤ 9) {A : Nat → Int} (f t : Int32) (hf : (f = J 0 ∧ t = J e) ∨ (f = J 1 ∧ xa S 19 i = J e)) (k : Wd → Option Wd) : ∀ (d x : Nat) (D : Nat → Int) (n : Nat), x + d = e + 1 → d < n → ∃ D', fX0_throwsOn_17 N o (J p) t (J i) (J s) (J v) f k n (J x) (emX o (x2 S A D) w) = k (emX o (x2 S A D') w) ∧ (∀ g, ph p g D' = ph p g D + A (73 * s + v) * sm (fun y => tg p i s v g (x + y)) d) ∧ (0 ≤ A (73 * s + v) → ∀ j, D j ≤ D' j) := by
  have h256 : 2 ^ p ≤ 256 := by have := Nat.pow_le_pow_right (show 2 > 0 by decide) hp.2; omega
  intro d
  induction d with
  | zero =>
    intro x D n hx hn
    cases n with
    | zero => omega
    | succ n =>
      refine ⟨D, ?_, fun g => by simp [sm], fun _ j => Int.le_refl _⟩
      rw [fX0_throwsOn_17]
      rcases hf with ⟨h1, h2⟩ | ⟨h1, h2⟩
      · rw [if_pos (show f = 0 from h1)]
        unfold fX0_throwsOn_34
        rw [h2, if_pos (by rw [J_lt (by omega)]; omega)]
      · rw [if_neg (show ¬ f = 0 by rw [h1]; decide), xg_16, Option.bind_some, xr_19 o _ w (by omega), Option.bind_some, x2_19, Int.toNat_natCast, h2]
        unfold fX0_throwsOn_34
        rw [if_pos (by rw [J_lt (by omega)]; omega)]
  | succ d ih =>
    intro x D n hx hn
    cases n with
    | zero => omega
    | succ n =>
      have hm := Nat.mod_lt (i + x) (show p > 0 by omega)
      have em : ((i : Int) + (x : Int)) % (p : Int) = (((i + x) % p : Nat) : Int) := by rw [Int.natCast_emod, Int.natCast_add]
      have r1 : remI (J ((i : Int) + (x : Int))) (J (p : Int)) = J (((i + x) % p : Nat) : Int) := by rw [J_rem (by omega), em]
      have r2 : J 1 <<< (J (((i + x) % p : Nat) : Int) &&& J 31) = J ((1 <<< ((i + x) % p) : Nat) : Int) := by rw [J_shlz (by omega), Int.toNat_natCast]
      have hlt := or_lt8 hs hm
      have hp0 : (J (p : Int) = J 0) = False := by rw [J_eq (by omega)]; exact eq_false (by omega)
      -- the step, whatever the bound
      have step : ∃ D1, (∀ s0 : Int32, s0 = J e → fX0_throwsOn_34 N (emX o (x2 S A D) w) o (J p) t (J i) (J s) (J v) f (J x) (J x) s0 (fX0_throwsOn_17 N o (J p) t (J i) (J s) (J v) f k n) k = fX0_throwsOn_17 N o (J p) t (J i) (J s) (J v) f k n (J ((x + 1 : Nat) : Int)) (emX o (x2 S A D1) w)) ∧ (∀ g, ph p g D1 = ph p g D + A (73 * s + v) * tg p i s v g x) ∧ (0 ≤ A (73 * s + v) → ∀ j, D j ≤ D1 j) := by
        by_cases hb : s.testBit ((i + x) % p) = true
        · refine ⟨D, ?_, fun g => ?_, fun _ j => Int.le_refl _⟩
          · intro s0 hs0
            unfold fX0_throwsOn_34
            rw [hs0, if_neg (by rw [J_lt (by omega)]; omega)]
            simp only [jn_0, jn_1, jn_2, jn_3, jn_4, jn_5, jn_6, jn_8, jn_9, jn_10, jn_11, jn_12, jn_16, jn_20, jn_24, jn_30, jn_31, jn_32, jn_36, jn_48, jn_57, jn_59, jn_60, jn_63, jn_72, jn_73, jn_96, jn_97, jn_100, jn_122, jn_144, jn_200, jn_240, jn_288, jn_512, jn_840, jn_1200, jn_1600, jn_5040, jn_5390, jn_5400, jn_9999, jn_18688, jn_32400, jn_99999, jn_100000, jn_1000000, jn_858993459, jn_1431655765, jn_252645135, jl_0, jl_1, jl_2, jl_3, jl_8, jl_9, jl_10, jl_20, jl_27, jl_47, jl_96, jl_99, jl_100, jl_200, jl_555, jl_2000, jl_10000, jl_12345, jl_65536, jl_99999, jl_131638, jl_240023, jl_298288, jl_383153, jl_1306021, jl_1960084, jl_4147840, jl_8740238, jl_9872299, jl_175252482, jl_291595537, jl_1103515245, jl_2000000000, jl_2147483648, jl_4721686497, jl_7873079139, J_add, J_sub, J_mul, J_neg, JL_add, JL_sub, JL_mul, JL_neg, J_long, JL_int, ↓remI_fold, ↓remL_fold, Int.reduceAdd, Int.reduceSub, Int.reduceMul, Int.reduceNeg, Int.reduceToNat, hp0, if_false, r1, Option.bind_some, X_hasb (show s < 256 by omega) (show (i + x) % p < 8 by omega), castS]
            rw [if_pos hb, if_neg (by decide)]
          · unfold tg frS
            rw [hb, if_neg (by simp), Int.mul_zero, Int.add_zero]
        · have hfr : frS p i s x = true := by unfold frS; simpa using hb
          by_cases h73 : v + x < 73
          · refine ⟨fun j => if j = 73 * nxR p i s x + (v + x) then D (73 * nxR p i s x + (v + x)) + A (73 * s + v) else D j, ?_, fun g => ?_, fun h0 j => ?_⟩
            · intro s0 hs0
              unfold fX0_throwsOn_34
              rw [hs0, if_neg (by rw [J_lt (by omega)]; omega)]
              simp only [jn_0, jn_1, jn_2, jn_3, jn_4, jn_5, jn_6, jn_8, jn_9, jn_10, jn_11, jn_12, jn_16, jn_20, jn_24, jn_30, jn_31, jn_32, jn_36, jn_48, jn_57, jn_59, jn_60, jn_63, jn_72, jn_73, jn_96, jn_97, jn_100, jn_122, jn_144, jn_200, jn_240, jn_288, jn_512, jn_840, jn_1200, jn_1600, jn_5040, jn_5390, jn_5400, jn_9999, jn_18688, jn_32400, jn_99999, jn_100000, jn_1000000, jn_858993459, jn_1431655765, jn_252645135, jl_0, jl_1, jl_2, jl_3, jl_8, jl_9, jl_10, jl_20, jl_27, jl_47, jl_96, jl_99, jl_100, jl_200, jl_555, jl_2000, jl_10000, jl_12345, jl_65536, jl_99999, jl_131638, jl_240023, jl_298288, jl_383153, jl_1306021, jl_1960084, jl_4147840, jl_8740238, jl_9872299, jl_175252482, jl_291595537, jl_1103515245, jl_2000000000, jl_2147483648, jl_4721686497, jl_7873079139, J_add, J_sub, J_mul, J_neg, JL_add, JL_sub, JL_mul, JL_neg, J_long, JL_int, ↓remI_fold, ↓remL_fold, Int.reduceAdd, Int.reduceSub, Int.reduceMul, Int.reduceNeg, Int.reduceToNat, hp0, if_false, r1, r2, Option.bind_some, X_hasb (show s < 256 by omega) (show (i + x) % p < 8 by omega), castS, J_or, xg_14, xg_15]
              rw [if_neg hb, if_pos rfl, if_neg (by rw [J_le (by omega)]; omega), xr_18 o _ w (by omega), Option.bind_some, xr_17 o _ w (by omega), Option.bind_some, xw_18 o _ w _ (by omega), Option.bind_some, x2_17, x2_18, JL_add, x2_w]
              rw [show ((73 : Int) * ((s ||| 1 <<< ((i + x) % p) : Nat) : Int) + (v : Int) + (x : Int)).toNat = 73 * nxR p i s x + (v + x) by unfold nxR; omega, show ((73 : Int) * (s : Int) + (v : Int)).toNat = 73 * s + v by omega]
            · unfold ph
              have hj : 73 * nxR p i s x + (v + x) < 73 * 2 ^ p := by have : nxR p i s x < 2 ^ p := hlt; omega
              rw [sm_updg D g _ hj]
              unfold tg
              rw [if_pos ⟨hfr, h73⟩]
              congr 2
              omega
            · simp only
              split
              · next e => rw [e]; omega
              · exact Int.le_refl _
          · refine ⟨D, ?_, fun g => ?_, fun _ j => Int.le_refl _⟩
            · intro s0 hs0
              unfold fX0_throwsOn_34
              rw [hs0, if_neg (by rw [J_lt (by omega)]; omega)]
              simp only [jn_0, jn_1, jn_2, jn_3, jn_4, jn_5, jn_6, jn_8, jn_9, jn_10, jn_11, jn_12, jn_16, jn_20, jn_24, jn_30, jn_31, jn_32, jn_36, jn_48, jn_57, jn_59, jn_60, jn_63, jn_72, jn_73, jn_96, jn_97, jn_100, jn_122, jn_144, jn_200, jn_240, jn_288, jn_512, jn_840, jn_1200, jn_1600, jn_5040, jn_5390, jn_5400, jn_9999, jn_18688, jn_32400, jn_99999, jn_100000, jn_1000000, jn_858993459, jn_1431655765, jn_252645135, jl_0, jl_1, jl_2, jl_3, jl_8, jl_9, jl_10, jl_20, jl_27, jl_47, jl_96, jl_99, jl_100, jl_200, jl_555, jl_2000, jl_10000, jl_12345, jl_65536, jl_99999, jl_131638, jl_240023, jl_298288, jl_383153, jl_1306021, jl_1960084, jl_4147840, jl_8740238, jl_9872299, jl_175252482, jl_291595537, jl_1103515245, jl_2000000000, jl_2147483648, jl_4721686497, jl_7873079139, J_add, J_sub, J_mul, J_neg, JL_add, JL_sub, JL_mul, JL_neg, J_long, JL_int, ↓remI_fold, ↓remL_fold, Int.reduceAdd, Int.reduceSub, Int.reduceMul, Int.reduceNeg, Int.reduceToNat, hp0, if_false, r1, r2, Option.bind_some, X_hasb (show s < 256 by omega) (show (i + x) % p < 8 by omega), castS, J_or, xg_14, xg_15]
              rw [if_neg hb, if_pos rfl, if_pos (by rw [J_le (by omega)]; omega)]
            · unfold tg
              rw [if_neg (fun h => h73 h.2), Int.mul_zero, Int.add_zero]
      have ⟨D1, e1, e2, e3⟩ := step
      have ⟨D', i1, i2, i3⟩ := ih (x + 1) D1 n (by omega) (by omega)
      refine ⟨D', ?_, fun g => ?_, fun h0 j => Int.le_trans (e3 h0 j) (i3 h0 j)⟩
      · rw [fX0_throwsOn_17]
        rcases hf with ⟨h1, h2⟩ | ⟨h1, h2⟩
        · rw [if_pos (show f = 0 from h1), e1 t h2, i1]
        · rw [if_neg (show ¬ f = 0 by rw [h1]; decide), xg_16, Option.bind_some, xr_19 o _ w (by omega), Option.bind_some, x2_19, Int.toNat_natCast, e1 _ h2, i1]
      · rw [i2 g, e2 g, sm_front, Int.mul_add]
        simp only [Nat.add_zero]
        rw [show (fun y => tg p i s v g (x + 1 + y)) = (fun y => tg p i s v g (x + (y + 1))) from funext fun y => by rw [Nat.add_assoc, Nat.add_comm 1 y]]
        omega
end
