/-! the component: how many rows, the whole -/
set_option maxRecDepth 100000
theorem cg_neg (p : Nat) (lo cn : Nat → Nat) : ∀ (k s : Nat) (l : Int), l < 0 → cg p lo cn k s l = 0 := by
  intro k s l hl
  cases k with
  | zero => simp only [cg]; rw [if_neg (by omega)]
  | succ k =>
    simp only [cg]
    refine Eq.trans (sm_congr (g := fun _ => 0) ?_) (sm_zero _)
    intro y _
    rw [if_neg (by omega)]
def Gk (p : Nat) (lo cn : Nat → Nat) (B : Int) (k j : Nat) : Int := cg p lo cn k (j / 73) (B - ((j % 73 : Nat) : Int))
theorem tgs_cg {p : Nat} (lo cn : Nat → Nat) {B : Int} (hB : B ≤ 72) {k i : Nat} (hi : i = p - (k + 1)) {s v : Nat} (hv : v < 73) : tgs p i (lo i) (cn i) (Gk p lo cn B k) s v = cg p lo cn (k + 1) s (B - v) := by
  subst hi
  simp only [cg]
  unfold tgs
  refine sm_congr (fun y _ => ?_)
  unfold tg Gk
  by_cases hf : frS p (p - (k + 1)) s (lo (p - (k + 1)) + y) = true
  · by_cases h1 : v + (lo (p - (k + 1)) + y) < 73
    · rw [if_pos ⟨hf, h1⟩, show (73 * nxR p (p - (k + 1)) s (lo (p - (k + 1)) + y) + (v + (lo (p - (k + 1)) + y))) / 73 = nxR p (p - (k + 1)) s (lo (p - (k + 1)) + y) by omega, show (73 * nxR p (p - (k + 1)) s (lo (p - (k + 1)) + y) + (v + (lo (p - (k + 1)) + y))) % 73 = v + (lo (p - (k + 1)) + y) by omega]
      by_cases h2 : ((lo (p - (k + 1)) + y : Nat) : Int) ≤ B - v
      · rw [if_pos ⟨hf, h2⟩, show B - ((v + (lo (p - (k + 1)) + y) : Nat) : Int) = B - v - ((lo (p - (k + 1)) + y : Nat) : Int) by omega]
      · rw [if_neg (fun h => h2 h.2), cg_neg _ _ _ _ _ _ (by omega)]
    · rw [if_neg (fun h => h1 h.2), if_neg (fun h => by omega)]
  · rw [if_neg (fun h => hf h.1), if_neg (fun h => hf h.1)]
theorem ph_blk (p : Nat) (g D : Nat → Int) : ph p g D = sm (fun s => sm (fun v => D (73 * s + v) * g (73 * s + v)) 73) (2 ^ p) := by
  unfold ph; exact (sm_blk (fun j => D j * g j) (2 ^ p)).symm
theorem ph_step {p : Nat} (lo cn : Nat → Nat) {B : Int} (hB : B ≤ 72) {k i : Nat} (hi : i = p - (k + 1)) (A : Nat → Int) : sm (fun s => sm (fun v => A (73 * s + v) * tgs p i (lo i) (cn i) (Gk p lo cn B k) s v) 73) (2 ^ p) = ph p (Gk p lo cn B (k + 1)) A := by
  rw [ph_blk]
  refine sm_congr (fun s _ => sm_congr (fun v hv => ?_))
  rw [tgs_cg lo cn hB hi hv]
  unfold Gk
  rw [show (73 * s + v) / 73 = s by omega, show (73 * s + v) % 73 = v by omega]
theorem tgs_bd (p i lo cn s v : Nat) (hc : cn ≤ 10) : 0 ≤ tgs p i lo cn (fun _ => 1) s v ∧ tgs p i lo cn (fun _ => 1) s v ≤ 10 := by
  have h := sm_bd (fun y => tg p i s v (fun _ => 1) (lo + y)) cn 0 1 (fun y _ => by unfold tg; simp only; split <;> omega)
  unfold tgs
  omega
theorem ph_ten {p i lo cn : Nat} (hc : cn ≤ 10) {A : Nat → Int} (hA : ∀ j, j < 73 * 2 ^ p → 0 ≤ A j) : sm (fun s => sm (fun v => A (73 * s + v) * tgs p i lo cn (fun _ => 1) s v) 73) (2 ^ p) ≤ 10 * ph p (fun _ => 1) A := by
  have h10 : 10 * ph p (fun _ => 1) A = ph p (fun _ => 10) A := by
    have hk : ∀ n, 10 * sm (fun j => A j * 1) n = sm (fun j => A j * 10) n := by
      intro n
      induction n with
      | zero => rfl
      | succ n ih => simp only [sm]; rw [Int.mul_add, ih]; omega
    exact hk _
  rw [h10, ph_blk]
  refine sm_le _ _ _ (fun s hs => sm_le _ _ _ (fun v hv => ?_))
  exact Int.mul_le_mul_of_nonneg_left (tgs_bd p i lo cn s v hc).2 (hA _ (by omega))
theorem ph_one {p j : Nat} {A : Nat → Int} (hA : ∀ j, j < 73 * 2 ^ p → 0 ≤ A j) (hj : j < 73 * 2 ^ p) : A j ≤ ph p (fun _ => 1) A := by
  have := sm_ge (fun j => A j * 1) (73 * 2 ^ p) j (fun j hj => by have := hA j hj; omega) hj
  simp only [Int.mul_one] at this
  unfold ph
  simp only [Int.mul_one]
  exact this
theorem ph_0 (p : Nat) (g D : Nat → Int) (h : ∀ j, j < 73 * 2 ^ p → D j = 0) : ph p g D = 0 := by
  unfold ph
  exact Eq.trans (sm_congr (g := fun _ => 0) (fun j hj => by rw [h j hj, Int.zero_mul])) (sm_zero _)
theorem ph_pick (p : Nat) (g A : Nat → Int) (m : Nat) (hm : m < 73 * 2 ^ p) (c : Int) (hc : A m * g m = c) (h : ∀ j, j < 73 * 2 ^ p → j ≠ m → A j * g j = 0) : ph p g A = c := by
  unfold ph
  revert hm h
  generalize 73 * 2 ^ p = n
  induction n with
  | zero => intro hm; omega
  | succ n ih =>
    intro hm h
    simp only [sm]
    by_cases hmn : m = n
    · rw [← hmn, hc]
      have : sm (fun j => A j * g j) m = 0 := Eq.trans (sm_congr (g := fun _ => 0) (fun j hj => h j (by omega) (by omega))) (sm_zero _)
      omega
    · rw [ih (by omega) (fun j h1 h2 => h j (by omega) h2), h n (by omega) (fun e => hmn e.symm)]; omega
section
variable {N o : Nat} {S : XS} {w : Wd} {C : Cy}
theorem cpL_full {w : Wd} {a0 a : Nat} {f g : Nat → Int64} (h0 : w a0 = some (.inl (1, 18688, .inr (.inl f)))) (h1 : w a = some (.inl (1, 18688, .inr (.inl g)))) : cpL w a0 (J 0) a (J 0) (J 18688) = some (wup w a (.inl (1, 18688, .inr (.inl (fun j => if j < 18688 then f j else g j))))) := by
  unfold cpL
  rw [h0, h1]
  simp only
  have e0 : (J 0).toNatClampNeg = 0 := J_nn (by omega)
  have e8 : (J 18688).toNatClampNeg = 18688 := J_nn (by omega)
  rw [e0, e8, jn_0]
  have c0 : ¬ J 0 < J 0 := by rw [J_lt (by omega)]; omega
  have c8 : ¬ J 18688 < J 0 := by rw [J_lt (by omega)]; omega
  rw [if_pos ⟨trivial, trivial, c0, c0, c8, by omega, by omega⟩]
  congr 7
  funext k
  unfold va_cpy
  by_cases h : k < 18688
  · rw [if_pos (by omega), if_pos h, Nat.zero_add, Nat.sub_zero]
  · rw [if_neg (by omega), if_neg h]
theorem x2_cp (A D : Nat → Int) : wup (emX o (x2 S A D) w) (o + 17) (.inl (1, 18688, .inr (.inl (fun j => if j < 18688 then xb (x2 S A D) 18 j else xb (x2 S A D) 17 j)))) = emX o (x2 S (fun j => if j < 18688 then D j else A j) D) w := by
  have e := emX_up (o := o) (S := x2 S A D) (w := w) (S' := xSQ (x2 S A D) 17 (fun j => if j < 18688 then xb (x2 S A D) 18 j else xb (x2 S A D) 17 j)) (d := 17) (by decide) rfl (fun d hd => xCell_Q o _ 17 _ d hd)
  rw [show x2 S (fun j => if j < 18688 then D j else A j) D = xSQ (x2 S A D) 17 (fun j => if j < 18688 then xb (x2 S A D) 18 j else xb (x2 S A D) 17 j) from ?_]
  · exact e
  · unfold x2 xSQ xb
    refine Prod.ext rfl (Prod.ext rfl (Prod.ext rfl (funext fun j => ?_)))
    simp only
    by_cases h1 : j = 18
    · simp [h1]
    · by_cases h2 : j = 17
      · simp only [h2]
        simp
        funext q
        by_cases hq : q < 18688 <;> simp [hq]
      · simp [h1, h2]
theorem X_ww48 (A : Nat → Int) (x1 x2' x3 x4 x5 : Int32) (k : Wd → Option (Int64 × Wd)) (D : Nat → Int) (hN : 1000000 ≤ N) : fX0_waysWith_48 N o x1 x2' x3 x4 x5 k N (J 0) (emX o (x2 S A D) w) = k (emX o (x2 S A (fun j => if j < 18688 then 0 else D j)) w) := by
  have key := lp_cnt (fun n i => fX0_waysWith_48 N o x1 x2' x3 x4 x5 k n (J (i : Int)) (emX o (x2 S A (fun j => if j < i then 0 else D j)) w)) (k (emX o (x2 S A (fun j => if j < 18688 then 0 else D j)) w)) 18688 ?_ ?_ N (by omega)
  · rw [show (fun j => if j < 0 then 0 else D j) = D from funext fun j => by rw [if_neg (by omega)]] at key
    exact key
  · intro n i hi
    rw [fX0_waysWith_48, xg_15, Option.bind_some, xn_18, Option.bind_some, if_neg (by rw [J_le (by omega)]; omega), Option.bind_some, jl_0, xw_18 o _ w _ (by omega), Option.bind_some, x2_w, Int.toNat_natCast]
    simp only [jn_0, jn_1, jn_2, jn_3, jn_4, jn_5, jn_6, jn_8, jn_9, jn_10, jn_11, jn_12, jn_16, jn_20, jn_24, jn_30, jn_31, jn_32, jn_36, jn_48, jn_57, jn_59, jn_60, jn_63, jn_72, jn_73, jn_96, jn_97, jn_100, jn_122, jn_144, jn_200, jn_240, jn_288, jn_512, jn_840, jn_1200, jn_1600, jn_5040, jn_5390, jn_5400, jn_9999, jn_18688, jn_32400, jn_99999, jn_100000, jn_1000000, jn_858993459, jn_1431655765, jn_252645135, jl_0, jl_1, jl_2, jl_3, jl_8, jl_9, jl_10, jl_20, jl_27, jl_47, jl_96, jl_99, jl_100, jl_200, jl_555, jl_2000, jl_10000, jl_12345, jl_65536, jl_99999, jl_131638, jl_240023, jl_298288, jl_383153, jl_1306021, jl_1960084, jl_4147840, jl_8740238, jl_9872299, jl_175252482, jl_291595537, jl_1103515245, jl_2000000000, jl_2147483648, jl_4721686497, jl_7873079139, J_add, J_sub, J_mul, J_neg, JL_add, JL_sub, JL_mul, JL_neg, J_long, JL_int, ↓remI_fold, ↓remL_fold, Int.reduceAdd, Int.reduceSub, Int.reduceMul, Int.reduceNeg, Int.reduceToNat, Option.bind_some, castS]
    rw [show (fun j => if j = i then 0 else if j < i then 0 else D j) = (fun j => if j < i + 1 then 0 else D j) from funext fun j => by
      by_cases h1 : j = i
      · rw [if_pos h1, if_pos (by omega)]
      · rw [if_neg h1]
        by_cases h2 : j < i
        · rw [if_pos h2, if_pos (by omega)]
        · rw [if_neg h2, if_neg (by omega)]]
  · intro n
    rw [fX0_waysWith_48, xg_15, Option.bind_some, xn_18, Option.bind_some, if_pos (by rw [J_le (by omega)]; omega)]
theorem X_ww39 {p b top m : Nat} (hp : 1 ≤ p ∧ p ≤ 8) (ht : top ≤ 9) (hm : m ≤ 8) {ch : Nat → Nat} (hch : ∀ i, i < m → ch i ≤ 9 ∧ xa S 19 i = J (ch i)) {B : Int} (hB : B ≤ 72) (hN : 1000000 ≤ N) (k : Wd → Option (Int64 × Wd)) : ∀ (d x : Nat) (A D : Nat → Int) (n : Nat), x + d = p → d < n → (∀ j, j < 73 * 2 ^ p → 0 ≤ A j) → ph p (fun _ => 1) A ≤ 10 ^ x → ∃ A' D', fX0_waysWith_39 N o (J p) (J b) (J top) (J m) k n (J x) (emX o (x2 S A D) w) = k (emX o (x2 S A' D') w) ∧ ph p (Gk p (loF m ch) (cnF m top) B 0) A' = ph p (Gk p (loF m ch) (cnF m top) B d) A := by
  have h256 : 2 ^ p ≤ 256 := by have := Nat.pow_le_pow_right (show 2 > 0 by decide) hp.2; omega
  intro d
  induction d with
  | zero =>
    intro x A D n hx hn _ _
    cases n with
    | zero => omega
    | succ n =>
      refine ⟨A, D, ?_, rfl⟩
      rw [fX0_waysWith_39, if_pos (by rw [J_le (by omega)]; omega)]
  | succ d ih =>
    intro x A D n hx hn hA hT
    cases n with
    | zero => omega
    | succ n =>
      have h10 : (10 : Int) ^ x ≤ 100000000 := by
        have h1 : (10 : Nat) ^ x ≤ 10 ^ 8 := Nat.pow_le_pow_right (by decide) (by omega)
        have h2 : ((10 ^ x : Nat) : Int) ≤ ((10 ^ 8 : Nat) : Int) := by exact_mod_cast h1
        rw [Int.natCast_pow] at h2
        exact h2
      have hb3 : b3A p A := fun j hj => ⟨hA j hj, by have := ph_one hA hj; omega⟩
      have ⟨D1, e1, e2, e3⟩ := X_ww75 (N := N) (o := o) (S := S) (w := w) hp (show x < p by omega) ht hm hch hb3 hN (J b) (fun w24 => (gR w24 [0] o 15).bind fun x25 => (gR w24 [0] o 14).bind fun x26 => (gR w24 [0] o 14).bind fun x27 => (aLen w24 x27).bind fun x28 => (cpL w24 x25 (0 : Int32) x26 (0 : Int32) x28).bind fun w29 => (some (J (x : Int) + (1 : Int32))).bind fun x30 => fX0_waysWith_39 N o (J p) (J b) (J top) (J m) k n x30 w29) (2 ^ p) 0 (fun j => if j < 18688 then 0 else D j) N (by omega) (by omega)
      simp only [Nat.zero_add] at e2
      have z0 : ∀ g, ph p g (fun j => if j < 18688 then 0 else D j) = 0 := fun g => ph_0 p g _ (fun j hj => by rw [if_pos (by omega)])
      have hA1 : ∀ j, j < 73 * 2 ^ p → 0 ≤ D1 j := fun j hj => by have := e3 j; rw [if_pos (show j < 18688 by omega)] at this; exact this
      have hcp : ∀ g, ph p g (fun j => if j < 18688 then D1 j else A j) = ph p g D1 := fun g => by
        unfold ph
        exact sm_congr (fun j hj => by simp only; rw [if_pos (show j < 18688 by omega)])
      have hcn : cnF m top x ≤ 10 := by unfold cnF; split <;> omega
      have ⟨A', D', i1, i2⟩ := ih (x + 1) (fun j => if j < 18688 then D1 j else A j) D1 n (by omega) (by omega) (fun j hj => by rw [if_pos (show j < 18688 by omega)]; exact hA1 j hj) (by
        rw [hcp, e2, z0]
        have := ph_ten (p := p) (i := x) (lo := loF m ch x) (cn := cnF m top x) hcn hA
        have h5 : (10 : Int) ^ (x + 1) = 10 ^ x * 10 := Int.pow_succ _ _
        omega)
      refine ⟨A', D', ?_, ?_⟩
      · rw [fX0_waysWith_39, if_neg (by rw [J_le (by omega)]; omega), jn_0, X_ww48 A _ _ _ _ _ _ D hN]
        refine Eq.trans e1 ?_
        rw [xg_15, xg_14, Option.bind_some, Option.bind_some, Option.bind_some, xn_17, Option.bind_some, jn_0, cpL_full (xm_18 o _ w) (xm_17 o _ w), Option.bind_some, x2_cp]
        simp only [jn_0, jn_1, jn_2, jn_3, jn_4, jn_5, jn_6, jn_8, jn_9, jn_10, jn_11, jn_12, jn_16, jn_20, jn_24, jn_30, jn_31, jn_32, jn_36, jn_48, jn_57, jn_59, jn_60, jn_63, jn_72, jn_73, jn_96, jn_97, jn_100, jn_122, jn_144, jn_200, jn_240, jn_288, jn_512, jn_840, jn_1200, jn_1600, jn_5040, jn_5390, jn_5400, jn_9999, jn_18688, jn_32400, jn_99999, jn_100000, jn_1000000, jn_858993459, jn_1431655765, jn_252645135, jl_0, jl_1, jl_2, jl_3, jl_8, jl_9, jl_10, jl_20, jl_27, jl_47, jl_96, jl_99, jl_100, jl_200, jl_555, jl_2000, jl_10000, jl_12345, jl_65536, jl_99999, jl_131638, jl_240023, jl_298288, jl_383153, jl_1306021, jl_1960084, jl_4147840, jl_8740238, jl_9872299, jl_175252482, jl_291595537, jl_1103515245, jl_2000000000, jl_2147483648, jl_4721686497, jl_7873079139, J_add, J_sub, J_mul, J_neg, JL_add, JL_sub, JL_mul, JL_neg, J_long, JL_int, ↓remI_fold, ↓remL_fold, Int.reduceAdd, Int.reduceSub, Int.reduceMul, Int.reduceNeg, Int.reduceToNat, Option.bind_some, castS]
        exact i1
      · rw [i2, hcp, e2, z0, Int.zero_add]
        exact ph_step (loF m ch) (cnF m top) hB (by omega) A
theorem x2_w17 (A D : Nat → Int) (i : Nat) (v : Int) : xSB (x2 S A D) 17 i (JL v) = x2 S (fun j => if j = i then v else A j) D := by
  have e := vpL_J A i v
  unfold x2 xSQ xSB
  refine Prod.ext rfl (Prod.ext rfl (Prod.ext rfl (funext fun j => ?_)))
  simp only
  by_cases h1 : j = 18
  · simp [h1]
  · by_cases h2 : j = 17
    · simp only [h2]
      simp
      exact e
    · simp [h1, h2]
theorem X_ww3 (x1 x2' x3 x4 : Int32) (k : Wd → Option (Int64 × Wd)) (A D : Nat → Int) (hN : 1000000 ≤ N) : fX0_waysWith_3 N o x1 x2' x3 x4 k N (J 0) (emX o (x2 S A D) w) = k (emX o (x2 S (fun j => if j < 18688 then (if j = 0 then 1 else 0) else A j) D) w) := by
  have key := lp_cnt (fun n i => fX0_waysWith_3 N o x1 x2' x3 x4 k n (J (i : Int)) (emX o (x2 S (fun j => if j < i then (if j = 0 then 1 else 0) else A j) D) w)) (k (emX o (x2 S (fun j => if j < 18688 then (if j = 0 then 1 else 0) else A j) D) w)) 18688 ?_ ?_ N (by omega)
  · rw [show (fun j => if j < 0 then (if j = 0 then 1 else 0) else A j) = A from funext fun j => by rw [if_neg (by omega)]] at key
    exact key
  · intro n i hi
    have hfun : (fun j => if j = i then (if i = 0 then 1 else 0) else if j < i then (if j = 0 then 1 else 0) else A j) = (fun j => if j < i + 1 then (if j = 0 then 1 else 0) else A j) := funext fun j => by
      by_cases h1 : j = i
      · rw [if_pos h1, if_pos (show j < i + 1 by omega), h1]
      · rw [if_neg h1]
        by_cases h2 : j < i
        · rw [if_pos h2, if_pos (show j < i + 1 by omega)]
        · rw [if_neg h2, if_neg (show ¬ j < i + 1 by omega)]
    rw [fX0_waysWith_3, xg_14, Option.bind_some, xn_17, Option.bind_some, if_neg (by rw [J_le (by omega)]; omega), Option.bind_some]
    by_cases h0 : i = 0
    · rw [if_pos (show J (i : Int) = 0 by rw [h0]; rfl), jl_1, xw_17 o _ w _ (by omega), Option.bind_some, x2_w17, Int.toNat_natCast]
      rw [if_pos h0] at hfun
      rw [hfun]
      simp only [jn_0, jn_1, jn_2, jn_3, jn_4, jn_5, jn_6, jn_8, jn_9, jn_10, jn_11, jn_12, jn_16, jn_20, jn_24, jn_30, jn_31, jn_32, jn_36, jn_48, jn_57, jn_59, jn_60, jn_63, jn_72, jn_73, jn_96, jn_97, jn_100, jn_122, jn_144, jn_200, jn_240, jn_288, jn_512, jn_840, jn_1200, jn_1600, jn_5040, jn_5390, jn_5400, jn_9999, jn_18688, jn_32400, jn_99999, jn_100000, jn_1000000, jn_858993459, jn_1431655765, jn_252645135, jl_0, jl_1, jl_2, jl_3, jl_8, jl_9, jl_10, jl_20, jl_27, jl_47, jl_96, jl_99, jl_100, jl_200, jl_555, jl_2000, jl_10000, jl_12345, jl_65536, jl_99999, jl_131638, jl_240023, jl_298288, jl_383153, jl_1306021, jl_1960084, jl_4147840, jl_8740238, jl_9872299, jl_175252482, jl_291595537, jl_1103515245, jl_2000000000, jl_2147483648, jl_4721686497, jl_7873079139, J_add, J_sub, J_mul, J_neg, JL_add, JL_sub, JL_mul, JL_neg, J_long, JL_int, ↓remI_fold, ↓remL_fold, Int.reduceAdd, Int.reduceSub, Int.reduceMul, Int.reduceNeg, Int.reduceToNat, Option.bind_some, castS]
    · rw [if_neg (show ¬ J (i : Int) = 0 by rw [jn_0, J_eq (by omega)]; omega), jl_0, xw_17 o _ w _ (by omega), Option.bind_some, x2_w17, Int.toNat_natCast]
      rw [if_neg h0] at hfun
      rw [hfun]
      simp only [jn_0, jn_1, jn_2, jn_3, jn_4, jn_5, jn_6, jn_8, jn_9, jn_10, jn_11, jn_12, jn_16, jn_20, jn_24, jn_30, jn_31, jn_32, jn_36, jn_48, jn_57, jn_59, jn_60, jn_63, jn_72, jn_73, jn_96, jn_97, jn_100, jn_122, jn_144, jn_200, jn_240, jn_288, jn_512, jn_840, jn_1200, jn_1600, jn_5040, jn_5390, jn_5400, jn_9999, jn_18688, jn_32400, jn_99999, jn_100000, jn_1000000, jn_858993459, jn_1431655765, jn_252645135, jl_0, jl_1, jl_2, jl_3, jl_8, jl_9, jl_10, jl_20, jl_27, jl_47, jl_96, jl_99, jl_100, jl_200, jl_555, jl_2000, jl_10000, jl_12345, jl_65536, jl_99999, jl_131638, jl_240023, jl_298288, jl_383153, jl_1306021, jl_1960084, jl_4147840, jl_8740238, jl_9872299, jl_175252482, jl_291595537, jl_1103515245, jl_2000000000, jl_2147483648, jl_4721686497, jl_7873079139, J_add, J_sub, J_mul, J_neg, JL_add, JL_sub, JL_mul, JL_neg, J_long, JL_int, ↓remI_fold, ↓remL_fold, Int.reduceAdd, Int.reduceSub, Int.reduceMul, Int.reduceNeg, Int.reduceToNat, Option.bind_some, castS]
  · intro n
    rw [fX0_waysWith_3, xg_14, Option.bind_some, xn_17, Option.bind_some, if_pos (by rw [J_le (by omega)]; omega)]
theorem X_waysWith {p b top m : Nat} (hp : 1 ≤ p ∧ p ≤ 8) (hb : b ≤ 9) (ht : top ≤ 9) (hm : m ≤ 8) {ch : Nat → Nat} (hch : ∀ i, i < m → ch i ≤ 9 ∧ xa S 19 i = J (ch i)) (hN : 1000000 ≤ N) : ∃ A D, fX0_waysWith N (emX o S w) o (J p) (J b) (J top) (J m) = some (JL (cg p (loF m ch) (cnF m top) p 0 ((p * b : Nat) : Int)), emX o (x2 S A D) w) := by
  have h256 : 2 ^ p ≤ 256 := by have := Nat.pow_le_pow_right (show 2 > 0 by decide) hp.2; omega
  have h1p : 1 ≤ 2 ^ p := Nat.one_le_two_pow
  have hpb : p * b ≤ 72 := Nat.mul_le_mul hp.2 hb
  have e0 : S = x2 S (fun j => (xb S 17 j).toInt) (fun j => (xb S 18 j).toInt) := by
    unfold x2
    rw [fun_JL, fun_JL, xSQ_id]
    exact (xSQ_id S 18).symm
  have a0 : ∀ j, j < 73 * 2 ^ p → (if j < 18688 then (if j = 0 then 1 else 0) else (xb S 17 j).toInt) = (if j = 0 then 1 else 0 : Int) := fun j hj => by rw [if_pos (show j < 18688 by omega)]
  have ⟨A, D, e1, e2⟩ := X_ww39 (N := N) (o := o) (S := S) (w := w) (b := b) hp ht hm hch (B := ((p * b : Nat) : Int)) (by omega) hN (fun w31 => if (73 : Int32) ≤ (J b * J p) then some ((0 : Int64), w31) else (gR w31 [0] o 14).bind fun x32 => (aL w31 x32 (((73 : Int32) * (((1 : Int32) <<< (J p &&& 31)) - (1 : Int32))) + (J b * J p))).bind fun x33 => some (x33, w31)) p 0 (fun j => if j < 18688 then (if j = 0 then 1 else 0) else (xb S 17 j).toInt) (fun j => (xb S 18 j).toInt) N (by omega) (by omega) (fun j hj => by rw [a0 j hj]; split <;> omega) (by
    rw [ph_pick p _ _ 0 (by omega) 1 (by rw [a0 0 (by omega)]; rfl) (fun j hj hne => by rw [a0 j hj, if_neg hne, Int.zero_mul])]
    exact Int.le_refl _)
  refine ⟨A, D, ?_⟩
  rw [ph_pick p _ (fun j => if j < 18688 then (if j = 0 then 1 else 0) else (xb S 17 j).toInt) 0 (by omega) (cg p (loF m ch) (cnF m top) p 0 ((p * b : Nat) : Int)) (by rw [a0 0 (by omega), if_pos rfl, Int.one_mul]; unfold Gk; rw [show 0 / 73 = 0 by omega, show 0 % 73 = 0 by omega, show ((p * b : Nat) : Int) - ((0 : Nat) : Int) = ((p * b : Nat) : Int) by omega]) (fun j hj hne => by rw [a0 j hj, if_neg hne, Int.zero_mul])] at e2
  have e3 : ph p (Gk p (loF m ch) (cnF m top) ((p * b : Nat) : Int) 0) A = A (73 * (2 ^ p - 1) + p * b) := by
    refine ph_pick p _ _ (73 * (2 ^ p - 1) + p * b) (by omega) _ ?_ ?_
    · unfold Gk
      simp only [cg]
      rw [if_pos ⟨by omega, by omega⟩, Int.mul_one]
    · intro j hj hne
      unfold Gk
      simp only [cg]
      rw [if_neg (by omega), Int.mul_zero]
  rw [e3] at e2
  unfold fX0_waysWith
  rw [show emX o S w = emX o (x2 S (fun j => (xb S 17 j).toInt) (fun j => (xb S 18 j).toInt)) w by rw [← e0], jn_0, X_ww3 _ _ _ _ _ _ _ hN]
  refine Eq.trans e1 ?_
  have r2 : (1 : Int32) <<< (J (p : Int) &&& 31) = J ((2 ^ p : Nat) : Int) := by
    have := J_shlz (k := (p : Int)) (by omega)
    rw [Int.toNat_natCast, Nat.shiftLeft_eq, Nat.one_mul] at this
    exact this
  have hbp : J (b : Int) * J (p : Int) = J ((p * b : Nat) : Int) := by rw [J_mul, Int.natCast_mul, Int.mul_comm]
  rw [hbp, r2, jn_73, if_neg (by rw [J_le (by omega)]; omega), xg_14, Option.bind_some, jn_1, J_sub, J_mul, J_add, xr_17 o _ w (by omega), Option.bind_some, x2_17]
  rw [show (73 * (((2 ^ p : Nat) : Int) - 1) + ((p * b : Nat) : Int)).toNat = 73 * (2 ^ p - 1) + p * b by omega, e2]
end
