/-! the component: rows, least -/
set_option maxRecDepth 100000
theorem cg_eq {p : Nat} {lo cn lo' cn' : Nat → Nat} : ∀ (k s : Nat) (l : Int), k ≤ p → (∀ i, p - k ≤ i → lo i = lo' i ∧ cn i = cn' i) → cg p lo cn k s l = cg p lo' cn' k s l := by
  intro k
  induction k with
  | zero => intro s l _ _; rfl
  | succ k ih =>
    intro s l hk h
    simp only [cg]
    rw [(h (p - (k + 1)) (Nat.le_refl _)).1, (h (p - (k + 1)) (Nat.le_refl _)).2]
    refine sm_congr (fun y _ => ?_)
    split
    · exact ih _ _ (by omega) (fun i hi => h i (by omega))
    · rfl
/-- one height alone -/
theorem cg_one {p : Nat} {lo cn : Nat → Nat} {i s : Nat} {l : Int} (hi : i < p) (h1 : cn i = 1) : cg p lo cn (p - i) s l = if frS p i s (lo i) = true ∧ ((lo i : Nat) : Int) ≤ l then cg p lo cn (p - (i + 1)) (nxR p i s (lo i)) (l - ((lo i : Nat) : Int)) else 0 := by
  rw [show p - i = (p - (i + 1)) + 1 by omega]
  simp only [cg]
  rw [show p - (p - (i + 1) + 1) = i by omega, h1]
  simp only [sm, Nat.add_zero, Int.zero_add]
theorem cg_pre {p top : Nat} {B : Int} (hB : 0 ≤ B) (hc : cw p top p 0 B ≠ 0) {lo cn : Nat → Nat} : ∀ i, i ≤ p → (∀ j, j < i → lo j = gh p top j (gs p top B j) ∧ cn j = 1) → cg p lo cn p 0 B = cg p lo cn (p - i) (gs p top B i).1 (gs p top B i).2 := by
  intro i
  induction i with
  | zero => intro _ _; rfl
  | succ i ih =>
    intro hi h
    rw [ih (by omega) (fun j hj => h j (by omega))]
    have ⟨a, b, c⟩ := gs_ok hB hc i (by omega)
    have ⟨d1, d2, d3, d4, _⟩ := gh_ok (show i < p by omega) a
    rw [cg_one (by omega) (h i (by omega)).2, (h i (by omega)).1, if_pos ⟨d2, d3⟩]
    rfl
/-- the last chosen at place i, those ahead well chosen -/
theorem cg_try {p top i h : Nat} {B : Int} (hB : 0 ≤ B) (hc : cw p top p 0 B ≠ 0) (hi : i < p) {ch : Nat → Nat} (hch : ∀ j, j < i → ch j = gh p top j (gs p top B j)) (hh : ch i = h) : cg p (loF (i + 1) ch) (cnF (i + 1) top) p 0 B = if frS p i (gs p top B i).1 h = true ∧ ((h : Nat) : Int) ≤ (gs p top B i).2 then cw p top (p - (i + 1)) (nxR p i (gs p top B i).1 h) ((gs p top B i).2 - h) else 0 := by
  rw [cg_pre hB hc i (by omega) (fun j hj => by unfold loF cnF; rw [if_pos (show j < i + 1 by omega), if_pos (show j < i + 1 by omega)]; exact ⟨hch j hj, rfl⟩)]
  have e1 : loF (i + 1) ch i = h := by unfold loF; rw [if_pos (show i < i + 1 by omega)]; exact hh
  rw [cg_one hi (by unfold cnF; rw [if_pos (show i < i + 1 by omega)]), e1]
  split
  · unfold cw
    refine cg_eq _ _ _ (by omega) (fun j hj => ?_)
    unfold loF cnF
    rw [if_neg (by omega), if_neg (by omega)]
    exact ⟨rfl, rfl⟩
  · rfl
theorem cg_all (p top : Nat) (ch : Nat → Nat) (s : Nat) (l : Int) : cg p (loF 0 ch) (cnF 0 top) p s l = cw p top p s l := by
  unfold cw
  refine cg_eq _ _ _ (Nat.le_refl _) (fun j _ => ?_)
  unfold loF cnF
  rw [if_neg (by omega), if_neg (by omega)]
  exact ⟨rfl, rfl⟩
section
variable {N o : Nat} {S : XS} {w : Wd} {C : Cy}
theorem X_isRows (W : Wd) {p b t : Int} (hp : -2147483648 ≤ p ∧ p ≤ 2147483647) (hb : -2147483648 ≤ b ∧ b ≤ 2147483647) (ht : -2147483648 ≤ t ∧ t ≤ 2147483647) : fX0_isRows N W (J p) (J b) (J t) = some (Bp ((1 ≤ p ∧ p ≤ 8) ∧ (0 ≤ b ∧ b ≤ 9) ∧ 0 ≤ t ∧ t ≤ 9)) := by
  unfold fX0_isRows
  simp (disch := omega) only [jn_0, jn_1, jn_2, jn_3, jn_4, jn_5, jn_6, jn_8, jn_9, jn_10, jn_11, jn_12, jn_16, jn_20, jn_24, jn_30, jn_31, jn_32, jn_36, jn_48, jn_57, jn_59, jn_60, jn_63, jn_72, jn_73, jn_96, jn_97, jn_100, jn_122, jn_144, jn_200, jn_240, jn_288, jn_512, jn_840, jn_1200, jn_1600, jn_5040, jn_5390, jn_5400, jn_9999, jn_18688, jn_32400, jn_99999, jn_100000, jn_1000000, jn_858993459, jn_1431655765, jn_252645135, jl_0, jl_1, jl_2, jl_3, jl_8, jl_9, jl_10, jl_20, jl_27, jl_47, jl_96, jl_99, jl_100, jl_200, jl_555, jl_2000, jl_10000, jl_12345, jl_65536, jl_99999, jl_131638, jl_240023, jl_298288, jl_383153, jl_1306021, jl_1960084, jl_4147840, jl_8740238, jl_9872299, jl_175252482, jl_291595537, jl_1103515245, jl_2000000000, jl_2147483648, jl_4721686497, jl_7873079139, J_add, J_sub, J_mul, J_neg, JL_add, JL_sub, JL_mul, JL_neg, J_long, JL_int, ↓remI_fold, ↓remL_fold, Int.reduceAdd, Int.reduceSub, Int.reduceMul, Int.reduceNeg, Int.reduceToNat, Classical.not_not, em_t, Bp_eq0, Bp_eq1, Bp_01, Bp_mk, Bp_mk', Bp_0, Bp_0', Bp_1, Bp_1', if_true, if_false, ite_not, X_in, Option.bind_some]
theorem FrX_2 (S : XS) (A D : Nat → Int) : FrX S (x2 S A D) := FrX_t (FrX_Q S 17 _) (FrX_Q _ 18 _)
theorem X_rows (hN : 1000000 ≤ N) {p b t : Int} (hp : -2147483648 ≤ p ∧ p ≤ 2147483647) (hb : -2147483648 ≤ b ∧ b ≤ 2147483647) (ht : -2147483648 ≤ t ∧ t ≤ 2147483647) : ∃ S', fX0_rows N (emX o S w) o (J p) (J b) (J t) = some (JL (sp_rows p b t), emX o S' w) ∧ FrX S S' := by
  unfold fX0_rows sp_rows
  simp only [X_isRows _ hp hb ht, Option.bind_some, jn_0, jn_1, jn_2, jn_3, jn_4, jn_5, jn_6, jn_8, jn_9, jn_10, jn_11, jn_12, jn_16, jn_20, jn_24, jn_30, jn_31, jn_32, jn_36, jn_48, jn_57, jn_59, jn_60, jn_63, jn_72, jn_73, jn_96, jn_97, jn_100, jn_122, jn_144, jn_200, jn_240, jn_288, jn_512, jn_840, jn_1200, jn_1600, jn_5040, jn_5390, jn_5400, jn_9999, jn_18688, jn_32400, jn_99999, jn_100000, jn_1000000, jn_858993459, jn_1431655765, jn_252645135, jl_0, jl_1, jl_2, jl_3, jl_8, jl_9, jl_10, jl_20, jl_27, jl_47, jl_96, jl_99, jl_100, jl_200, jl_555, jl_2000, jl_10000, jl_12345, jl_65536, jl_99999, jl_131638, jl_240023, jl_298288, jl_383153, jl_1306021, jl_1960084, jl_4147840, jl_8740238, jl_9872299, jl_175252482, jl_291595537, jl_1103515245, jl_2000000000, jl_2147483648, jl_4721686497, jl_7873079139, J_add, J_sub, J_mul, J_neg, JL_add, JL_sub, JL_mul, JL_neg, J_long, JL_int, ↓remI_fold, ↓remL_fold, Int.reduceAdd, Int.reduceSub, Int.reduceMul, Int.reduceNeg, Int.reduceToNat, Classical.not_not, em_t, Bp_eq0, Bp_eq1, Bp_01, Bp_mk, Bp_mk', Bp_0, Bp_0', Bp_1, Bp_1', if_true, if_false, ite_not]
  by_cases h1 : (1 ≤ p ∧ p ≤ 8) ∧ (0 ≤ b ∧ b ≤ 9) ∧ 0 ≤ t ∧ t ≤ 9
  case neg => exact ⟨S, by rw [if_neg h1, if_neg h1], FrX_r S⟩
  rw [if_pos h1, if_pos h1]
  obtain ⟨q, hr⟩ : ∃ r : Nat, p = r := ⟨p.toNat, by omega⟩
  subst hr
  obtain ⟨c, hr⟩ : ∃ r : Nat, b = r := ⟨b.toNat, by omega⟩
  subst hr
  obtain ⟨u, hr⟩ : ∃ r : Nat, t = r := ⟨t.toNat, by omega⟩
  subst hr
  have ⟨A, D, e⟩ := X_waysWith (N := N) (o := o) (S := S) (w := w) (p := q) (b := c) (top := u) (m := 0) (by omega) (by omega) (by omega) (by omega) (ch := fun _ => 0) (fun i hi => by omega) hN
  rw [cg_all] at e
  refine ⟨x2 S A D, ?_, FrX_2 S A D⟩
  have e' : fX0_waysWith N (emX o S w) o (J q) (J c) (J u) (J 0) = some (JL (cw q u q 0 ((q * c : Nat) : Int)), emX o (x2 S A D) w) := e
  rw [e', Option.bind_some]
  simp only [Int.toNat_natCast]
  rw [show (q : Int) * (c : Int) = ((q * c : Nat) : Int) from (Int.natCast_mul q c).symm]
theorem cw_bd {p top : Nat} (ht : top ≤ 9) {k : Nat} (hk : k ≤ 8) (s : Nat) (l : Int) : 0 ≤ cw p top k s l ∧ cw p top k s l ≤ 100000000 := by
  have hcb := cg_bd p (fun _ => 0) (fun _ => top + 1) (fun _ => by omega) k s l
  have h10 : (10 : Int) ^ k ≤ 100000000 := by
    have h1 : (10 : Nat) ^ k ≤ 10 ^ 8 := Nat.pow_le_pow_right (by decide) (by omega)
    have h2 : ((10 ^ k : Nat) : Int) ≤ ((10 ^ 8 : Nat) : Int) := by exact_mod_cast h1
    rw [Int.natCast_pow] at h2
    exact h2
  exact ⟨hcb.1, Int.le_trans hcb.2 h10⟩
theorem X_ls59 {p b top i : Nat} (hp : 1 ≤ p ∧ p ≤ 8) (hb : b ≤ 9) (ht : top ≤ 9) (hi : i < p) (hc : cw p top p 0 (p * b : Nat) ≠ 0) (hN : 1000000 ≤ N) (y : Int32) (k : Wd → Option (Int32 × Wd)) : ∀ (d h : Nat) (S : XS) (n : Nat), h + d = gh p top i (gs p top (p * b : Nat) i) → d < n → (∀ j, j < i → xa S 19 j = J (gh p top j (gs p top (p * b : Nat) j))) → xa S 19 i = J h → ∃ S', fX0_least_59 N o (J p) (J b) (J top) y (J i) k n (emX o S w) = k (emX o S' w) ∧ FrX S S' ∧ (∀ j, j < i + 1 → xa S' 19 j = J (gh p top j (gs p top (p * b : Nat) j))) := by
  have hB : 0 ≤ ((p * b : Nat) : Int) := Int.natCast_nonneg _
  have ⟨a1, a2, a3⟩ := gs_ok hB hc i (by omega)
  have ⟨d1, d2, d3, d4, d5⟩ := gh_ok hi a1
  have ⟨_, _, f3⟩ := (fi_some _ _ _).1 d5
  have hg9 : ∀ j, j < p → gh p top j (gs p top (p * b : Nat) j) ≤ 9 := fun j hj => by
    have ⟨a, _, _⟩ := gs_ok hB hc j (by omega)
    have ⟨z, _⟩ := gh_ok hj a
    omega
  intro d
  induction d with
  | zero =>
    intro h S n hd hn h1 h2
    cases n with
    | zero => omega
    | succ n =>
      have ⟨A, D, e⟩ := X_waysWith (N := N) (o := o) (S := S) (w := w) (p := p) (b := b) (top := top) (m := i + 1) hp hb ht (by omega) (ch := fun j => gh p top j (gs p top (p * b : Nat) j)) (fun j hj => ⟨hg9 j (by omega), by
        by_cases hji : j = i
        · rw [hji, h2, ← hd]; rfl
        · exact h1 j (by omega)⟩) hN
      rw [cg_try hB hc hi (fun j _ => rfl) rfl, if_pos ⟨d2, d3⟩] at e
      refine ⟨x2 S A D, ?_, FrX_2 S A D, fun j hj => ?_⟩
      · have hbd := cw_bd (p := p) ht (k := p - (i + 1)) (by omega) (nxR p i (gs p top (p * b : Nat) i).1 (gh p top i (gs p top (p * b : Nat) i))) ((gs p top (p * b : Nat) i).2 - gh p top i (gs p top (p * b : Nat) i))
        have ec : (lg_cmp (JL (cw p top (p - (i + 1)) (nxR p i (gs p top (p * b : Nat) i).1 (gh p top i (gs p top (p * b : Nat) i))) ((gs p top (p * b : Nat) i).2 - gh p top i (gs p top (p * b : Nat) i)))) (JL 0) = J 0) = (cw p top (p - (i + 1)) (nxR p i (gs p top (p * b : Nat) i).1 (gh p top i (gs p top (p * b : Nat) i))) ((gs p top (p * b : Nat) i).2 - gh p top i (gs p top (p * b : Nat) i)) = 0) := cmp_eq0 (by omega)
        rw [fX0_least_59]
        simp only [jn_0, jn_1, jn_2, jn_3, jn_4, jn_5, jn_6, jn_8, jn_9, jn_10, jn_11, jn_12, jn_16, jn_20, jn_24, jn_30, jn_31, jn_32, jn_36, jn_48, jn_57, jn_59, jn_60, jn_63, jn_72, jn_73, jn_96, jn_97, jn_100, jn_122, jn_144, jn_200, jn_240, jn_288, jn_512, jn_840, jn_1200, jn_1600, jn_5040, jn_5390, jn_5400, jn_9999, jn_18688, jn_32400, jn_99999, jn_100000, jn_1000000, jn_858993459, jn_1431655765, jn_252645135, jl_0, jl_1, jl_2, jl_3, jl_8, jl_9, jl_10, jl_20, jl_27, jl_47, jl_96, jl_99, jl_100, jl_200, jl_555, jl_2000, jl_10000, jl_12345, jl_65536, jl_99999, jl_131638, jl_240023, jl_298288, jl_383153, jl_1306021, jl_1960084, jl_4147840, jl_8740238, jl_9872299, jl_175252482, jl_291595537, jl_1103515245, jl_2000000000, jl_2147483648, jl_4721686497, jl_7873079139, J_add, J_sub, J_mul, J_neg, JL_add, JL_sub, JL_mul, JL_neg, J_long, JL_int, ↓remI_fold, ↓remL_fold, Int.reduceAdd, Int.reduceSub, Int.reduceMul, Int.reduceNeg, Int.reduceToNat, castS]
        rw [e, Option.bind_some]
        simp only [ec, if_neg d4]
      · rw [x2_19]
        by_cases hji : j = i
        · rw [hji, h2, ← hd]; rfl
        · exact h1 j (by omega)
  | succ d ih =>
    intro h S n hd hn h1 h2
    cases n with
    | zero => omega
    | succ n =>
      have ⟨A, D, e⟩ := X_waysWith (N := N) (o := o) (S := S) (w := w) (p := p) (b := b) (top := top) (m := i + 1) hp hb ht (by omega) (ch := fun j => if j = i then h else gh p top j (gs p top (p * b : Nat) j)) (fun j hj => by
        by_cases hji : j = i
        · simp only [if_pos hji]
          rw [hji]
          exact ⟨by omega, h2⟩
        · simp only [if_neg hji]
          exact ⟨hg9 j (by omega), h1 j (by omega)⟩) hN
      have hz : cg p (loF (i + 1) (fun j => if j = i then h else gh p top j (gs p top (p * b : Nat) j))) (cnF (i + 1) top) p 0 ((p * b : Nat) : Int) = 0 := by
        rw [cg_try (h := h) hB hc hi (fun j hj => by rw [if_neg (by omega)]) (by rw [if_pos rfl])]
        have hn := f3 h (by omega)
        simp only [Bool.and_eq_true, decide_eq_true_iff] at hn
        by_cases hq : frS p i (gs p top (p * b : Nat) i).1 h = true ∧ ((h : Nat) : Int) ≤ (gs p top (p * b : Nat) i).2
        · rw [if_pos hq]
          exact Classical.byContradiction (fun hne => hn ⟨hq, hne⟩)
        · rw [if_neg hq]
      rw [hz] at e
      have ⟨S', i1, i2, i3⟩ := ih (h + 1) (xSA (x2 S A D) 19 i (J ((h + 1 : Nat) : Int))) n (by omega) (by omega) (fun j hj => by rw [xa_A, if_pos rfl, upd_o _ _ (by omega), x2_19]; exact h1 j hj) (by rw [xa_A, if_pos rfl, upd_s])
      refine ⟨S', ?_, FrX_t (FrX_t (FrX_2 S A D) (FrX_A _ 19 i _ (by decide))) i2, i3⟩
      rw [fX0_least_59]
      simp only [jn_0, jn_1, jn_2, jn_3, jn_4, jn_5, jn_6, jn_8, jn_9, jn_10, jn_11, jn_12, jn_16, jn_20, jn_24, jn_30, jn_31, jn_32, jn_36, jn_48, jn_57, jn_59, jn_60, jn_63, jn_72, jn_73, jn_96, jn_97, jn_100, jn_122, jn_144, jn_200, jn_240, jn_288, jn_512, jn_840, jn_1200, jn_1600, jn_5040, jn_5390, jn_5400, jn_9999, jn_18688, jn_32400, jn_99999, jn_100000, jn_1000000, jn_858993459, jn_1431655765, jn_252645135, jl_0, jl_1, jl_2, jl_3, jl_8, jl_9, jl_10, jl_20, jl_27, jl_47, jl_96, jl_99, jl_100, jl_200, jl_555, jl_2000, jl_10000, jl_12345, jl_65536, jl_99999, jl_131638, jl_240023, jl_298288, jl_383153, jl_1306021, jl_1960084, jl_4147840, jl_8740238, jl_9872299, jl_175252482, jl_291595537, jl_1103515245, jl_2000000000, jl_2147483648, jl_4721686497, jl_7873079139, J_add, J_sub, J_mul, J_neg, JL_add, JL_sub, JL_mul, JL_neg, J_long, JL_int, ↓remI_fold, ↓remL_fold, Int.reduceAdd, Int.reduceSub, Int.reduceMul, Int.reduceNeg, Int.reduceToNat, castS]
      rw [e, Option.bind_some]
      have ec : (lg_cmp (JL 0) (JL 0) = J 0) = ((0 : Int) = 0) := cmp_eq0 (by omega)
      simp only [ec, if_true]
      rw [xg_16, Option.bind_some, xr_19 o _ w (by omega), Option.bind_some, x2_19, Int.toNat_natCast, h2]
      rw [xw_19 o _ w _ (by omega), Option.bind_some, Int.toNat_natCast]
      simp only [jn_0, jn_1, jn_2, jn_3, jn_4, jn_5, jn_6, jn_8, jn_9, jn_10, jn_11, jn_12, jn_16, jn_20, jn_24, jn_30, jn_31, jn_32, jn_36, jn_48, jn_57, jn_59, jn_60, jn_63, jn_72, jn_73, jn_96, jn_97, jn_100, jn_122, jn_144, jn_200, jn_240, jn_288, jn_512, jn_840, jn_1200, jn_1600, jn_5040, jn_5390, jn_5400, jn_9999, jn_18688, jn_32400, jn_99999, jn_100000, jn_1000000, jn_858993459, jn_1431655765, jn_252645135, jl_0, jl_1, jl_2, jl_3, jl_8, jl_9, jl_10, jl_20, jl_27, jl_47, jl_96, jl_99, jl_100, jl_200, jl_555, jl_2000, jl_10000, jl_12345, jl_65536, jl_99999, jl_131638, jl_240023, jl_298288, jl_383153, jl_1306021, jl_1960084, jl_4147840, jl_8740238, jl_9872299, jl_175252482, jl_291595537, jl_1103515245, jl_2000000000, jl_2147483648, jl_4721686497, jl_7873079139, J_add, J_sub, J_mul, J_neg, JL_add, JL_sub, JL_mul, JL_neg, J_long, JL_int, ↓remI_fold, ↓remL_fold, Int.reduceAdd, Int.reduceSub, Int.reduceMul, Int.reduceNeg, Int.reduceToNat, castS]
      exact i1
theorem X_ls44 {p b top m : Nat} (hp : 1 ≤ p ∧ p ≤ 8) (hb : b ≤ 9) (ht : top ≤ 9) (hm : m < p) (hc : cw p top p 0 (p * b : Nat) ≠ 0) (hN : 1000000 ≤ N) (k : Wd → Option (Int32 × Wd)) : ∀ (d i : Nat) (S : XS) (n : Nat), i + d = m + 1 → d < n → (∀ j, j < i → xa S 19 j = J (gh p top j (gs p top (p * b : Nat) j))) → ∃ S', fX0_least_44 N o (J p) (J b) (J top) (J m) k n (J i) (emX o S w) = k (emX o S' w) ∧ FrX S S' ∧ (∀ j, j < m + 1 → xa S' 19 j = J (gh p top j (gs p top (p * b : Nat) j))) := by
  have hB : 0 ≤ ((p * b : Nat) : Int) := Int.natCast_nonneg _
  intro d
  induction d with
  | zero =>
    intro i S n hd hn h1
    cases n with
    | zero => omega
    | succ n =>
      refine ⟨S, ?_, FrX_r S, fun j hj => h1 j (by omega)⟩
      rw [fX0_least_44, if_pos (by rw [J_lt (by omega)]; omega)]
  | succ d ih =>
    intro i S n hd hn h1
    cases n with
    | zero => omega
    | succ n =>
      have ⟨a1, _, _⟩ := gs_ok (p := p) (top := top) hB hc i (by omega)
      have ⟨z, _⟩ := gh_ok (show i < p by omega) a1
      have ⟨S1, e1, e2, e3⟩ := X_ls59 (N := N) (o := o) (w := w) hp hb ht (show i < p by omega) hc hN (J m) (fun w10 => (some (J (i : Int) + (1 : Int32))).bind fun x11 => fX0_least_44 N o (J p) (J b) (J top) (J m) k n x11 w10) (gh p top i (gs p top (p * b : Nat) i)) 0 (xSA S 19 i (J 0)) N (by omega) (by omega) (fun j hj => by rw [xa_A, if_pos rfl, upd_o _ _ (by omega)]; exact h1 j hj) (by rw [xa_A, if_pos rfl, upd_s]; rfl)
      have ⟨S', i1, i2, i3⟩ := ih (i + 1) S1 n (by omega) (by omega) e3
      refine ⟨S', ?_, FrX_t (FrX_t (FrX_A S 19 i _ (by decide)) e2) i2, i3⟩
      rw [fX0_least_44, if_neg (by rw [J_lt (by omega)]; omega), xg_16, Option.bind_some, jn_0, xw_19 o _ w _ (by omega), Option.bind_some, Int.toNat_natCast]
      refine Eq.trans e1 ?_
      simp only [jn_0, jn_1, jn_2, jn_3, jn_4, jn_5, jn_6, jn_8, jn_9, jn_10, jn_11, jn_12, jn_16, jn_20, jn_24, jn_30, jn_31, jn_32, jn_36, jn_48, jn_57, jn_59, jn_60, jn_63, jn_72, jn_73, jn_96, jn_97, jn_100, jn_122, jn_144, jn_200, jn_240, jn_288, jn_512, jn_840, jn_1200, jn_1600, jn_5040, jn_5390, jn_5400, jn_9999, jn_18688, jn_32400, jn_99999, jn_100000, jn_1000000, jn_858993459, jn_1431655765, jn_252645135, jl_0, jl_1, jl_2, jl_3, jl_8, jl_9, jl_10, jl_20, jl_27, jl_47, jl_96, jl_99, jl_100, jl_200, jl_555, jl_2000, jl_10000, jl_12345, jl_65536, jl_99999, jl_131638, jl_240023, jl_298288, jl_383153, jl_1306021, jl_1960084, jl_4147840, jl_8740238, jl_9872299, jl_175252482, jl_291595537, jl_1103515245, jl_2000000000, jl_2147483648, jl_4721686497, jl_7873079139, J_add, J_sub, J_mul, J_neg, JL_add, JL_sub, JL_mul, JL_neg, J_long, JL_int, ↓remI_fold, ↓remL_fold, Int.reduceAdd, Int.reduceSub, Int.reduceMul, Int.reduceNeg, Int.reduceToNat, castS, Option.bind_some]
      exact i1
theorem X_least (hN : 1000000 ≤ N) {p b t n : Int} (hp : -2147483648 ≤ p ∧ p ≤ 2147483647) (hb : -2147483648 ≤ b ∧ b ≤ 2147483647) (ht : -2147483648 ≤ t ∧ t ≤ 2147483647) (hn : -2147483648 ≤ n ∧ n ≤ 2147483647) : ∃ S', fX0_least N (emX o S w) o (J p) (J b) (J t) (J n) = some (J (sp_least p b t n), emX o S' w) ∧ FrX S S' := by
  unfold fX0_least sp_least
  simp only [jn_0, jn_1, jn_2, jn_3, jn_4, jn_5, jn_6, jn_8, jn_9, jn_10, jn_11, jn_12, jn_16, jn_20, jn_24, jn_30, jn_31, jn_32, jn_36, jn_48, jn_57, jn_59, jn_60, jn_63, jn_72, jn_73, jn_96, jn_97, jn_100, jn_122, jn_144, jn_200, jn_240, jn_288, jn_512, jn_840, jn_1200, jn_1600, jn_5040, jn_5390, jn_5400, jn_9999, jn_18688, jn_32400, jn_99999, jn_100000, jn_1000000, jn_858993459, jn_1431655765, jn_252645135, jl_0, jl_1, jl_2, jl_3, jl_8, jl_9, jl_10, jl_20, jl_27, jl_47, jl_96, jl_99, jl_100, jl_200, jl_555, jl_2000, jl_10000, jl_12345, jl_65536, jl_99999, jl_131638, jl_240023, jl_298288, jl_383153, jl_1306021, jl_1960084, jl_4147840, jl_8740238, jl_9872299, jl_175252482, jl_291595537, jl_1103515245, jl_2000000000, jl_2147483648, jl_4721686497, jl_7873079139, J_add, J_sub, J_mul, J_neg, JL_add, JL_sub, JL_mul, JL_neg, J_long, JL_int, ↓remI_fold, ↓remL_fold, Int.reduceAdd, Int.reduceSub, Int.reduceMul, Int.reduceNeg, Int.reduceToNat, Classical.not_not, em_t, Bp_eq0, Bp_eq1, Bp_01, Bp_mk, Bp_mk', Bp_0, Bp_0', Bp_1, Bp_1', if_true, if_false, ite_not, X_isRows _ hp hb ht, Option.bind_some]
  by_cases h1 : (1 ≤ p ∧ p ≤ 8) ∧ (0 ≤ b ∧ b ≤ 9) ∧ 0 ≤ t ∧ t ≤ 9
  case neg => exact ⟨S, by rw [if_neg h1, if_neg h1], FrX_r S⟩
  rw [if_pos h1, if_pos h1, J_long hn, J_long (by omega), X_in (by omega), Option.bind_some]
  simp only [Classical.not_not, em_t, Bp_eq0, Bp_eq1, Bp_01, Bp_mk, Bp_mk', Bp_0, Bp_0', Bp_1, Bp_1', if_true, if_false, ite_not]
  by_cases h2 : 0 ≤ n ∧ n ≤ p - 1
  case neg => exact ⟨S, by rw [if_neg h2, if_neg h2], FrX_r S⟩
  rw [if_pos h2, if_pos h2]
  obtain ⟨q, hr⟩ : ∃ r : Nat, p = r := ⟨p.toNat, by omega⟩
  subst hr
  obtain ⟨c, hr⟩ : ∃ r : Nat, b = r := ⟨b.toNat, by omega⟩
  subst hr
  obtain ⟨u, hr⟩ : ∃ r : Nat, t = r := ⟨t.toNat, by omega⟩
  subst hr
  obtain ⟨m, hr⟩ : ∃ r : Nat, n = r := ⟨n.toNat, by omega⟩
  subst hr
  have ⟨A, D, e⟩ := X_waysWith (N := N) (o := o) (S := S) (w := w) (p := q) (b := c) (top := u) (m := 0) (by omega) (by omega) (by omega) (by omega) (ch := fun _ => 0) (fun i hi => by omega) hN
  rw [cg_all] at e
  have e' : fX0_waysWith N (emX o S w) o (J q) (J c) (J u) (J 0) = some (JL (cw q u q 0 ((q * c : Nat) : Int)), emX o (x2 S A D) w) := e
  rw [e', Option.bind_some]
  simp only [Int.toNat_natCast]
  rw [show (q : Int) * (c : Int) = ((q * c : Nat) : Int) from (Int.natCast_mul q c).symm]
  have hbd := cw_bd (p := q) (top := u) (by omega) (k := q) (by omega) 0 ((q * c : Nat) : Int)
  have ec : (lg_cmp (JL (cw q u q 0 ((q * c : Nat) : Int))) (JL 0) = J 0) = (cw q u q 0 ((q * c : Nat) : Int) = 0) := cmp_eq0 (by omega)
  simp only [ec]
  by_cases h3 : cw q u q 0 ((q * c : Nat) : Int) = 0
  · exact ⟨_, by rw [if_pos h3, if_pos h3], FrX_2 S A D⟩
  · have ⟨S', i1, i2, i3⟩ := X_ls44 (N := N) (o := o) (w := w) (p := q) (b := c) (top := u) (m := m) (by omega) (by omega) (by omega) (by omega) h3 hN (fun w12 => (gR w12 [0] o 16).bind fun x13 => (aI 0 w12 x13 (J (m : Int))).bind fun x14 => some (x14, w12)) (m + 1) 0 (x2 S A D) N (by omega) (by omega) (fun j hj => by omega)
    refine ⟨S', ?_, FrX_t (FrX_2 S A D) i2⟩
    rw [if_neg h3, if_neg h3]
    refine Eq.trans i1 ?_
    rw [xg_16, Option.bind_some, xr_19 o _ w (by omega), Option.bind_some, Int.toNat_natCast, i3 m (by omega)]
end
