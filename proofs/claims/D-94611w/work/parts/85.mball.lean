/-! the reference: balls -/
set_option maxRecDepth 100000
/-- what the reference must keep through a question -/
def FrM (S S' : MS) : Prop := (∀ a, 1 ≤ a → a ≤ 16 → ma S' a = ma S a) ∧ mb S' 3 = mb S 3 ∧ mi S' 6 = mi S 6 ∧ mi S' 14 = mi S 14 ∧ mi S' 15 = mi S 15
theorem FrM_r (S : MS) : FrM S S := ⟨fun _ _ _ => rfl, rfl, rfl, rfl, rfl⟩
theorem FrM_t {S T U : MS} (h : FrM S T) (h' : FrM T U) : FrM S U := ⟨fun a h1 h2 => (h'.1 a h1 h2).trans (h.1 a h1 h2), h'.2.1.trans h.2.1, h'.2.2.1.trans h.2.2.1, h'.2.2.2.1.trans h.2.2.2.1, h'.2.2.2.2.trans h.2.2.2.2⟩
theorem FrM_I (S : MS) (k : Nat) (x : Int32) (h : k ≠ 6 ∧ k ≠ 14 ∧ k ≠ 15) : FrM S (mSI S k x) := by
  refine ⟨fun _ _ _ => rfl, rfl, ?_, ?_, ?_⟩ <;> rw [mi_I, if_neg (by omega)]
theorem FrM_A (S : MS) (a i : Nat) (x : Int32) (h : 17 ≤ a) : FrM S (mSA S a i x) := by
  refine ⟨fun b h1 h2 => ?_, rfl, rfl, rfl, rfl⟩
  rw [ma_A, if_neg (by omega)]
theorem FrM_B (S : MS) (a i : Nat) (x : Int64) (h : a ≠ 3) : FrM S (mSB S a i x) := by
  refine ⟨fun b h1 h2 => rfl, ?_, rfl, rfl, rfl⟩
  rw [mb_B, if_neg (by omega)]
theorem FrM_L (S : MS) (k : Nat) (x : Int64) : FrM S (mSL S k x) := ⟨fun _ _ _ => rfl, rfl, rfl, rfl, rfl⟩
theorem FrM_G {S S' : MS} (h : FrM S S') {n : Nat} {C : Cy} (hG : GdM S n C) : GdM S' n C := by
  have e := h.1
  unfold GdM at hG ⊢
  rw [e 6 (by decide) (by decide), e 7 (by decide) (by decide), e 8 (by decide) (by decide), e 9 (by decide) (by decide), e 10 (by decide) (by decide), e 11 (by decide) (by decide), e 12 (by decide) (by decide), e 13 (by decide) (by decide), e 14 (by decide) (by decide), e 15 (by decide) (by decide)]
  exact hG
def mBl (S : MS) (p : Nat × Int) : MS := mSI (mSI S 30 (J p.1)) 31 (J p.2)
theorem mBl_30 (S : MS) (p : Nat × Int) : mi (mBl S p) 30 = J p.1 := rfl
theorem mBl_31 (S : MS) (p : Nat × Int) : mi (mBl S p) 31 = J p.2 := rfl
theorem mBl_o (S : MS) (p : Nat × Int) (x y : Int32) : mSI (mSI (mBl S p) 30 x) 31 y = mSI (mSI S 30 x) 31 y := by
  unfold mBl mSI
  refine Prod.ext (funext fun j => ?_) rfl
  simp only
  by_cases h : j = 31 <;> by_cases h' : j = 30 <;> simp [h, h']
theorem FrM_Bl (S : MS) (p : Nat × Int) : FrM S (mBl S p) := FrM_t (FrM_I S 30 _ (by decide)) (FrM_I _ 31 _ (by decide))
theorem til_some {C : Cy} (hk : kp C = true) (ho : OkC C) {p : Nat × Int} (hp : Lv C p) {l : Int} (hl : l ≤ p.2 + 109999) : fi (fun i => decide (l ≤ (bat C p i).2)) 110000 = some (til C p l) := by
  unfold til
  cases h : fi (fun i => decide (l ≤ (bat C p i).2)) 110000 with
  | some i => rfl
  | none =>
    have := (fi_none _ _).1 h 109999 (by omega)
    rw [decide_eq_true_iff] at this
    have h2 := bat_lo hk ho hp 109999
    omega
theorem til_bd {C : Cy} (hk : kp C = true) (ho : OkC C) {p : Nat × Int} (hp : Lv C p) {l : Int} (hl : l ≤ p.2 + 109999) {i : Nat} (hi : i ≤ til C p l) : (bat C p i).2 ≤ p.2 ∨ (bat C p i).2 ≤ l + 8 := by
  cases i with
  | zero => left; exact Int.le_refl _
  | succ i =>
    right
    have ⟨_, _, h3⟩ := (fi_some _ _ _).1 (til_some hk ho hp hl)
    have := h3 i (by omega)
    rw [decide_eq_true_iff] at this
    have h9 := hh_le C (bat C p i).1 (bat C p i).2
    simp only [bat, bgo]; omega
theorem ob_some {C : Cy} (hk : kp C = true) (ho : OkC C) {p : Nat × Int} (hp : Lv C p) : fi (fun i => decide (Al C (bat C p (i + 1)) p)) (cR C * rnd C) = some (obL C p) := by
  unfold obL
  cases h : fi (fun i => decide (Al C (bat C p (i + 1)) p)) (cR C * rnd C) with
  | some i => rfl
  | none =>
    have ⟨L, h1, h2⟩ := comes hk ho hp
    have := (fi_none _ _).1 h L h1
    rw [decide_eq_true_iff] at this
    exact absurd h2 this
theorem Rr_le (C : Cy) : cR C * rnd C ≤ 5040 := by
  have h1 := cR_le C
  have h2 := rnd_bd C
  have := Nat.mul_le_mul h1 h2.2
  omega
theorem rds_lt (C : Cy) (p : Nat × Int) (i : Nat) (h : ∀ j, j < i → (bat C p j).1 ≤ 5) : rds C p i < 64 := by
  unfold rds
  refine fo_inv (fun j s => s ||| 1 <<< (bat C p j).1) (fun _ s => s < 64) i 0 (by decide) (fun j s hj hs => ?_)
  have h5 := h j hj
  have : 1 <<< (bat C p j).1 < 2 ^ 6 := by
    rw [Nat.shiftLeft_eq, Nat.one_mul]
    exact Nat.pow_lt_pow_right (by decide) (by omega)
  exact Nat.or_lt_two_pow (n := 6) hs this
section
variable {N o : Nat} {S : MS} {w : Wd} {C : Cy}
theorem M_starts (hG : GdM S 0 C) (hN : 1000000 ≤ N) {r : Nat} (hr : r < cR C) {b : Int} (hb : -900000 ≤ b ∧ b ≤ 900000) : fX5_starts N (emM o S w) o (J r) (J b) = if atB C r b = true then some (J 1, emM o (mBl S (r, b)) w) else some (J 0, emM o S w) := by
  have h9 := hh_le C r b
  unfold fX5_starts atB
  simp (disch := omega) only [jn_0, jn_1, jn_2, jn_3, jn_4, jn_5, jn_6, jn_8, jn_9, jn_10, jn_11, jn_12, jn_16, jn_20, jn_24, jn_30, jn_31, jn_32, jn_36, jn_48, jn_57, jn_59, jn_60, jn_63, jn_72, jn_73, jn_96, jn_97, jn_100, jn_122, jn_144, jn_200, jn_240, jn_288, jn_512, jn_840, jn_1200, jn_1600, jn_5040, jn_5390, jn_5400, jn_9999, jn_18688, jn_32400, jn_99999, jn_100000, jn_1000000, jn_858993459, jn_1431655765, jn_252645135, jl_0, jl_1, jl_2, jl_3, jl_8, jl_9, jl_10, jl_20, jl_27, jl_47, jl_96, jl_99, jl_100, jl_200, jl_555, jl_2000, jl_10000, jl_12345, jl_65536, jl_99999, jl_131638, jl_240023, jl_298288, jl_383153, jl_1306021, jl_1960084, jl_4147840, jl_8740238, jl_9872299, jl_175252482, jl_291595537, jl_1103515245, jl_2000000000, jl_2147483648, jl_4721686497, jl_7873079139, J_add, J_sub, J_mul, J_neg, JL_add, JL_sub, JL_mul, JL_neg, J_long, JL_int, ↓remI_fold, ↓remL_fold, Int.reduceAdd, Int.reduceSub, Int.reduceMul, Int.reduceNeg, Int.reduceToNat, Classical.not_not, em_t, Bp_eq0, Bp_eq1, Bp_01, Bp_mk, Bp_mk', Bp_0, Bp_0', Bp_1, Bp_1', if_true, if_false, ite_not, M_isUp hG, M_highOf hG hr, mp_0, mp_6, mp_7, mp_8, mp_9, mp_10, mp_11, mp_12, mp_13, mp_14, mp_15, mp_26, mp_30, mp_31, mp_35, mp_36, mp_37, mp_41, mp_43, mp_44, mp_45, J_eq, cast0, Option.bind_some, Int.toNat_natCast]
  by_cases h1 : kp C = true
  · simp only [h1, eq_self, if_true, Bool.true_and, decide_eq_true_iff]
    by_cases h2 : hh C r b = 0
    · rw [if_pos h2, if_neg (by omega)]
    · rw [if_neg h2, if_pos (by omega)]; rfl
  · rw [if_neg h1, if_neg (by simp [h1])]
theorem M_follows (hG : GdM S 0 C) {p : Nat × Int} (hr : p.1 < cR C) (hb : -900000 ≤ p.2 ∧ p.2 ≤ 900000) : fX5_follows N (emM o (mBl S p) w) o = some (emM o (mBl S (bgo C p)) w) := by
  have hG' : GdM (mBl S p) 0 C := hG
  unfold fX5_follows
  simp (disch := omega) only [jn_0, jn_1, jn_2, jn_3, jn_4, jn_5, jn_6, jn_8, jn_9, jn_10, jn_11, jn_12, jn_16, jn_20, jn_24, jn_30, jn_31, jn_32, jn_36, jn_48, jn_57, jn_59, jn_60, jn_63, jn_72, jn_73, jn_96, jn_97, jn_100, jn_122, jn_144, jn_200, jn_240, jn_288, jn_512, jn_840, jn_1200, jn_1600, jn_5040, jn_5390, jn_5400, jn_9999, jn_18688, jn_32400, jn_99999, jn_100000, jn_1000000, jn_858993459, jn_1431655765, jn_252645135, jl_0, jl_1, jl_2, jl_3, jl_8, jl_9, jl_10, jl_20, jl_27, jl_47, jl_96, jl_99, jl_100, jl_200, jl_555, jl_2000, jl_10000, jl_12345, jl_65536, jl_99999, jl_131638, jl_240023, jl_298288, jl_383153, jl_1306021, jl_1960084, jl_4147840, jl_8740238, jl_9872299, jl_175252482, jl_291595537, jl_1103515245, jl_2000000000, jl_2147483648, jl_4721686497, jl_7873079139, J_add, J_sub, J_mul, J_neg, JL_add, JL_sub, JL_mul, JL_neg, J_long, JL_int, ↓remI_fold, ↓remL_fold, Int.reduceAdd, Int.reduceSub, Int.reduceMul, Int.reduceNeg, Int.reduceToNat, mg_0, mg_1, mg_2, mg_3, mg_4, mg_5, mg_6, mg_7, mg_8, mg_9, mg_10, mg_11, mg_12, mg_13, mg_14, mg_15, mg_16, mg_17, mg_18, mg_19, mg_20, mg_21, mg_22, mg_23, mg_24, mg_25, mg_26, mg_27, mg_28, mg_29, mg_30, mg_31, mg_32, mg_33, mg_34, mg_35, mg_36, mg_37, mg_38, mg_39, mg_40, mg_41, mg_42, mg_43, mg_44, mg_45, mp_0, mp_6, mp_7, mp_8, mp_9, mp_10, mp_11, mp_12, mp_13, mp_14, mp_15, mp_26, mp_30, mp_31, mp_35, mp_36, mp_37, mp_41, mp_43, mp_44, mp_45, mi_R, ml_R, ma_R, mb_R, mi_Q, ml_Q, ma_Q, mb_Q, mi_I, mi_L, mi_A, mi_B, ml_I, ml_L, ml_A, ml_B, ma_I, ma_L, ma_A, ma_B, mb_I, mb_L, mb_A, mb_B, Nat.reduceEqDiff, eq_self, if_true, if_false, reduceIte, mBl_30, mBl_31, M_highOf hG' hr, M_toOf hG' hr, mBl_o, Option.bind_some]
  rfl
theorem M_isToss (hG : GdM S 0 C) {v b : Int} (hv : -2147483648 ≤ v ∧ v ≤ 2147483647) (hb : -2147483648 ≤ b ∧ b ≤ 2147483647) : fX5_isToss N (emM o S w) o (J v) (J b) = some (Bp ((0 ≤ v ∧ v < cR C) ∧ 0 ≤ b ∧ b ≤ 99999)) := by
  unfold fX5_isToss
  simp (disch := omega) only [jn_0, jn_1, jn_2, jn_3, jn_4, jn_5, jn_6, jn_8, jn_9, jn_10, jn_11, jn_12, jn_16, jn_20, jn_24, jn_30, jn_31, jn_32, jn_36, jn_48, jn_57, jn_59, jn_60, jn_63, jn_72, jn_73, jn_96, jn_97, jn_100, jn_122, jn_144, jn_200, jn_240, jn_288, jn_512, jn_840, jn_1200, jn_1600, jn_5040, jn_5390, jn_5400, jn_9999, jn_18688, jn_32400, jn_99999, jn_100000, jn_1000000, jn_858993459, jn_1431655765, jn_252645135, jl_0, jl_1, jl_2, jl_3, jl_8, jl_9, jl_10, jl_20, jl_27, jl_47, jl_96, jl_99, jl_100, jl_200, jl_555, jl_2000, jl_10000, jl_12345, jl_65536, jl_99999, jl_131638, jl_240023, jl_298288, jl_383153, jl_1306021, jl_1960084, jl_4147840, jl_8740238, jl_9872299, jl_175252482, jl_291595537, jl_1103515245, jl_2000000000, jl_2147483648, jl_4721686497, jl_7873079139, J_add, J_sub, J_mul, J_neg, JL_add, JL_sub, JL_mul, JL_neg, J_long, JL_int, ↓remI_fold, ↓remL_fold, Int.reduceAdd, Int.reduceSub, Int.reduceMul, Int.reduceNeg, Int.reduceToNat, Classical.not_not, em_t, Bp_eq0, Bp_eq1, Bp_01, Bp_mk, Bp_mk', Bp_0, Bp_0', Bp_1, Bp_1', if_true, if_false, ite_not, M_isRoof hG, M_isBeat, Option.bind_some]
theorem M_ball (hG : GdM S 0 C) (ho : OkC C) (hN : 1000000 ≤ N) {v b n x : Int} (hv : -2147483648 ≤ v ∧ v ≤ 2147483647) (hb : -2147483648 ≤ b ∧ b ≤ 2147483647) (hn : -2147483648 ≤ n ∧ n ≤ 2147483647) (hx : -2147483648 ≤ x ∧ x ≤ 2147483647) : ∃ S', fX5_ball N (emM o S w) o (J v) (J b) (J n) (J x) = some (J (sp_ball C v b n x), emM o S' w) ∧ FrM S S' := by
  have hG' : GdM (mSI S 0 (J 0)) 0 C := hG
  have hF : FrM S (mSI S 0 (J 0)) := FrM_I S 0 _ (by decide)
  have hR := cR_le C
  unfold fX5_ball sp_ball
  simp (disch := omega) only [jn_0, jn_1, jn_2, jn_3, jn_4, jn_5, jn_6, jn_8, jn_9, jn_10, jn_11, jn_12, jn_16, jn_20, jn_24, jn_30, jn_31, jn_32, jn_36, jn_48, jn_57, jn_59, jn_60, jn_63, jn_72, jn_73, jn_96, jn_97, jn_100, jn_122, jn_144, jn_200, jn_240, jn_288, jn_512, jn_840, jn_1200, jn_1600, jn_5040, jn_5390, jn_5400, jn_9999, jn_18688, jn_32400, jn_99999, jn_100000, jn_1000000, jn_858993459, jn_1431655765, jn_252645135, jl_0, jl_1, jl_2, jl_3, jl_8, jl_9, jl_10, jl_20, jl_27, jl_47, jl_96, jl_99, jl_100, jl_200, jl_555, jl_2000, jl_10000, jl_12345, jl_65536, jl_99999, jl_131638, jl_240023, jl_298288, jl_383153, jl_1306021, jl_1960084, jl_4147840, jl_8740238, jl_9872299, jl_175252482, jl_291595537, jl_1103515245, jl_2000000000, jl_2147483648, jl_4721686497, jl_7873079139, J_add, J_sub, J_mul, J_neg, JL_add, JL_sub, JL_mul, JL_neg, J_long, JL_int, ↓remI_fold, ↓remL_fold, Int.reduceAdd, Int.reduceSub, Int.reduceMul, Int.reduceNeg, Int.reduceToNat, Classical.not_not, em_t, Bp_eq0, Bp_eq1, Bp_01, Bp_mk, Bp_mk', Bp_0, Bp_0', Bp_1, Bp_1', if_true, if_false, ite_not, mp_0, mp_6, mp_7, mp_8, mp_9, mp_10, mp_11, mp_12, mp_13, mp_14, mp_15, mp_26, mp_30, mp_31, mp_35, mp_36, mp_37, mp_41, mp_43, mp_44, mp_45, M_isToss hG', M_in, Option.bind_some, J_eq]
  by_cases h1 : 0 ≤ v ∧ v < cR C
  case neg => exact ⟨_, by rw [if_neg (fun h => h1 h.1), if_neg h1], hF⟩
  by_cases h2 : 0 ≤ b ∧ b ≤ 99999
  case neg => exact ⟨_, by rw [if_neg (fun h => h2 h.2), if_pos h1, if_neg h2], hF⟩
  rw [if_pos ⟨h1, h2⟩]
  simp only [if_pos h1, if_pos h2]
  by_cases h3 : 0 ≤ n ∧ n ≤ 200
  case neg => exact ⟨_, by rw [if_neg h3, if_neg h3], hF⟩
  simp only [if_pos h3]
  by_cases h4 : 0 ≤ x ∧ x ≤ 1
  case neg => exact ⟨_, by rw [if_neg h4, if_neg h4], hF⟩
  simp only [if_pos h4]
  obtain ⟨r, hr⟩ : ∃ r : Nat, v = r := ⟨v.toNat, by omega⟩
  subst hr
  obtain ⟨m, hr⟩ : ∃ r : Nat, n = r := ⟨n.toNat, by omega⟩
  subst hr
  have hr' : r < cR C := by omega
  rw [M_starts hG' hN hr' (by omega)]
  simp only [Int.toNat_natCast]
  by_cases h5 : atB C r b = true
  case neg => exact ⟨_, by rw [if_neg h5, if_neg h5, Option.bind_some, if_pos rfl], hF⟩
  simp only [if_pos h5, Option.bind_some]
  rw [if_neg (by rw [J_eq (by omega)]; omega)]
  have hk : kp C = true := by unfold atB at h5; simp at h5; exact h5.1
  have hp : Lv C (r, b) := ⟨hr', by unfold atB at h5; simp at h5; exact h5.2⟩
  refine ⟨mBl (mSI S 0 (J 0)) (bat C (r, b) m), ?_, FrM_t hF (FrM_Bl _ _)⟩
  have key := lp_cnt (fun n i => fX5_ball_54 N o (J m) (J x) (fun w8 => if x = 0 then (gI w8 [5] o 30).bind fun x10 => some (x10, w8) else (gI w8 [5] o 31).bind fun x9 => some (x9, w8)) n (J (i : Int)) (emM o (mBl (mSI S 0 (J 0)) (bat C (r, b) i)) w)) (some (J (if x = 0 then (bat C (r, b) m).1 else (bat C (r, b) m).2), emM o (mBl (mSI S 0 (J 0)) (bat C (r, b) m)) w)) (m) ?_ ?_ N (by omega)
  · exact key
  · intro n i hi
    try dsimp only
    have hb1 := bat_hi C (r, b) i
    simp only at hb1
    rw [fX5_ball_54]
    simp (disch := omega) only [jn_0, jn_1, jn_2, jn_3, jn_4, jn_5, jn_6, jn_8, jn_9, jn_10, jn_11, jn_12, jn_16, jn_20, jn_24, jn_30, jn_31, jn_32, jn_36, jn_48, jn_57, jn_59, jn_60, jn_63, jn_72, jn_73, jn_96, jn_97, jn_100, jn_122, jn_144, jn_200, jn_240, jn_288, jn_512, jn_840, jn_1200, jn_1600, jn_5040, jn_5390, jn_5400, jn_9999, jn_18688, jn_32400, jn_99999, jn_100000, jn_1000000, jn_858993459, jn_1431655765, jn_252645135, jl_0, jl_1, jl_2, jl_3, jl_8, jl_9, jl_10, jl_20, jl_27, jl_47, jl_96, jl_99, jl_100, jl_200, jl_555, jl_2000, jl_10000, jl_12345, jl_65536, jl_99999, jl_131638, jl_240023, jl_298288, jl_383153, jl_1306021, jl_1960084, jl_4147840, jl_8740238, jl_9872299, jl_175252482, jl_291595537, jl_1103515245, jl_2000000000, jl_2147483648, jl_4721686497, jl_7873079139, J_add, J_sub, J_mul, J_neg, JL_add, JL_sub, JL_mul, JL_neg, J_long, JL_int, ↓remI_fold, ↓remL_fold, Int.reduceAdd, Int.reduceSub, Int.reduceMul, Int.reduceNeg, Int.reduceToNat, J_le, castS, Option.bind_some]
    rw [if_neg (by omega), M_follows hG' (Lv_at hk ho hp i).1 (by omega)]
    rfl
  · intro n
    try dsimp only
    rw [fX5_ball_54]
    simp (disch := omega) only [jn_0, jn_1, jn_2, jn_3, jn_4, jn_5, jn_6, jn_8, jn_9, jn_10, jn_11, jn_12, jn_16, jn_20, jn_24, jn_30, jn_31, jn_32, jn_36, jn_48, jn_57, jn_59, jn_60, jn_63, jn_72, jn_73, jn_96, jn_97, jn_100, jn_122, jn_144, jn_200, jn_240, jn_288, jn_512, jn_840, jn_1200, jn_1600, jn_5040, jn_5390, jn_5400, jn_9999, jn_18688, jn_32400, jn_99999, jn_100000, jn_1000000, jn_858993459, jn_1431655765, jn_252645135, jl_0, jl_1, jl_2, jl_3, jl_8, jl_9, jl_10, jl_20, jl_27, jl_47, jl_96, jl_99, jl_100, jl_200, jl_555, jl_2000, jl_10000, jl_12345, jl_65536, jl_99999, jl_131638, jl_240023, jl_298288, jl_383153, jl_1306021, jl_1960084, jl_4147840, jl_8740238, jl_9872299, jl_175252482, jl_291595537, jl_1103515245, jl_2000000000, jl_2147483648, jl_4721686497, jl_7873079139, J_add, J_sub, J_mul, J_neg, JL_add, JL_sub, JL_mul, JL_neg, J_long, JL_int, ↓remI_fold, ↓remL_fold, Int.reduceAdd, Int.reduceSub, Int.reduceMul, Int.reduceNeg, Int.reduceToNat, J_le, castS, Option.bind_some]
    rw [if_pos (by omega)]
    simp only [mg_0, mg_1, mg_2, mg_3, mg_4, mg_5, mg_6, mg_7, mg_8, mg_9, mg_10, mg_11, mg_12, mg_13, mg_14, mg_15, mg_16, mg_17, mg_18, mg_19, mg_20, mg_21, mg_22, mg_23, mg_24, mg_25, mg_26, mg_27, mg_28, mg_29, mg_30, mg_31, mg_32, mg_33, mg_34, mg_35, mg_36, mg_37, mg_38, mg_39, mg_40, mg_41, mg_42, mg_43, mg_44, mg_45, mBl_30, mBl_31, Option.bind_some]
    by_cases h6 : x = 0
    · simp only [if_pos h6]
    · simp only [if_neg h6]
theorem M_same (hG : GdM S 0 C) (ho : OkC C) (hN : 1000000 ≤ N) {v b u l : Int} (hv : -2147483648 ≤ v ∧ v ≤ 2147483647) (hb : -2147483648 ≤ b ∧ b ≤ 2147483647) (hu : -2147483648 ≤ u ∧ u ≤ 2147483647) (hl : -2147483648 ≤ l ∧ l ≤ 2147483647) : ∃ S', fX5_same N (emM o S w) o (J v) (J b) (J u) (J l) = some (J (sp_same C v b u l), emM o S' w) ∧ FrM S S' := by
  have hG' : GdM (mSI S 0 (J 0)) 0 C := hG
  have hF : FrM S (mSI S 0 (J 0)) := FrM_I S 0 _ (by decide)
  have hR := cR_le C
  unfold fX5_same sp_same
  simp (disch := omega) only [jn_0, jn_1, jn_2, jn_3, jn_4, jn_5, jn_6, jn_8, jn_9, jn_10, jn_11, jn_12, jn_16, jn_20, jn_24, jn_30, jn_31, jn_32, jn_36, jn_48, jn_57, jn_59, jn_60, jn_63, jn_72, jn_73, jn_96, jn_97, jn_100, jn_122, jn_144, jn_200, jn_240, jn_288, jn_512, jn_840, jn_1200, jn_1600, jn_5040, jn_5390, jn_5400, jn_9999, jn_18688, jn_32400, jn_99999, jn_100000, jn_1000000, jn_858993459, jn_1431655765, jn_252645135, jl_0, jl_1, jl_2, jl_3, jl_8, jl_9, jl_10, jl_20, jl_27, jl_47, jl_96, jl_99, jl_100, jl_200, jl_555, jl_2000, jl_10000, jl_12345, jl_65536, jl_99999, jl_131638, jl_240023, jl_298288, jl_383153, jl_1306021, jl_1960084, jl_4147840, jl_8740238, jl_9872299, jl_175252482, jl_291595537, jl_1103515245, jl_2000000000, jl_2147483648, jl_4721686497, jl_7873079139, J_add, J_sub, J_mul, J_neg, JL_add, JL_sub, JL_mul, JL_neg, J_long, JL_int, ↓remI_fold, ↓remL_fold, Int.reduceAdd, Int.reduceSub, Int.reduceMul, Int.reduceNeg, Int.reduceToNat, Classical.not_not, em_t, Bp_eq0, Bp_eq1, Bp_01, Bp_mk, Bp_mk', Bp_0, Bp_0', Bp_1, Bp_1', if_true, if_false, ite_not, mp_0, mp_6, mp_7, mp_8, mp_9, mp_10, mp_11, mp_12, mp_13, mp_14, mp_15, mp_26, mp_30, mp_31, mp_35, mp_36, mp_37, mp_41, mp_43, mp_44, mp_45, M_isToss hG', M_in, Option.bind_some, J_eq]
  by_cases h1 : 0 ≤ v ∧ v < cR C
  case neg => exact ⟨_, by rw [if_neg (fun h => h1 h.1), if_neg h1], hF⟩
  by_cases h2 : 0 ≤ b ∧ b ≤ 99999
  case neg => exact ⟨_, by rw [if_neg (fun h => h2 h.2), if_pos h1, if_neg h2], hF⟩
  rw [if_pos ⟨h1, h2⟩]
  simp only [if_pos h1, if_pos h2]
  by_cases h3 : 0 ≤ u ∧ u < cR C
  case neg => exact ⟨_, by rw [if_neg (fun h => h3 h.1), if_neg h3], hF⟩
  by_cases h4 : 0 ≤ l ∧ l ≤ 99999
  case neg => exact ⟨_, by rw [if_neg (fun h => h4 h.2), if_pos h3, if_neg h4], hF⟩
  rw [if_pos ⟨h3, h4⟩]
  simp only [if_pos h3, if_pos h4]
  obtain ⟨r, hr⟩ : ∃ r : Nat, v = r := ⟨v.toNat, by omega⟩
  subst hr
  have hr' : r < cR C := by omega
  rw [M_starts hG' hN hr' (by omega)]
  simp only [Int.toNat_natCast]
  by_cases h5 : atB C r b = true
  case neg => exact ⟨_, by rw [if_neg h5, if_neg h5, Option.bind_some, if_pos rfl], hF⟩
  simp only [if_pos h5, Option.bind_some]
  rw [if_neg (by rw [J_eq (by omega)]; omega)]
  have hk : kp C = true := by unfold atB at h5; simp at h5; exact h5.1
  have hp : Lv C (r, b) := ⟨hr', by unfold atB at h5; simp at h5; exact h5.2⟩
  have hl' : l ≤ ((r, b) : Nat × Int).2 + 109999 := by show l ≤ b + 109999; omega
  have ht := til_some hk ho hp hl'
  have ht' := (fi_some _ _ _).1 ht
  refine ⟨mBl (mSI S 0 (J 0)) (bat C (r, b) (til C (r, b) l)), ?_, FrM_t hF (FrM_Bl _ _)⟩
  have key := lp_seek (fun n i => fX5_same_38 N o (J u) (J l) (fun w7 => (gI w7 [5] o 31).bind fun x8 => if x8 = J l then (gI w7 [5] o 30).bind fun x9 => if x9 = J u then some (J 1, w7) else some (J 0, w7) else some (J 0, w7)) n (emM o (mBl (mSI S 0 (J 0)) (bat C (r, b) i)) w)) (fun i => some (J (if (bat C (r, b) i).2 = l ∧ ((bat C (r, b) i).1 : Int) = u then 1 else 0), emM o (mBl (mSI S 0 (J 0)) (bat C (r, b) i)) w)) (til C (r, b) l + 1) (fun i => decide (l ≤ (bat C (r, b) i).2)) ?_ (fi_cut ht) N (by omega)
  · exact key
  · intro n i hi
    try dsimp only
    have hb1 := bat_hi C (r, b) i
    have hb2 := til_bd hk ho hp hl' (show i ≤ til C (r, b) l by omega)
    have hb3 := (Lv_at hk ho hp i).1
    simp only at hb1 hb2
    rw [fX5_same_38]
    simp (disch := omega) only [jn_0, jn_1, jn_2, jn_3, jn_4, jn_5, jn_6, jn_8, jn_9, jn_10, jn_11, jn_12, jn_16, jn_20, jn_24, jn_30, jn_31, jn_32, jn_36, jn_48, jn_57, jn_59, jn_60, jn_63, jn_72, jn_73, jn_96, jn_97, jn_100, jn_122, jn_144, jn_200, jn_240, jn_288, jn_512, jn_840, jn_1200, jn_1600, jn_5040, jn_5390, jn_5400, jn_9999, jn_18688, jn_32400, jn_99999, jn_100000, jn_1000000, jn_858993459, jn_1431655765, jn_252645135, jl_0, jl_1, jl_2, jl_3, jl_8, jl_9, jl_10, jl_20, jl_27, jl_47, jl_96, jl_99, jl_100, jl_200, jl_555, jl_2000, jl_10000, jl_12345, jl_65536, jl_99999, jl_131638, jl_240023, jl_298288, jl_383153, jl_1306021, jl_1960084, jl_4147840, jl_8740238, jl_9872299, jl_175252482, jl_291595537, jl_1103515245, jl_2000000000, jl_2147483648, jl_4721686497, jl_7873079139, J_add, J_sub, J_mul, J_neg, JL_add, JL_sub, JL_mul, JL_neg, J_long, JL_int, ↓remI_fold, ↓remL_fold, Int.reduceAdd, Int.reduceSub, Int.reduceMul, Int.reduceNeg, Int.reduceToNat, mg_0, mg_1, mg_2, mg_3, mg_4, mg_5, mg_6, mg_7, mg_8, mg_9, mg_10, mg_11, mg_12, mg_13, mg_14, mg_15, mg_16, mg_17, mg_18, mg_19, mg_20, mg_21, mg_22, mg_23, mg_24, mg_25, mg_26, mg_27, mg_28, mg_29, mg_30, mg_31, mg_32, mg_33, mg_34, mg_35, mg_36, mg_37, mg_38, mg_39, mg_40, mg_41, mg_42, mg_43, mg_44, mg_45, mBl_30, mBl_31, J_le, J_eq, Option.bind_some, decide_eq_true_iff]
    by_cases h6 : l ≤ (bat C (r, b) i).2
    · rw [if_pos h6, if_pos h6]
      by_cases h7 : (bat C (r, b) i).2 = l
      · by_cases h8 : ((bat C (r, b) i).1 : Int) = u
        · rw [if_pos h7, if_pos h8, if_pos ⟨h7, h8⟩]
        · rw [if_pos h7, if_neg h8, if_neg (fun h => h8 h.2)]
      · rw [if_neg h7, if_neg (fun h => h7 h.1)]
    · rw [if_neg h6, if_neg h6, M_follows hG' hb3 (by omega)]; rfl
theorem M_miss56 (hG : GdM S 0 C) (ho : OkC C) (hk : kp C = true) {p : Nat × Int} (hp : Lv C p) (hN : 1000000 ≤ N) {b u m : Int} (hb : 0 ≤ b ∧ b ≤ 99999) (hm : 0 ≤ m ∧ m ≤ 10000) (hu : 0 ≤ u ∧ u ≤ 9) (hpb : b ≤ p.2 ∧ p.2 ≤ b + 9) : fX5_missed_56 N o (J b) (J u) (J m) (fun y13 w14 => some (y13, w14)) N (J 0) (emM o (mBl S p) w) = some (J (sm (fun j => ind (((bat C p j).1 : Int) = u)) (til C p (b + m + 1))), emM o (mBl S (bat C p (til C p (b + m + 1)))) w) := by
  have hR := cR_le C
  have hl' : b + m + 1 ≤ p.2 + 109999 := by omega
  have ht := til_some hk ho hp hl'
  have ht' := (fi_some _ _ _).1 ht
  have key := lp_seek (fun n i => fX5_missed_56 N o (J b) (J u) (J m) (fun y13 w14 => some (y13, w14)) n (J (sm (fun j => ind (((bat C p j).1 : Int) = u)) i)) (emM o (mBl S (bat C p i)) w)) (fun i => some (J (sm (fun j => ind (((bat C p j).1 : Int) = u)) i), emM o (mBl S (bat C p i)) w)) (til C p (b + m + 1) + 1) (fun i => decide (b + m + 1 ≤ (bat C p i).2)) ?_ (fi_cut ht) N (by omega)
  · exact key
  · intro n i hi
    try dsimp only
    have hb1 := bat_hi C p i
    have hb2 := til_bd hk ho hp hl' (show i ≤ til C p (b + m + 1) by omega)
    have hb3 := (Lv_at hk ho hp i).1
    rw [fX5_missed_56]
    simp (disch := omega) only [jn_0, jn_1, jn_2, jn_3, jn_4, jn_5, jn_6, jn_8, jn_9, jn_10, jn_11, jn_12, jn_16, jn_20, jn_24, jn_30, jn_31, jn_32, jn_36, jn_48, jn_57, jn_59, jn_60, jn_63, jn_72, jn_73, jn_96, jn_97, jn_100, jn_122, jn_144, jn_200, jn_240, jn_288, jn_512, jn_840, jn_1200, jn_1600, jn_5040, jn_5390, jn_5400, jn_9999, jn_18688, jn_32400, jn_99999, jn_100000, jn_1000000, jn_858993459, jn_1431655765, jn_252645135, jl_0, jl_1, jl_2, jl_3, jl_8, jl_9, jl_10, jl_20, jl_27, jl_47, jl_96, jl_99, jl_100, jl_200, jl_555, jl_2000, jl_10000, jl_12345, jl_65536, jl_99999, jl_131638, jl_240023, jl_298288, jl_383153, jl_1306021, jl_1960084, jl_4147840, jl_8740238, jl_9872299, jl_175252482, jl_291595537, jl_1103515245, jl_2000000000, jl_2147483648, jl_4721686497, jl_7873079139, J_add, J_sub, J_mul, J_neg, JL_add, JL_sub, JL_mul, JL_neg, J_long, JL_int, ↓remI_fold, ↓remL_fold, Int.reduceAdd, Int.reduceSub, Int.reduceMul, Int.reduceNeg, Int.reduceToNat, mg_0, mg_1, mg_2, mg_3, mg_4, mg_5, mg_6, mg_7, mg_8, mg_9, mg_10, mg_11, mg_12, mg_13, mg_14, mg_15, mg_16, mg_17, mg_18, mg_19, mg_20, mg_21, mg_22, mg_23, mg_24, mg_25, mg_26, mg_27, mg_28, mg_29, mg_30, mg_31, mg_32, mg_33, mg_34, mg_35, mg_36, mg_37, mg_38, mg_39, mg_40, mg_41, mg_42, mg_43, mg_44, mg_45, mBl_30, mBl_31, J_lt, J_eq, Option.bind_some, decide_eq_true_iff]
    by_cases h6 : b + m + 1 ≤ (bat C p i).2
    · rw [if_pos (by omega), if_pos h6]
    · rw [if_neg (by omega), if_neg h6, M_follows hG hb3 (by omega)]
      simp only [sm, Option.bind_some, ind]
      by_cases h8 : ((bat C p i).1 : Int) = u
      · rw [if_pos h8, if_pos h8]; rfl
      · rw [if_neg h8, if_neg h8]; rfl
theorem M_missed (hG : GdM S 0 C) (ho : OkC C) (hN : 1000000 ≤ N) {v b u m : Int} (hv : -2147483648 ≤ v ∧ v ≤ 2147483647) (hb : -2147483648 ≤ b ∧ b ≤ 2147483647) (hu : -2147483648 ≤ u ∧ u ≤ 2147483647) (hm : -2147483648 ≤ m ∧ m ≤ 2147483647) : ∃ S', fX5_missed N (emM o S w) o (J v) (J b) (J u) (J m) = some (J (sp_missed C v b u m), emM o S' w) ∧ FrM S S' := by
  have hG' : GdM (mSI S 0 (J 0)) 0 C := hG
  have hF : FrM S (mSI S 0 (J 0)) := FrM_I S 0 _ (by decide)
  have hR := cR_le C
  unfold fX5_missed sp_missed
  simp (disch := omega) only [jn_0, jn_1, jn_2, jn_3, jn_4, jn_5, jn_6, jn_8, jn_9, jn_10, jn_11, jn_12, jn_16, jn_20, jn_24, jn_30, jn_31, jn_32, jn_36, jn_48, jn_57, jn_59, jn_60, jn_63, jn_72, jn_73, jn_96, jn_97, jn_100, jn_122, jn_144, jn_200, jn_240, jn_288, jn_512, jn_840, jn_1200, jn_1600, jn_5040, jn_5390, jn_5400, jn_9999, jn_18688, jn_32400, jn_99999, jn_100000, jn_1000000, jn_858993459, jn_1431655765, jn_252645135, jl_0, jl_1, jl_2, jl_3, jl_8, jl_9, jl_10, jl_20, jl_27, jl_47, jl_96, jl_99, jl_100, jl_200, jl_555, jl_2000, jl_10000, jl_12345, jl_65536, jl_99999, jl_131638, jl_240023, jl_298288, jl_383153, jl_1306021, jl_1960084, jl_4147840, jl_8740238, jl_9872299, jl_175252482, jl_291595537, jl_1103515245, jl_2000000000, jl_2147483648, jl_4721686497, jl_7873079139, J_add, J_sub, J_mul, J_neg, JL_add, JL_sub, JL_mul, JL_neg, J_long, JL_int, ↓remI_fold, ↓remL_fold, Int.reduceAdd, Int.reduceSub, Int.reduceMul, Int.reduceNeg, Int.reduceToNat, Classical.not_not, em_t, Bp_eq0, Bp_eq1, Bp_01, Bp_mk, Bp_mk', Bp_0, Bp_0', Bp_1, Bp_1', if_true, if_false, ite_not, mp_0, mp_6, mp_7, mp_8, mp_9, mp_10, mp_11, mp_12, mp_13, mp_14, mp_15, mp_26, mp_30, mp_31, mp_35, mp_36, mp_37, mp_41, mp_43, mp_44, mp_45, M_isToss hG', M_isRoof hG', M_in, Option.bind_some, J_eq]
  by_cases h1 : 0 ≤ v ∧ v < cR C
  case neg => exact ⟨_, by rw [if_neg (fun h => h1 h.1), if_neg h1], hF⟩
  by_cases h2 : 0 ≤ b ∧ b ≤ 99999
  case neg => exact ⟨_, by rw [if_neg (fun h => h2 h.2), if_pos h1, if_neg h2], hF⟩
  rw [if_pos ⟨h1, h2⟩]
  simp only [if_pos h1, if_pos h2]
  by_cases h3 : 0 ≤ u ∧ u < cR C
  case neg => exact ⟨_, by rw [if_neg h3, if_neg h3], hF⟩
  simp only [if_pos h3]
  by_cases h4 : 0 ≤ m ∧ m ≤ 10000
  case neg => exact ⟨_, by rw [if_neg h4, if_neg h4], hF⟩
  simp only [if_pos h4]
  obtain ⟨r, hr⟩ : ∃ r : Nat, v = r := ⟨v.toNat, by omega⟩
  subst hr
  have hr' : r < cR C := by omega
  rw [M_starts hG' hN hr' (by omega)]
  simp only [Int.toNat_natCast]
  by_cases h5 : atB C r b = true
  case neg => exact ⟨_, by rw [if_neg h5, if_neg h5, Option.bind_some, if_pos rfl], hF⟩
  simp only [if_pos h5, Option.bind_some]
  rw [if_neg (by rw [J_eq (by omega)]; omega)]
  have hk : kp C = true := by unfold atB at h5; simp at h5; exact h5.1
  have hp0 : Lv C (r, b) := ⟨hr', by unfold atB at h5; simp at h5; exact h5.2⟩
  rw [M_follows hG' hr' (show -900000 ≤ b ∧ b ≤ 900000 by omega), Option.bind_some]
  have hp := Lv_go hk ho hp0
  have h9 := hh_le C r b
  have hb0 : (bgo C (r, b)).2 = b + hh C r b := rfl
  refine ⟨_, M_miss56 hG' ho hk hp hN (by omega) (by omega) (by omega) (by omega), FrM_t hF (FrM_Bl _ _)⟩
theorem shl_le {a : Nat} (h : a ≤ 5) : 1 <<< a ≤ 32 := by
  have : a = 0 ∨ a = 1 ∨ a = 2 ∨ a = 3 ∨ a = 4 ∨ a = 5 := by omega
  rcases this with h | h | h | h | h | h <;> subst h <;> decide
theorem M_readers (hG : GdM S 0 C) (ho : OkC C) (hN : 1000000 ≤ N) {k l : Int} (hk : -2147483648 ≤ k ∧ k ≤ 2147483647) (hl : -2147483648 ≤ l ∧ l ≤ 2147483647) : ∃ S', fX5_readers N (emM o S w) o (J k) (J l) = some (J (sp_readers C k l), emM o S' w) ∧ FrM S S' := by
  have hG' : GdM (mSI S 0 (J 0)) 0 C := hG
  have hF : FrM S (mSI S 0 (J 0)) := FrM_I S 0 _ (by decide)
  have hR := cN_le C
  have hR' := cR_le C
  unfold fX5_readers sp_readers
  simp (disch := omega) only [jn_0, jn_1, jn_2, jn_3, jn_4, jn_5, jn_6, jn_8, jn_9, jn_10, jn_11, jn_12, jn_16, jn_20, jn_24, jn_30, jn_31, jn_32, jn_36, jn_48, jn_57, jn_59, jn_60, jn_63, jn_72, jn_73, jn_96, jn_97, jn_100, jn_122, jn_144, jn_200, jn_240, jn_288, jn_512, jn_840, jn_1200, jn_1600, jn_5040, jn_5390, jn_5400, jn_9999, jn_18688, jn_32400, jn_99999, jn_100000, jn_1000000, jn_858993459, jn_1431655765, jn_252645135, jl_0, jl_1, jl_2, jl_3, jl_8, jl_9, jl_10, jl_20, jl_27, jl_47, jl_96, jl_99, jl_100, jl_200, jl_555, jl_2000, jl_10000, jl_12345, jl_65536, jl_99999, jl_131638, jl_240023, jl_298288, jl_383153, jl_1306021, jl_1960084, jl_4147840, jl_8740238, jl_9872299, jl_175252482, jl_291595537, jl_1103515245, jl_2000000000, jl_2147483648, jl_4721686497, jl_7873079139, J_add, J_sub, J_mul, J_neg, JL_add, JL_sub, JL_mul, JL_neg, J_long, JL_int, ↓remI_fold, ↓remL_fold, Int.reduceAdd, Int.reduceSub, Int.reduceMul, Int.reduceNeg, Int.reduceToNat, Classical.not_not, em_t, Bp_eq0, Bp_eq1, Bp_01, Bp_mk, Bp_mk', Bp_0, Bp_0', Bp_1, Bp_1', if_true, if_false, ite_not, mp_0, mp_6, mp_7, mp_8, mp_9, mp_10, mp_11, mp_12, mp_13, mp_14, mp_15, mp_26, mp_30, mp_31, mp_35, mp_36, mp_37, mp_41, mp_43, mp_44, mp_45, M_isLetter hG', M_isBeat, Option.bind_some]
  by_cases h1 : 0 ≤ k ∧ k < cN C
  case neg => exact ⟨_, by rw [if_neg h1, if_neg h1], hF⟩
  simp only [if_pos h1]
  by_cases h2 : 0 ≤ l ∧ l ≤ 99999
  case neg => exact ⟨_, by rw [if_neg h2, if_neg h2], hF⟩
  simp only [if_pos h2]
  have hl : k.toNat < cN C := by omega
  have hok := ho.2.1 _ hl
  have hA := cA_le C k.toNat
  simp (disch := omega) only [mg_0, mg_1, mg_2, mg_3, mg_4, mg_5, mg_6, mg_7, mg_8, mg_9, mg_10, mg_11, mg_12, mg_13, mg_14, mg_15, mg_16, mg_17, mg_18, mg_19, mg_20, mg_21, mg_22, mg_23, mg_24, mg_25, mg_26, mg_27, mg_28, mg_29, mg_30, mg_31, mg_32, mg_33, mg_34, mg_35, mg_36, mg_37, mg_38, mg_39, mg_40, mg_41, mg_42, mg_43, mg_44, mg_45, mr_1, mr_2, mr_3, mr_4, mr_5, mr_6, mr_7, mr_8, mr_9, mr_10, mr_11, mr_12, mr_13, mr_14, mr_15, mr_16, mr_17, mr_18, mr_19, mr_20, mr_21, mr_22, mr_23, mr_24, mr_25, Option.bind_some]
  rw [show (3 * k).toNat = 3 * k.toNat by omega, show (3 * k + 1).toNat = 3 * k.toNat + 1 by omega, gm_F hG' hl, gm_A hG' hl]
  generalize cF C k.toNat = r at *
  generalize cA C k.toNat = b at *
  have hr' : r < cR C := hok.1
  rw [M_starts hG' hN hr' (by omega)]
  by_cases h5 : atB C r b = true
  case neg => exact ⟨_, by rw [if_neg h5, if_neg h5, Option.bind_some, if_pos rfl], hF⟩
  simp only [if_pos h5, Option.bind_some]
  rw [if_neg (by rw [J_eq (by omega)]; omega)]
  have hk' : kp C = true := by unfold atB at h5; simp at h5; exact h5.1
  have hp : Lv C (r, (b : Int)) := ⟨hr', by unfold atB at h5; simp at h5; exact h5.2⟩
  have hb0 : ((r, (b : Int)) : Nat × Int).2 = b := rfl
  generalize ((r, (b : Int)) : Nat × Int) = p at *
  have hl' : l + 1 ≤ p.2 + 109999 := by omega
  have ht := til_some hk' ho hp hl'
  have ht' := (fi_some _ _ _).1 ht
  refine ⟨mBl (mSI S 0 (J 0)) (bat C p (til C p (l + 1))), ?_, FrM_t hF (FrM_Bl _ _)⟩
  have key := lp_seek (fun n i => fX5_readers_52 N o (J l) (fun y13 w14 => some (y13, w14)) n (J (rds C p i)) (emM o (mBl (mSI S 0 (J 0)) (bat C p i)) w)) (fun i => some (J (rds C p i), emM o (mBl (mSI S 0 (J 0)) (bat C p i)) w)) (til C p (l + 1) + 1) (fun i => decide (l + 1 ≤ (bat C p i).2)) ?_ (fi_cut ht) N (by omega)
  · exact key
  · intro n i hi
    try dsimp only
    have hb1 := bat_hi C p i
    have hb2 := til_bd hk' ho hp hl' (show i ≤ til C p (l + 1) by omega)
    have hb3 := (Lv_at hk' ho hp i).1
    rw [fX5_readers_52]
    simp (disch := omega) only [jn_0, jn_1, jn_2, jn_3, jn_4, jn_5, jn_6, jn_8, jn_9, jn_10, jn_11, jn_12, jn_16, jn_20, jn_24, jn_30, jn_31, jn_32, jn_36, jn_48, jn_57, jn_59, jn_60, jn_63, jn_72, jn_73, jn_96, jn_97, jn_100, jn_122, jn_144, jn_200, jn_240, jn_288, jn_512, jn_840, jn_1200, jn_1600, jn_5040, jn_5390, jn_5400, jn_9999, jn_18688, jn_32400, jn_99999, jn_100000, jn_1000000, jn_858993459, jn_1431655765, jn_252645135, jl_0, jl_1, jl_2, jl_3, jl_8, jl_9, jl_10, jl_20, jl_27, jl_47, jl_96, jl_99, jl_100, jl_200, jl_555, jl_2000, jl_10000, jl_12345, jl_65536, jl_99999, jl_131638, jl_240023, jl_298288, jl_383153, jl_1306021, jl_1960084, jl_4147840, jl_8740238, jl_9872299, jl_175252482, jl_291595537, jl_1103515245, jl_2000000000, jl_2147483648, jl_4721686497, jl_7873079139, J_add, J_sub, J_mul, J_neg, JL_add, JL_sub, JL_mul, JL_neg, J_long, JL_int, ↓remI_fold, ↓remL_fold, Int.reduceAdd, Int.reduceSub, Int.reduceMul, Int.reduceNeg, Int.reduceToNat, mg_0, mg_1, mg_2, mg_3, mg_4, mg_5, mg_6, mg_7, mg_8, mg_9, mg_10, mg_11, mg_12, mg_13, mg_14, mg_15, mg_16, mg_17, mg_18, mg_19, mg_20, mg_21, mg_22, mg_23, mg_24, mg_25, mg_26, mg_27, mg_28, mg_29, mg_30, mg_31, mg_32, mg_33, mg_34, mg_35, mg_36, mg_37, mg_38, mg_39, mg_40, mg_41, mg_42, mg_43, mg_44, mg_45, mBl_30, mBl_31, J_lt, Option.bind_some, decide_eq_true_iff]
    by_cases h6 : l + 1 ≤ (bat C p i).2
    · rw [if_pos (by omega), if_pos h6]
    · rw [if_neg (by omega), if_neg h6, M_follows hG' hb3 (by omega)]
      have e := J_shl 1 (bat C p i).1 (by omega)
      rw [show J ((1 : Nat) : Int) = J 1 from rfl] at e
      rw [e, J_or]
      rfl
theorem rem0 {a n : Int} (h : 0 ≤ a ∧ a ≤ 2147483647 ∧ 0 < n ∧ n ≤ 2147483647) : (remI (J a) (J n) = J 0) = (a % n = 0) := by
  have h1 := Int.emod_nonneg a (show n ≠ 0 by omega)
  have h2 := Int.emod_lt_of_pos a (show 0 < n by omega)
  rw [J_rem h, J_eq (by omega)]
theorem sub0 (a b n : Int) : ((a - b) % n = 0) = (a % n = b % n) := propext Int.emod_eq_emod_iff_emod_sub_eq_zero.symm
theorem M_miss42 (hG : GdM S 0 C) (ho : OkC C) (hk : kp C = true) {r : Nat} {b : Int} (hp : Lv C (r, b)) (hb : 0 ≤ b ∧ b ≤ 99999) {u : Nat} (hu : u ≤ 5) (kf ke : Wd → Option (Int32 × Wd)) {n : Nat} (hn : 6000 < n) : ∃ q : Nat × Int, fX5_misses_42 N o (J r) (J b) (J u) (J (rnd C)) kf ke n (emM o (mBl S (r, b)) w) = (if nxt C (r, b) u = -1 then ke (emM o (mBl S q) w) else kf (emM o (mBl S q) w)) ∧ (nxt C (r, b) u ≠ -1 → q.2 = nxt C (r, b) u) := by
  have hR := cR_le C
  have hp' := rnd_bd C
  have hRr := Rr_le C
  have hr : r < cR C := hp.1
  have hL := ob_some hk ho hp
  have ⟨l1, l2, l3⟩ := (fi_some _ _ _).1 hL
  simp only [decide_eq_true_iff] at l2 l3
  have key := lp_key (fun n i => fX5_misses_42 N o (J r) (J b) (J u) (J (rnd C)) kf ke n (emM o (mBl S (bat C (r, b) i)) w)) (fun i => if (bat C (r, b) (i + 1)).1 = u then kf (emM o (mBl S (bat C (r, b) (i + 1))) w) else ke (emM o (mBl S (bat C (r, b) (i + 1))) w)) (obL C (r, b) + 1) (fun i => decide ((bat C (r, b) (i + 1)).1 = u) || decide (i = obL C (r, b))) ?_ n (by omega)
  · have hf : ∃ i, fi (fun i => decide ((bat C (r, b) (i + 1)).1 = u) || decide (i = obL C (r, b))) (obL C (r, b) + 1) = some i := by
      cases h : fi (fun i => decide ((bat C (r, b) (i + 1)).1 = u) || decide (i = obL C (r, b))) (obL C (r, b) + 1) with
      | some i => exact ⟨i, rfl⟩
      | none => have := (fi_none _ _).1 h (obL C (r, b)) (by omega); simp at this
    have ⟨i, hf⟩ := hf
    rw [hf] at key
    have ⟨f1, f2, f3⟩ := (fi_some _ _ _).1 hf
    refine ⟨bat C (r, b) (i + 1), ?_⟩
    have e0 : bat C (r, b) 0 = (r, b) := rfl
    rw [e0] at key
    rw [key]
    simp only
    have hlo := bat_lo hk ho hp (i + 1)
    simp only at hlo
    by_cases h1 : (bat C (r, b) (i + 1)).1 = u
    · have hn : fi (fun i => decide ((bat C (r, b) (i + 1)).1 = u)) (cR C * rnd C) = some i := by
        apply (fi_some _ _ _).2
        refine ⟨by omega, by simpa using h1, fun j hj => ?_⟩
        have := f3 j hj
        simp at this ⊢
        exact this.1
      have e : nxt C (r, b) u = (bat C (r, b) (i + 1)).2 := by unfold nxt; rw [hn]
      rw [e, if_pos h1, if_neg (by omega)]
      exact ⟨rfl, fun _ => rfl⟩
    · have hi : i = obL C (r, b) := by simpa [h1] using f2
      have hn : fi (fun i => decide ((bat C (r, b) (i + 1)).1 = u)) (cR C * rnd C) = none := by
        apply (fi_none _ _).2
        intro j hj
        rw [decide_eq_true_iff, met_early hk ho hp l2 j]
        have hm := Nat.mod_lt j (show obL C (r, b) + 1 > 0 by omega)
        by_cases h2 : j % (obL C (r, b) + 1) = i
        · rw [h2]; exact h1
        · have := f3 (j % (obL C (r, b) + 1)) (by omega)
          simp at this
          exact this.1
      have e : nxt C (r, b) u = -1 := by unfold nxt; rw [hn]
      rw [e, if_neg h1, if_pos rfl]
      exact ⟨rfl, fun h => absurd rfl h⟩
  · intro n i hi
    have hb1 := bat_hi C (r, b) i
    have hb2 := bat_hi C (r, b) (i + 1)
    have hb3 := (Lv_at hk ho hp i).1
    have hb4 := (Lv_at hk ho hp (i + 1)).1
    simp only at hb1 hb2
    have ef : fX5_follows N (emM o (mBl S (bat C (r, b) i)) w) o = some (emM o (mBl S (bat C (r, b) (i + 1))) w) := M_follows hG hb3 (by omega)
    rw [fX5_misses_42]
    simp (disch := omega) only [jn_0, jn_1, jn_2, jn_3, jn_4, jn_5, jn_6, jn_8, jn_9, jn_10, jn_11, jn_12, jn_16, jn_20, jn_24, jn_30, jn_31, jn_32, jn_36, jn_48, jn_57, jn_59, jn_60, jn_63, jn_72, jn_73, jn_96, jn_97, jn_100, jn_122, jn_144, jn_200, jn_240, jn_288, jn_512, jn_840, jn_1200, jn_1600, jn_5040, jn_5390, jn_5400, jn_9999, jn_18688, jn_32400, jn_99999, jn_100000, jn_1000000, jn_858993459, jn_1431655765, jn_252645135, jl_0, jl_1, jl_2, jl_3, jl_8, jl_9, jl_10, jl_20, jl_27, jl_47, jl_96, jl_99, jl_100, jl_200, jl_555, jl_2000, jl_10000, jl_12345, jl_65536, jl_99999, jl_131638, jl_240023, jl_298288, jl_383153, jl_1306021, jl_1960084, jl_4147840, jl_8740238, jl_9872299, jl_175252482, jl_291595537, jl_1103515245, jl_2000000000, jl_2147483648, jl_4721686497, jl_7873079139, J_add, J_sub, J_mul, J_neg, JL_add, JL_sub, JL_mul, JL_neg, J_long, JL_int, ↓remI_fold, ↓remL_fold, Int.reduceAdd, Int.reduceSub, Int.reduceMul, Int.reduceNeg, Int.reduceToNat, ef, mg_0, mg_1, mg_2, mg_3, mg_4, mg_5, mg_6, mg_7, mg_8, mg_9, mg_10, mg_11, mg_12, mg_13, mg_14, mg_15, mg_16, mg_17, mg_18, mg_19, mg_20, mg_21, mg_22, mg_23, mg_24, mg_25, mg_26, mg_27, mg_28, mg_29, mg_30, mg_31, mg_32, mg_33, mg_34, mg_35, mg_36, mg_37, mg_38, mg_39, mg_40, mg_41, mg_42, mg_43, mg_44, mg_45, mBl_30, mBl_31, J_eq, rem0, castE, Option.bind_some, Bool.or_eq_true, decide_eq_true_iff, sub0]
    by_cases h1 : (bat C (r, b) (i + 1)).1 = u
    · rw [if_pos h1, if_pos (Or.inl h1), if_pos h1]
    · rw [if_neg h1, if_neg h1]
      by_cases h2 : i = obL C (r, b)
      · have h3 : Al C (bat C (r, b) (i + 1)) (r, b) := by rw [h2]; exact l2
        rw [if_pos (Or.inr h2), if_pos h3.1, if_neg (by omega), if_pos h3.2]
      · rw [if_neg (show ¬ ((bat C (r, b) (i + 1)).1 = u ∨ i = obL C (r, b)) from fun h => h.elim h1 h2)]
        by_cases h4 : (bat C (r, b) (i + 1)).1 = r
        · rw [if_pos h4, if_neg (by omega), if_neg (fun h5 => l3 i (by omega) ⟨h4, h5⟩)]
        · rw [if_neg h4]
theorem M_alone53 (hG : GdM S 0 C) (ho : OkC C) (hk : kp C = true) {r : Nat} {b : Int} (hp : Lv C (r, b)) (hb : 0 ≤ b ∧ b ≤ 99999) {k : Int} (hkk : 0 ≤ k ∧ k < cN C) {u : Nat} (hu' : u = cD C k.toNat) (kf ke : Wd → Option (Int32 × Wd)) {n : Nat} (hn : 6000 < n) : ∃ q : Nat × Int, fX5_alone_53 N o (J k) (J r) (J b) (J (rnd C)) kf ke n (emM o (mBl S (r, b)) w) = (if nxt C (r, b) u = -1 then ke (emM o (mBl S q) w) else kf (emM o (mBl S q) w)) ∧ (nxt C (r, b) u ≠ -1 → q.2 = nxt C (r, b) u) := by
  have hR := cR_le C
  have hNl := cN_le C
  have hu : u ≤ 5 := hu' ▸ cD_le C k.toNat
  have hGd := gm_D hG (show k.toNat < cN C by omega)
  rw [← hu'] at hGd
  have hp' := rnd_bd C
  have hRr := Rr_le C
  have hr : r < cR C := hp.1
  have hL := ob_some hk ho hp
  have ⟨l1, l2, l3⟩ := (fi_some _ _ _).1 hL
  simp only [decide_eq_true_iff] at l2 l3
  have key := lp_key (fun n i => fX5_alone_53 N o (J k) (J r) (J b) (J (rnd C)) kf ke n (emM o (mBl S (bat C (r, b) i)) w)) (fun i => if (bat C (r, b) (i + 1)).1 = u then kf (emM o (mBl S (bat C (r, b) (i + 1))) w) else ke (emM o (mBl S (bat C (r, b) (i + 1))) w)) (obL C (r, b) + 1) (fun i => decide ((bat C (r, b) (i + 1)).1 = u) || decide (i = obL C (r, b))) ?_ n (by omega)
  · have hf : ∃ i, fi (fun i => decide ((bat C (r, b) (i + 1)).1 = u) || decide (i = obL C (r, b))) (obL C (r, b) + 1) = some i := by
      cases h : fi (fun i => decide ((bat C (r, b) (i + 1)).1 = u) || decide (i = obL C (r, b))) (obL C (r, b) + 1) with
      | some i => exact ⟨i, rfl⟩
      | none => have := (fi_none _ _).1 h (obL C (r, b)) (by omega); simp at this
    have ⟨i, hf⟩ := hf
    rw [hf] at key
    have ⟨f1, f2, f3⟩ := (fi_some _ _ _).1 hf
    refine ⟨bat C (r, b) (i + 1), ?_⟩
    have e0 : bat C (r, b) 0 = (r, b) := rfl
    rw [e0] at key
    rw [key]
    simp only
    have hlo := bat_lo hk ho hp (i + 1)
    simp only at hlo
    by_cases h1 : (bat C (r, b) (i + 1)).1 = u
    · have hn : fi (fun i => decide ((bat C (r, b) (i + 1)).1 = u)) (cR C * rnd C) = some i := by
        apply (fi_some _ _ _).2
        refine ⟨by omega, by simpa using h1, fun j hj => ?_⟩
        have := f3 j hj
        simp at this ⊢
        exact this.1
      have e : nxt C (r, b) u = (bat C (r, b) (i + 1)).2 := by unfold nxt; rw [hn]
      rw [e, if_pos h1, if_neg (by omega)]
      exact ⟨rfl, fun _ => rfl⟩
    · have hi : i = obL C (r, b) := by simpa [h1] using f2
      have hn : fi (fun i => decide ((bat C (r, b) (i + 1)).1 = u)) (cR C * rnd C) = none := by
        apply (fi_none _ _).2
        intro j hj
        rw [decide_eq_true_iff, met_early hk ho hp l2 j]
        have hm := Nat.mod_lt j (show obL C (r, b) + 1 > 0 by omega)
        by_cases h2 : j % (obL C (r, b) + 1) = i
        · rw [h2]; exact h1
        · have := f3 (j % (obL C (r, b) + 1)) (by omega)
          simp at this
          exact this.1
      have e : nxt C (r, b) u = -1 := by unfold nxt; rw [hn]
      rw [e, if_neg h1, if_pos rfl]
      exact ⟨rfl, fun h => absurd rfl h⟩
  · intro n i hi
    have hb1 := bat_hi C (r, b) i
    have hb2 := bat_hi C (r, b) (i + 1)
    have hb3 := (Lv_at hk ho hp i).1
    have hb4 := (Lv_at hk ho hp (i + 1)).1
    simp only at hb1 hb2
    have ef : fX5_follows N (emM o (mBl S (bat C (r, b) i)) w) o = some (emM o (mBl S (bat C (r, b) (i + 1))) w) := M_follows hG hb3 (by omega)
    rw [fX5_alone_53]
    have ea : aI 0 (emM o (mBl S (bat C (r, b) (i + 1))) w) (o + 14) (J (3 * k + 2)) = some (J u) := by
      rw [mr_14 o _ w (by omega), show (3 * k + 2).toNat = 3 * k.toNat + 2 by omega]
      exact congrArg some hGd
    simp (disch := omega) only [jn_0, jn_1, jn_2, jn_3, jn_4, jn_5, jn_6, jn_8, jn_9, jn_10, jn_11, jn_12, jn_16, jn_20, jn_24, jn_30, jn_31, jn_32, jn_36, jn_48, jn_57, jn_59, jn_60, jn_63, jn_72, jn_73, jn_96, jn_97, jn_100, jn_122, jn_144, jn_200, jn_240, jn_288, jn_512, jn_840, jn_1200, jn_1600, jn_5040, jn_5390, jn_5400, jn_9999, jn_18688, jn_32400, jn_99999, jn_100000, jn_1000000, jn_858993459, jn_1431655765, jn_252645135, jl_0, jl_1, jl_2, jl_3, jl_8, jl_9, jl_10, jl_20, jl_27, jl_47, jl_96, jl_99, jl_100, jl_200, jl_555, jl_2000, jl_10000, jl_12345, jl_65536, jl_99999, jl_131638, jl_240023, jl_298288, jl_383153, jl_1306021, jl_1960084, jl_4147840, jl_8740238, jl_9872299, jl_175252482, jl_291595537, jl_1103515245, jl_2000000000, jl_2147483648, jl_4721686497, jl_7873079139, J_add, J_sub, J_mul, J_neg, JL_add, JL_sub, JL_mul, JL_neg, J_long, JL_int, ↓remI_fold, ↓remL_fold, Int.reduceAdd, Int.reduceSub, Int.reduceMul, Int.reduceNeg, Int.reduceToNat, ef, mg_0, mg_1, mg_2, mg_3, mg_4, mg_5, mg_6, mg_7, mg_8, mg_9, mg_10, mg_11, mg_12, mg_13, mg_14, mg_15, mg_16, mg_17, mg_18, mg_19, mg_20, mg_21, mg_22, mg_23, mg_24, mg_25, mg_26, mg_27, mg_28, mg_29, mg_30, mg_31, mg_32, mg_33, mg_34, mg_35, mg_36, mg_37, mg_38, mg_39, mg_40, mg_41, mg_42, mg_43, mg_44, mg_45, ea, mBl_30, mBl_31, J_eq, rem0, castE, Option.bind_some, Bool.or_eq_true, decide_eq_true_iff, sub0]
    by_cases h1 : (bat C (r, b) (i + 1)).1 = u
    · rw [if_pos h1, if_pos (Or.inl h1), if_pos h1]
    · rw [if_neg h1, if_neg h1]
      by_cases h2 : i = obL C (r, b)
      · have h3 : Al C (bat C (r, b) (i + 1)) (r, b) := by rw [h2]; exact l2
        rw [if_pos (Or.inr h2), if_pos h3.1, if_neg (by omega), if_pos h3.2]
      · rw [if_neg (show ¬ ((bat C (r, b) (i + 1)).1 = u ∨ i = obL C (r, b)) from fun h => h.elim h1 h2)]
        by_cases h4 : (bat C (r, b) (i + 1)).1 = r
        · rw [if_pos h4, if_neg (by omega), if_neg (fun h5 => l3 i (by omega) ⟨h4, h5⟩)]
        · rw [if_neg h4]
theorem M_misses (hG : GdM S 0 C) (ho : OkC C) (hN : 1000000 ≤ N) {v b u : Int} (hv : -2147483648 ≤ v ∧ v ≤ 2147483647) (hb : -2147483648 ≤ b ∧ b ≤ 2147483647) (hu : -2147483648 ≤ u ∧ u ≤ 2147483647) : ∃ S', fX5_misses N (emM o S w) o (J v) (J b) (J u) = some (J (sp_misses C v b u), emM o S' w) ∧ FrM S S' := by
  have hG' : GdM (mSI S 0 (J 0)) 0 C := hG
  have hF : FrM S (mSI S 0 (J 0)) := FrM_I S 0 _ (by decide)
  have hR := cR_le C
  unfold fX5_misses sp_misses
  simp (disch := omega) only [jn_0, jn_1, jn_2, jn_3, jn_4, jn_5, jn_6, jn_8, jn_9, jn_10, jn_11, jn_12, jn_16, jn_20, jn_24, jn_30, jn_31, jn_32, jn_36, jn_48, jn_57, jn_59, jn_60, jn_63, jn_72, jn_73, jn_96, jn_97, jn_100, jn_122, jn_144, jn_200, jn_240, jn_288, jn_512, jn_840, jn_1200, jn_1600, jn_5040, jn_5390, jn_5400, jn_9999, jn_18688, jn_32400, jn_99999, jn_100000, jn_1000000, jn_858993459, jn_1431655765, jn_252645135, jl_0, jl_1, jl_2, jl_3, jl_8, jl_9, jl_10, jl_20, jl_27, jl_47, jl_96, jl_99, jl_100, jl_200, jl_555, jl_2000, jl_10000, jl_12345, jl_65536, jl_99999, jl_131638, jl_240023, jl_298288, jl_383153, jl_1306021, jl_1960084, jl_4147840, jl_8740238, jl_9872299, jl_175252482, jl_291595537, jl_1103515245, jl_2000000000, jl_2147483648, jl_4721686497, jl_7873079139, J_add, J_sub, J_mul, J_neg, JL_add, JL_sub, JL_mul, JL_neg, J_long, JL_int, ↓remI_fold, ↓remL_fold, Int.reduceAdd, Int.reduceSub, Int.reduceMul, Int.reduceNeg, Int.reduceToNat, Classical.not_not, em_t, Bp_eq0, Bp_eq1, Bp_01, Bp_mk, Bp_mk', Bp_0, Bp_0', Bp_1, Bp_1', if_true, if_false, ite_not, mp_0, mp_6, mp_7, mp_8, mp_9, mp_10, mp_11, mp_12, mp_13, mp_14, mp_15, mp_26, mp_30, mp_31, mp_35, mp_36, mp_37, mp_41, mp_43, mp_44, mp_45, M_isToss hG', M_isRoof hG', M_in, Option.bind_some]
  by_cases h1 : 0 ≤ v ∧ v < cR C
  case neg => exact ⟨_, by rw [if_neg (fun h => h1 h.1), if_neg h1], hF⟩
  by_cases h2 : 0 ≤ b ∧ b ≤ 99999
  case neg => exact ⟨_, by rw [if_neg (fun h => h2 h.2), if_pos h1, if_neg h2], hF⟩
  rw [if_pos ⟨h1, h2⟩]
  simp only [if_pos h1, if_pos h2]
  by_cases h3 : 0 ≤ u ∧ u < cR C
  case neg => exact ⟨_, by rw [if_neg h3, if_neg h3], hF⟩
  simp only [if_pos h3]
  obtain ⟨r, hr⟩ : ∃ r : Nat, v = r := ⟨v.toNat, by omega⟩
  subst hr
  obtain ⟨q, hr⟩ : ∃ r : Nat, u = r := ⟨u.toNat, by omega⟩
  subst hr
  have hr' : r < cR C := by omega
  rw [M_starts hG' hN hr' (by omega)]
  simp only [Int.toNat_natCast]
  by_cases h5 : atB C r b = true
  case neg => exact ⟨_, by rw [if_neg h5, if_neg h5, Option.bind_some, if_pos rfl], hF⟩
  simp only [if_pos h5, Option.bind_some]
  rw [if_neg (by rw [J_eq (by omega)]; omega)]
  have hk : kp C = true := by unfold atB at h5; simp at h5; exact h5.1
  have hp : Lv C (r, b) := ⟨hr', by unfold atB at h5; simp at h5; exact h5.2⟩
  have hG2 : GdM (mBl (mSI S 0 (J 0)) (r, b)) 0 C := hG
  rw [M_round hG2 (by omega), Option.bind_some]
  have ⟨q', e, hq'⟩ := M_miss42 (N := N) (o := o) (w := w) hG' ho hk hp h2 (u := q) (by omega) (fun w10 => (gI w10 [5] o 31).bind fun x11 => some (x11, w10)) (fun w12 => some (J (-1), w12)) (n := N) (by omega)
  refine ⟨mBl (mSI S 0 (J 0)) q', ?_, FrM_t hF (FrM_Bl _ _)⟩
  rw [e]
  by_cases h6 : nxt C (r, b) q = -1
  · rw [if_pos h6, h6]
  · rw [if_neg h6, ← hq' h6]
    simp only [mg_0, mg_1, mg_2, mg_3, mg_4, mg_5, mg_6, mg_7, mg_8, mg_9, mg_10, mg_11, mg_12, mg_13, mg_14, mg_15, mg_16, mg_17, mg_18, mg_19, mg_20, mg_21, mg_22, mg_23, mg_24, mg_25, mg_26, mg_27, mg_28, mg_29, mg_30, mg_31, mg_32, mg_33, mg_34, mg_35, mg_36, mg_37, mg_38, mg_39, mg_40, mg_41, mg_42, mg_43, mg_44, mg_45, mBl_31, Option.bind_some]
theorem M_alone (hG : GdM S 0 C) (ho : OkC C) (hN : 1000000 ≤ N) {k : Int} (hk : -2147483648 ≤ k ∧ k ≤ 2147483647) : ∃ S', fX5_alone N (emM o S w) o (J k) = some (J (sp_alone C k), emM o S' w) ∧ FrM S S' := by
  have hG' : GdM (mSI S 0 (J 0)) 0 C := hG
  have hF : FrM S (mSI S 0 (J 0)) := FrM_I S 0 _ (by decide)
  have hR := cN_le C
  have hR' := cR_le C
  unfold fX5_alone sp_alone
  simp (disch := omega) only [jn_0, jn_1, jn_2, jn_3, jn_4, jn_5, jn_6, jn_8, jn_9, jn_10, jn_11, jn_12, jn_16, jn_20, jn_24, jn_30, jn_31, jn_32, jn_36, jn_48, jn_57, jn_59, jn_60, jn_63, jn_72, jn_73, jn_96, jn_97, jn_100, jn_122, jn_144, jn_200, jn_240, jn_288, jn_512, jn_840, jn_1200, jn_1600, jn_5040, jn_5390, jn_5400, jn_9999, jn_18688, jn_32400, jn_99999, jn_100000, jn_1000000, jn_858993459, jn_1431655765, jn_252645135, jl_0, jl_1, jl_2, jl_3, jl_8, jl_9, jl_10, jl_20, jl_27, jl_47, jl_96, jl_99, jl_100, jl_200, jl_555, jl_2000, jl_10000, jl_12345, jl_65536, jl_99999, jl_131638, jl_240023, jl_298288, jl_383153, jl_1306021, jl_1960084, jl_4147840, jl_8740238, jl_9872299, jl_175252482, jl_291595537, jl_1103515245, jl_2000000000, jl_2147483648, jl_4721686497, jl_7873079139, J_add, J_sub, J_mul, J_neg, JL_add, JL_sub, JL_mul, JL_neg, J_long, JL_int, ↓remI_fold, ↓remL_fold, Int.reduceAdd, Int.reduceSub, Int.reduceMul, Int.reduceNeg, Int.reduceToNat, Classical.not_not, em_t, Bp_eq0, Bp_eq1, Bp_01, Bp_mk, Bp_mk', Bp_0, Bp_0', Bp_1, Bp_1', if_true, if_false, ite_not, mp_0, mp_6, mp_7, mp_8, mp_9, mp_10, mp_11, mp_12, mp_13, mp_14, mp_15, mp_26, mp_30, mp_31, mp_35, mp_36, mp_37, mp_41, mp_43, mp_44, mp_45, M_isLetter hG', Option.bind_some]
  by_cases h1 : 0 ≤ k ∧ k < cN C
  case neg => exact ⟨_, by rw [if_neg h1, if_neg h1], hF⟩
  simp only [if_pos h1]
  have hl : k.toNat < cN C := by omega
  have hok := ho.2.1 _ hl
  have hA := cA_le C k.toNat
  simp (disch := omega) only [mg_0, mg_1, mg_2, mg_3, mg_4, mg_5, mg_6, mg_7, mg_8, mg_9, mg_10, mg_11, mg_12, mg_13, mg_14, mg_15, mg_16, mg_17, mg_18, mg_19, mg_20, mg_21, mg_22, mg_23, mg_24, mg_25, mg_26, mg_27, mg_28, mg_29, mg_30, mg_31, mg_32, mg_33, mg_34, mg_35, mg_36, mg_37, mg_38, mg_39, mg_40, mg_41, mg_42, mg_43, mg_44, mg_45, mr_1, mr_2, mr_3, mr_4, mr_5, mr_6, mr_7, mr_8, mr_9, mr_10, mr_11, mr_12, mr_13, mr_14, mr_15, mr_16, mr_17, mr_18, mr_19, mr_20, mr_21, mr_22, mr_23, mr_24, mr_25, Option.bind_some]
  rw [show (3 * k).toNat = 3 * k.toNat by omega, show (3 * k + 1).toNat = 3 * k.toNat + 1 by omega, gm_F hG' hl, gm_A hG' hl]
  generalize cF C k.toNat = r at *
  generalize cA C k.toNat = b at *
  have hr' : r < cR C := hok.1
  rw [M_starts hG' hN hr' (by omega)]
  by_cases h5 : atB C r b = true
  case neg => exact ⟨_, by rw [if_neg h5, if_neg h5, Option.bind_some, if_pos rfl], hF⟩
  simp only [if_pos h5, Option.bind_some]
  rw [if_neg (by rw [J_eq (by omega)]; omega)]
  have hk : kp C = true := by unfold atB at h5; simp at h5; exact h5.1
  have hp : Lv C (r, (b : Int)) := ⟨hr', by unfold atB at h5; simp at h5; exact h5.2⟩
  have hG2 : GdM (mBl (mSI S 0 (J 0)) (r, (b : Int))) 0 C := hG
  rw [M_round hG2 (by omega), Option.bind_some]
  have ⟨q', e, hq'⟩ := M_alone53 (N := N) (o := o) (w := w) hG' ho hk hp (by omega) h1 rfl (fun w10 => (gI w10 [5] o 31).bind fun x11 => some (x11, w10)) (fun w12 => some (J (-1), w12)) (n := N) (by omega)
  refine ⟨mBl (mSI S 0 (J 0)) q', ?_, FrM_t hF (FrM_Bl _ _)⟩
  rw [e]
  by_cases h6 : nxt C (r, (b : Int)) (cD C k.toNat) = -1
  · rw [if_pos h6, h6]
  · rw [if_neg h6, ← hq' h6]
    simp only [mg_0, mg_1, mg_2, mg_3, mg_4, mg_5, mg_6, mg_7, mg_8, mg_9, mg_10, mg_11, mg_12, mg_13, mg_14, mg_15, mg_16, mg_17, mg_18, mg_19, mg_20, mg_21, mg_22, mg_23, mg_24, mg_25, mg_26, mg_27, mg_28, mg_29, mg_30, mg_31, mg_32, mg_33, mg_34, mg_35, mg_36, mg_37, mg_38, mg_39, mg_40, mg_41, mg_42, mg_43, mg_44, mg_45, mBl_31, Option.bind_some]
theorem M_orbit (hG : GdM S 0 C) (ho : OkC C) (hN : 1000000 ≤ N) {v b x : Int} (hv : -2147483648 ≤ v ∧ v ≤ 2147483647) (hb : -2147483648 ≤ b ∧ b ≤ 2147483647) (hx : -2147483648 ≤ x ∧ x ≤ 2147483647) : ∃ S', fX5_orbit N (emM o S w) o (J v) (J b) (J x) = some (J (sp_orbit C v b x), emM o S' w) ∧ FrM S S' := by
  have hG' : GdM (mSI S 0 (J 0)) 0 C := hG
  have hF : FrM S (mSI S 0 (J 0)) := FrM_I S 0 _ (by decide)
  have hR := cR_le C
  have hp' := rnd_bd C
  have hRr := Rr_le C
  unfold fX5_orbit sp_orbit
  simp (disch := omega) only [jn_0, jn_1, jn_2, jn_3, jn_4, jn_5, jn_6, jn_8, jn_9, jn_10, jn_11, jn_12, jn_16, jn_20, jn_24, jn_30, jn_31, jn_32, jn_36, jn_48, jn_57, jn_59, jn_60, jn_63, jn_72, jn_73, jn_96, jn_97, jn_100, jn_122, jn_144, jn_200, jn_240, jn_288, jn_512, jn_840, jn_1200, jn_1600, jn_5040, jn_5390, jn_5400, jn_9999, jn_18688, jn_32400, jn_99999, jn_100000, jn_1000000, jn_858993459, jn_1431655765, jn_252645135, jl_0, jl_1, jl_2, jl_3, jl_8, jl_9, jl_10, jl_20, jl_27, jl_47, jl_96, jl_99, jl_100, jl_200, jl_555, jl_2000, jl_10000, jl_12345, jl_65536, jl_99999, jl_131638, jl_240023, jl_298288, jl_383153, jl_1306021, jl_1960084, jl_4147840, jl_8740238, jl_9872299, jl_175252482, jl_291595537, jl_1103515245, jl_2000000000, jl_2147483648, jl_4721686497, jl_7873079139, J_add, J_sub, J_mul, J_neg, JL_add, JL_sub, JL_mul, JL_neg, J_long, JL_int, ↓remI_fold, ↓remL_fold, Int.reduceAdd, Int.reduceSub, Int.reduceMul, Int.reduceNeg, Int.reduceToNat, Classical.not_not, em_t, Bp_eq0, Bp_eq1, Bp_01, Bp_mk, Bp_mk', Bp_0, Bp_0', Bp_1, Bp_1', if_true, if_false, ite_not, mp_0, mp_6, mp_7, mp_8, mp_9, mp_10, mp_11, mp_12, mp_13, mp_14, mp_15, mp_26, mp_30, mp_31, mp_35, mp_36, mp_37, mp_41, mp_43, mp_44, mp_45, M_isToss hG', M_in, Option.bind_some, J_eq]
  by_cases h1 : 0 ≤ v ∧ v < cR C
  case neg => exact ⟨_, by rw [if_neg (fun h => h1 h.1), if_neg h1], hF⟩
  by_cases h2 : 0 ≤ b ∧ b ≤ 99999
  case neg => exact ⟨_, by rw [if_neg (fun h => h2 h.2), if_pos h1, if_neg h2], hF⟩
  rw [if_pos ⟨h1, h2⟩]
  simp only [if_pos h1, if_pos h2]
  by_cases h3 : 0 ≤ x ∧ x ≤ 3
  case neg => exact ⟨_, by rw [if_neg h3, if_neg h3], hF⟩
  simp only [if_pos h3]
  obtain ⟨r, hr⟩ : ∃ r : Nat, v = r := ⟨v.toNat, by omega⟩
  subst hr
  have hr' : r < cR C := by omega
  rw [M_starts hG' hN hr' (by omega)]
  simp only [Int.toNat_natCast]
  by_cases h5 : atB C r b = true
  case neg => exact ⟨_, by rw [if_neg h5, if_neg h5, Option.bind_some, if_pos rfl], hF⟩
  simp only [if_pos h5, Option.bind_some]
  rw [if_neg (by rw [J_eq (by omega)]; omega)]
  have hk : kp C = true := by unfold atB at h5; simp at h5; exact h5.1
  have hp : Lv C (r, b) := ⟨hr', by unfold atB at h5; simp at h5; exact h5.2⟩
  have hG2 : GdM (mBl (mSI S 0 (J 0)) (r, b)) 0 C := hG
  rw [M_round hG2 (by omega), Option.bind_some]
  have hL := ob_some hk ho hp
  have ⟨l1, l2, l3⟩ := (fi_some _ _ _).1 hL
  refine ⟨mBl (mSI S 0 (J 0)) (bat C (r, b) (obL C (r, b) + 1)), ?_, FrM_t hF (FrM_Bl _ _)⟩
  have key := lp_seek (fun n i => fX5_orbit_52 N o (J r) (J b) (J x) (J (rnd C)) (fun y12 y13 w14 => (gI w14 [5] o 31).bind fun x15 => if x = 0 then some (y12, w14) else if x = 1 then some (x15 - J b, w14) else if x = 2 then if J (rnd C) = J 0 then none else some ((x15 - J b) / J (rnd C), w14) else some (y13, w14)) n (J (i : Int)) (J (rds C (r, b) i)) (emM o (mBl (mSI S 0 (J 0)) (bat C (r, b) i)) w)) (fun i => some (J (if x = 0 then (i : Int) + 1 else if x = 1 then (bat C (r, b) (i + 1)).2 - b else if x = 2 then ((bat C (r, b) (i + 1)).2 - b) / rnd C else rds C (r, b) (i + 1)), emM o (mBl (mSI S 0 (J 0)) (bat C (r, b) (i + 1))) w)) (obL C (r, b) + 1) (fun i => decide (Al C (bat C (r, b) (i + 1)) (r, b))) ?_ (fi_cut hL) N (by omega)
  · exact key
  · intro n i hi
    try dsimp only
    have hb1 := bat_hi C (r, b) i
    have hb2 := bat_hi C (r, b) (i + 1)
    have hb3 := (Lv_at hk ho hp i).1
    have hb4 := (Lv_at hk ho hp (i + 1)).1
    simp only at hb1 hb2
    have ef : fX5_follows N (emM o (mBl (mSI S 0 (J 0)) (bat C (r, b) i)) w) o = some (emM o (mBl (mSI S 0 (J 0)) (bat C (r, b) (i + 1))) w) := M_follows hG' hb3 (by omega)
    have es := J_shl 1 (bat C (r, b) i).1 (by omega)
    rw [show J ((1 : Nat) : Int) = J 1 from rfl] at es
    have er : rds C (r, b) i ||| 1 <<< (bat C (r, b) i).1 = rds C (r, b) (i + 1) := rfl
    rw [fX5_orbit_52]
    simp (disch := omega) only [jn_0, jn_1, jn_2, jn_3, jn_4, jn_5, jn_6, jn_8, jn_9, jn_10, jn_11, jn_12, jn_16, jn_20, jn_24, jn_30, jn_31, jn_32, jn_36, jn_48, jn_57, jn_59, jn_60, jn_63, jn_72, jn_73, jn_96, jn_97, jn_100, jn_122, jn_144, jn_200, jn_240, jn_288, jn_512, jn_840, jn_1200, jn_1600, jn_5040, jn_5390, jn_5400, jn_9999, jn_18688, jn_32400, jn_99999, jn_100000, jn_1000000, jn_858993459, jn_1431655765, jn_252645135, jl_0, jl_1, jl_2, jl_3, jl_8, jl_9, jl_10, jl_20, jl_27, jl_47, jl_96, jl_99, jl_100, jl_200, jl_555, jl_2000, jl_10000, jl_12345, jl_65536, jl_99999, jl_131638, jl_240023, jl_298288, jl_383153, jl_1306021, jl_1960084, jl_4147840, jl_8740238, jl_9872299, jl_175252482, jl_291595537, jl_1103515245, jl_2000000000, jl_2147483648, jl_4721686497, jl_7873079139, J_add, J_sub, J_mul, J_neg, JL_add, JL_sub, JL_mul, JL_neg, J_long, JL_int, ↓remI_fold, ↓remL_fold, Int.reduceAdd, Int.reduceSub, Int.reduceMul, Int.reduceNeg, Int.reduceToNat, mg_30, mBl_30]
    simp only [Option.bind_some]
    simp only [ef]
    simp only [Option.bind_some]
    simp only [mg_30, mg_31, mBl_30, mBl_31, Option.bind_some]
    simp only [decide_eq_true_iff]
    simp only [J_sub, J_add]
    simp (disch := omega) only [rem0]
    simp (disch := omega) only [J_eq, castE]
    simp (disch := omega) only [sub0]
    rw [es, J_or, er, show (i : Int) + 1 = ((i + 1 : Nat) : Int) by omega]
    by_cases h6 : Al C (bat C (r, b) (i + 1)) (r, b)
    · rw [if_pos h6.1, if_neg (by omega), if_pos h6.2, if_pos h6]
      by_cases h7 : x = 0
      · simp only [if_pos h7]
      simp only [if_neg h7]
      by_cases h8 : x = 1
      · simp only [if_pos h8]
      simp only [if_neg h8]
      by_cases h9 : x = 2
      · simp only [if_pos h9]
        rw [if_neg (by omega), J_div (by omega)]
      simp only [if_neg h9]
    · rw [if_neg h6]
      by_cases h7 : (bat C (r, b) (i + 1)).1 = r
      · rw [if_pos h7, if_neg (by omega), if_neg (fun h => h6 ⟨h7, h⟩)]
      · rw [if_neg h7]
end
