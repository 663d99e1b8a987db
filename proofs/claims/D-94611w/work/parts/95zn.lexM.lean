/-! the reference: the next token -/
set_option maxRecDepth 100000
theorem mSI_s (S : MS) (k : Nat) (x y : Int32) : mSI (mSI S k x) k y = mSI S k y := by
  unfold mSI
  refine Prod.ext (funext fun j => ?_) rfl
  simp only
  by_cases h : j = k <;> simp [h]
theorem mSI_2 (S : MS) {a b : Nat} (x y x' y' : Int32) : mSI (mSI (mSI (mSI S a x) b y) a x') b y' = mSI (mSI S a x') b y' := by
  unfold mSI
  refine Prod.ext (funext fun j => ?_) rfl
  simp only
  by_cases h : j = b <;> by_cases h' : j = a <;> simp [h, h']
theorem mSL_s (S : MS) (k : Nat) (x y : Int64) : mSL (mSL S k x) k y = mSL S k y := by
  unfold mSL
  refine Prod.ext rfl (Prod.ext (funext fun j => ?_) rfl)
  simp only
  by_cases h : j = k <;> simp [h]
theorem mSL_I (S : MS) (k j : Nat) (x : Int32) (y : Int64) : mSL (mSI S k x) j y = mSI (mSL S j y) k x := rfl
def TpM (S : MS) (T : Tx) : Prop := mi S 6 = J (T.2 : Int) ∧ T.2 ≤ 1600 ∧ ∀ i, i < T.2 → ma S 5 i = T.1 i
/-- the token that begins at q -/
def LxM (S : MS) (T : Tx) (q : Nat) : Prop := q ≤ T.2 ∧ mi S 7 = J (en T q : Int) ∧ mi S 9 = J (q : Int) ∧ mi S 8 = J (kd T q : Int) ∧ (kd T q = 2 → ∃ v : Int, mi S 10 = J v ∧ (v = vl T q ∨ (99999 ≤ v ∧ 99999 ≤ vl T q)) ∧ 0 ≤ v ∧ v ≤ 1000009) ∧ (kd T q = 1 → ml S 11 = JL (wc T q))
def FrL (S S' : MS) : Prop := (∀ a, ma S' a = ma S a) ∧ (∀ a, mb S' a = mb S a) ∧ ∀ k, k ≠ 7 → k ≠ 8 → k ≠ 9 → k ≠ 10 → mi S' k = mi S k
theorem FrL_r (S : MS) : FrL S S := ⟨fun _ => rfl, fun _ => rfl, fun _ _ _ _ _ => rfl⟩
theorem FrL_t {S T U : MS} (h : FrL S T) (h' : FrL T U) : FrL S U := ⟨fun a => (h'.1 a).trans (h.1 a), fun a => (h'.2.1 a).trans (h.2.1 a), fun k h1 h2 h3 h4 => (h'.2.2 k h1 h2 h3 h4).trans (h.2.2 k h1 h2 h3 h4)⟩
theorem FrL_I (S : MS) (k : Nat) (x : Int32) (h : k = 7 ∨ k = 8 ∨ k = 9 ∨ k = 10) : FrL S (mSI S k x) := ⟨fun _ => rfl, fun _ => rfl, fun j h1 h2 h3 h4 => by rw [mi_I, if_neg (by omega)]⟩
theorem FrL_L (S : MS) (k : Nat) (x : Int64) : FrL S (mSL S k x) := ⟨fun _ => rfl, fun _ => rfl, fun _ _ _ _ _ => rfl⟩
theorem TpM_L {S S' : MS} {T : Tx} (h : TpM S T) (hf : FrL S S') : TpM S' T := ⟨by rw [hf.2.2 6 (by decide) (by decide) (by decide) (by decide)]; exact h.1, h.2.1, fun i hi => by rw [hf.1]; exact h.2.2 i hi⟩
section
variable {N o : Nat} {S : MS} {w : Wd} {T : Tx}
theorem M_tape (hT : TpM S T) {p : Nat} (hp : p < T.2) : aI 2 (emM o S w) (o + 5) (J (p : Int)) = some (J (tz T p)) := by
  have h1 := hT.2.1
  rw [mr_5 o S w (show 0 ≤ (p : Int) ∧ (p : Int) < 1600 by omega), Int.toNat_natCast, hT.2.2 p hp, tz_J]
theorem M_isByte (hT : TpM S T) {p : Nat} (hp : p ≤ T.2) {a b : Int} (hab : (-2147483648 ≤ a ∧ a ≤ 2147483647) ∧ -2147483648 ≤ b ∧ b ≤ 2147483647) : fX5_isByte N (emM o S w) o (J (p : Int)) (J a) (J b) = some (Bp (p < T.2 ∧ isB a b (tz T p) = true)) := by
  have hn := hT.2.1
  have hb := tz_bd T p
  unfold fX5_isByte
  rw [mg_6, Option.bind_some, hT.1]
  by_cases h1 : p < T.2
  case neg => rw [if_pos (by rw [J_le (by omega)]; omega), Bp_f (fun h => h1 h.1)]; rfl
  rw [if_neg (by rw [J_le (by omega)]; omega), mg_5, Option.bind_some, M_tape hT h1, Option.bind_some]
  by_cases h2 : a ≤ tz T p
  case neg => rw [if_pos (by rw [J_lt (by omega)]; omega), Bp_f (fun h => h2 (isB_t.1 h.2).1)]; rfl
  rw [if_neg (by rw [J_lt (by omega)]; omega), Option.bind_some, M_tape hT h1, Option.bind_some]
  by_cases h3 : tz T p ≤ b
  case neg => rw [if_pos (by rw [J_lt (by omega)]; omega), Bp_f (fun h => h3 (isB_t.1 h.2).2)]; rfl
  rw [if_neg (by rw [J_lt (by omega)]; omega), Bp_t ⟨h1, isB_t.2 ⟨h2, h3⟩⟩]; rfl
theorem isWs_t {z : Int} : isWs z = true ↔ isB 32 32 z = true ∨ isB 10 10 z = true := by
  unfold isWs isB
  rw [decide_eq_true_iff, decide_eq_true_iff, decide_eq_true_iff]
  omega
theorem M_nx0 (hT : TpM S T) (hN : 1000000 ≤ N) {p : Nat} (hp : p ≤ T.2) (h7 : mi S 7 = J (p : Int)) (k : Wd → Option Wd) : fX5_next_0 N o k N (emM o S w) = k (emM o (mSI S 7 (J (sk T p : Int))) w) := by
  have hn := hT.2.1
  have ⟨r1, r2, r3⟩ := ru_spec hn isWs p
  have hle := ru_le hn isWs hp
  have hTj : ∀ x, TpM (mSI S 7 x) T := fun x => TpM_L hT (FrL_I S 7 x (by omega))
  have key := lp_cnt (fun n j => fX5_next_0 N o k n (emM o (mSI S 7 (J ((p + j : Nat) : Int))) w)) (k (emM o (mSI S 7 (J (sk T p : Int))) w)) (ru T isWs p) ?_ ?_ N (by omega)
  · have e0 : mSI S 7 (J ((p + 0 : Nat) : Int)) = S := by
      rw [Nat.add_zero, ← h7]
      unfold mSI
      refine Prod.ext (funext fun j => ?_) rfl
      simp only
      by_cases h : j = 7
      · rw [if_pos h, h]; rfl
      · rw [if_neg h]
    rw [e0] at key
    exact key
  · intro n j hj
    have ⟨a1, a2⟩ := r3 j hj
    have g7 : mi (mSI S 7 (J ((p + j : Nat) : Int))) 7 = J ((p + j : Nat) : Int) := rfl
    have b1 := M_isByte (N := N) (o := o) (w := w) (hTj (J ((p + j : Nat) : Int))) (p := p + j) (by omega) (a := 32) (b := 32) (by omega)
    have b2 := M_isByte (N := N) (o := o) (w := w) (hTj (J ((p + j : Nat) : Int))) (p := p + j) (by omega) (a := 10) (b := 10) (by omega)
    have e : ((p + j : Nat) : Int) + 1 = ((p + (j + 1) : Nat) : Int) := by omega
    show fX5_next_0 N o k (n + 1) (emM o (mSI S 7 (J ((p + j : Nat) : Int))) w) = _
    rw [fX5_next_0]
    simp only [jn_0, jn_1, jn_2, jn_3, jn_4, jn_5, jn_6, jn_8, jn_9, jn_10, jn_11, jn_12, jn_16, jn_20, jn_24, jn_30, jn_31, jn_32, jn_36, jn_48, jn_57, jn_59, jn_60, jn_63, jn_72, jn_73, jn_96, jn_97, jn_100, jn_122, jn_144, jn_200, jn_240, jn_288, jn_512, jn_840, jn_1200, jn_1600, jn_5040, jn_5390, jn_5400, jn_9999, jn_18688, jn_32400, jn_99999, jn_100000, jn_1000000, jn_858993459, jn_1431655765, jn_252645135, jl_0, jl_1, jl_2, jl_3, jl_8, jl_9, jl_10, jl_20, jl_27, jl_47, jl_96, jl_99, jl_100, jl_200, jl_555, jl_2000, jl_10000, jl_12345, jl_65536, jl_99999, jl_131638, jl_240023, jl_298288, jl_383153, jl_1306021, jl_1960084, jl_4147840, jl_8740238, jl_9872299, jl_175252482, jl_291595537, jl_1103515245, jl_2000000000, jl_2147483648, jl_4721686497, jl_7873079139, J_add, J_sub, J_mul, J_neg, JL_add, JL_sub, JL_mul, JL_neg, J_long, JL_int, ↓remI_fold, ↓remL_fold, Int.reduceAdd, Int.reduceSub, Int.reduceMul, Int.reduceNeg, Int.reduceToNat, mg_7, g7, b1, b2, mp_7, mSI_s, e, Option.bind_some, Classical.not_not, em_t, Bp_eq0, Bp_eq1, Bp_01, Bp_mk, Bp_mk', Bp_0, Bp_0', Bp_1, Bp_1', if_true, if_false, ite_not]
    by_cases h1 : p + j < T.2 ∧ isB 32 32 (tz T (p + j)) = true
    · rw [if_pos h1]
    · rw [if_neg h1]
      rw [if_pos ⟨a1, (isWs_t.1 a2).resolve_left (fun h => h1 ⟨a1, h⟩)⟩]
  · intro n
    have g7 : mi (mSI S 7 (J (sk T p : Int))) 7 = J (sk T p : Int) := rfl
    have b1 := M_isByte (N := N) (o := o) (w := w) (hTj (J (sk T p : Int))) (p := sk T p) (by unfold sk; omega) (a := 32) (b := 32) (by omega)
    have b2 := M_isByte (N := N) (o := o) (w := w) (hTj (J (sk T p : Int))) (p := sk T p) (by unfold sk; omega) (a := 10) (b := 10) (by omega)
    show fX5_next_0 N o k (n + 1) (emM o (mSI S 7 (J (sk T p : Int))) w) = _
    rw [fX5_next_0]
    simp only [jn_0, jn_1, jn_2, jn_3, jn_4, jn_5, jn_6, jn_8, jn_9, jn_10, jn_11, jn_12, jn_16, jn_20, jn_24, jn_30, jn_31, jn_32, jn_36, jn_48, jn_57, jn_59, jn_60, jn_63, jn_72, jn_73, jn_96, jn_97, jn_100, jn_122, jn_144, jn_200, jn_240, jn_288, jn_512, jn_840, jn_1200, jn_1600, jn_5040, jn_5390, jn_5400, jn_9999, jn_18688, jn_32400, jn_99999, jn_100000, jn_1000000, jn_858993459, jn_1431655765, jn_252645135, jl_0, jl_1, jl_2, jl_3, jl_8, jl_9, jl_10, jl_20, jl_27, jl_47, jl_96, jl_99, jl_100, jl_200, jl_555, jl_2000, jl_10000, jl_12345, jl_65536, jl_99999, jl_131638, jl_240023, jl_298288, jl_383153, jl_1306021, jl_1960084, jl_4147840, jl_8740238, jl_9872299, jl_175252482, jl_291595537, jl_1103515245, jl_2000000000, jl_2147483648, jl_4721686497, jl_7873079139, J_add, J_sub, J_mul, J_neg, JL_add, JL_sub, JL_mul, JL_neg, J_long, JL_int, ↓remI_fold, ↓remL_fold, Int.reduceAdd, Int.reduceSub, Int.reduceMul, Int.reduceNeg, Int.reduceToNat, mg_7, g7, b1, b2, Option.bind_some, Classical.not_not, em_t, Bp_eq0, Bp_eq1, Bp_01, Bp_mk, Bp_mk', Bp_0, Bp_0', Bp_1, Bp_1', if_true, if_false, ite_not]
    rw [if_neg (fun h => r2 ⟨h.1, isWs_t.2 (Or.inl h.2)⟩), if_neg (fun h => r2 ⟨h.1, isWs_t.2 (Or.inr h.2)⟩)]
theorem M_nx208 (hT : TpM S T) (hN : 1000000 ≤ N) {q : Nat} (hq : q ≤ T.2) (h7 : mi S 7 = J (q : Int)) (h10 : mi S 10 = J 0) (k : Wd → Option Wd) : fX5_next_208 N o k N (emM o S w) = k (emM o (mSI (mSI S 10 (J (vm T q))) 7 (J ((q + ru T (isB 48 57) q : Nat) : Int))) w) := by
  have hn := hT.2.1
  have ⟨r1, r2, r3⟩ := ru_spec hn (isB 48 57) q
  have hle := ru_le hn (isB 48 57) hq
  have hTj : ∀ x y, TpM (mSI (mSI S 10 x) 7 y) T := fun x y => TpM_L hT (FrL_t (FrL_I S 10 x (by omega)) (FrL_I _ 7 y (by omega)))
  have key := lp_cnt (fun n j => fX5_next_208 N o k n (emM o (mSI (mSI S 10 (J (vmS T q j))) 7 (J ((q + j : Nat) : Int))) w)) (k (emM o (mSI (mSI S 10 (J (vm T q))) 7 (J ((q + ru T (isB 48 57) q : Nat) : Int))) w)) (ru T (isB 48 57) q) ?_ ?_ N (by omega)
  · have e0 : mSI (mSI S 10 (J (vmS T q 0))) 7 (J ((q + 0 : Nat) : Int)) = S := by
      rw [Nat.add_zero, ← h7, show vmS T q 0 = 0 from rfl, ← h10]
      unfold mSI
      refine Prod.ext (funext fun j => ?_) rfl
      simp only
      by_cases h : j = 7
      · rw [if_pos h, h]; rfl
      · rw [if_neg h]
        by_cases h' : j = 10
        · rw [if_pos h', h']; rfl
        · rw [if_neg h']
    rw [e0] at key
    exact key
  · intro n j hj
    have ⟨a1, a2⟩ := r3 j hj
    have g7 : mi (mSI (mSI S 10 (J (vmS T q j))) 7 (J ((q + j : Nat) : Int))) 7 = J ((q + j : Nat) : Int) := rfl
    have g10 : mi (mSI (mSI S 10 (J (vmS T q j))) 7 (J ((q + j : Nat) : Int))) 10 = J (vmS T q j) := rfl
    have g7b : ∀ x, mi (mSI (mSI (mSI S 10 (J (vmS T q j))) 7 (J ((q + j : Nat) : Int))) 10 x) 7 = J ((q + j : Nat) : Int) := fun x => rfl
    have b1 := M_isByte (N := N) (o := o) (w := w) (hTj (J (vmS T q j)) (J ((q + j : Nat) : Int))) (p := q + j) (by omega) (a := 48) (b := 57) (by omega)
    have t1 := M_tape (o := o) (w := w) (hTj (J (vmS T q j)) (J ((q + j : Nat) : Int))) a1
    have e : ((q + j : Nat) : Int) + 1 = ((q + (j + 1) : Nat) : Int) := by omega
    have hv := vmS_vl (T := T) (q := q) (m := j) (fun i hi => (r3 i (by omega)).2)
    show fX5_next_208 N o k (n + 1) (emM o (mSI (mSI S 10 (J (vmS T q j))) 7 (J ((q + j : Nat) : Int))) w) = _
    rw [fX5_next_208]
    simp only [jn_0, jn_1, jn_2, jn_3, jn_4, jn_5, jn_6, jn_8, jn_9, jn_10, jn_11, jn_12, jn_16, jn_20, jn_24, jn_30, jn_31, jn_32, jn_36, jn_48, jn_57, jn_59, jn_60, jn_63, jn_72, jn_73, jn_96, jn_97, jn_100, jn_122, jn_144, jn_200, jn_240, jn_288, jn_512, jn_840, jn_1200, jn_1600, jn_5040, jn_5390, jn_5400, jn_9999, jn_18688, jn_32400, jn_99999, jn_100000, jn_1000000, jn_858993459, jn_1431655765, jn_252645135, jl_0, jl_1, jl_2, jl_3, jl_8, jl_9, jl_10, jl_20, jl_27, jl_47, jl_96, jl_99, jl_100, jl_200, jl_555, jl_2000, jl_10000, jl_12345, jl_65536, jl_99999, jl_131638, jl_240023, jl_298288, jl_383153, jl_1306021, jl_1960084, jl_4147840, jl_8740238, jl_9872299, jl_175252482, jl_291595537, jl_1103515245, jl_2000000000, jl_2147483648, jl_4721686497, jl_7873079139, J_add, J_sub, J_mul, J_neg, JL_add, JL_sub, JL_mul, JL_neg, J_long, JL_int, ↓remI_fold, ↓remL_fold, Int.reduceAdd, Int.reduceSub, Int.reduceMul, Int.reduceNeg, Int.reduceToNat, mg_7, mg_10, mg_5, g7, g10, g7b, b1, t1, mp_7, mp_10, mSI_2, e, Option.bind_some, Classical.not_not, em_t, Bp_eq0, Bp_eq1, Bp_01, Bp_mk, Bp_mk', Bp_0, Bp_0', Bp_1, Bp_1', if_true, if_false, ite_not]
    rw [if_pos ⟨a1, a2⟩]
    by_cases h1 : vmS T q j ≤ 100000
    · rw [if_pos (by rw [J_le (by omega)]; exact h1), show vmS T q (j + 1) = 10 * vmS T q j + tz T (q + j) - 48 from if_pos h1]
    · rw [if_neg (by rw [J_le (by omega)]; exact h1), show vmS T q (j + 1) = 1000000 from if_neg h1]
  · intro n
    have g7 : mi (mSI (mSI S 10 (J (vm T q))) 7 (J ((q + ru T (isB 48 57) q : Nat) : Int))) 7 = J ((q + ru T (isB 48 57) q : Nat) : Int) := rfl
    have b1 := M_isByte (N := N) (o := o) (w := w) (hTj (J (vm T q)) (J ((q + ru T (isB 48 57) q : Nat) : Int))) (p := q + ru T (isB 48 57) q) (by omega) (a := 48) (b := 57) (by omega)
    show fX5_next_208 N o k (n + 1) (emM o (mSI (mSI S 10 (J (vm T q))) 7 (J ((q + ru T (isB 48 57) q : Nat) : Int))) w) = _
    rw [fX5_next_208]
    simp only [jn_0, jn_1, jn_2, jn_3, jn_4, jn_5, jn_6, jn_8, jn_9, jn_10, jn_11, jn_12, jn_16, jn_20, jn_24, jn_30, jn_31, jn_32, jn_36, jn_48, jn_57, jn_59, jn_60, jn_63, jn_72, jn_73, jn_96, jn_97, jn_100, jn_122, jn_144, jn_200, jn_240, jn_288, jn_512, jn_840, jn_1200, jn_1600, jn_5040, jn_5390, jn_5400, jn_9999, jn_18688, jn_32400, jn_99999, jn_100000, jn_1000000, jn_858993459, jn_1431655765, jn_252645135, jl_0, jl_1, jl_2, jl_3, jl_8, jl_9, jl_10, jl_20, jl_27, jl_47, jl_96, jl_99, jl_100, jl_200, jl_555, jl_2000, jl_10000, jl_12345, jl_65536, jl_99999, jl_131638, jl_240023, jl_298288, jl_383153, jl_1306021, jl_1960084, jl_4147840, jl_8740238, jl_9872299, jl_175252482, jl_291595537, jl_1103515245, jl_2000000000, jl_2147483648, jl_4721686497, jl_7873079139, J_add, J_sub, J_mul, J_neg, JL_add, JL_sub, JL_mul, JL_neg, J_long, JL_int, ↓remI_fold, ↓remL_fold, Int.reduceAdd, Int.reduceSub, Int.reduceMul, Int.reduceNeg, Int.reduceToNat, mg_7, g7, b1, Option.bind_some, Classical.not_not, em_t, Bp_eq0, Bp_eq1, Bp_01, Bp_mk, Bp_mk', Bp_0, Bp_0', Bp_1, Bp_1', if_true, if_false, ite_not]
    rw [if_neg r2]
def wcJ (T : Tx) (q j : Nat) : Int := if j ≤ 12 then wcS T q j else -1
theorem M_nx102 (hT : TpM S T) (hN : 1000000 ≤ N) {q : Nat} (hq : q ≤ T.2) (h7 : mi S 7 = J (q : Int)) (h11 : ml S 11 = JL 0) (k : Wd → Option Wd) : fX5_next_102 N o k N (J 0) (emM o S w) = k (emM o (mSI (mSL S 11 (JL (wc T q))) 7 (J ((q + ru T (isB 97 122) q : Nat) : Int))) w) := by
  have hn := hT.2.1
  have ⟨r1, r2, r3⟩ := ru_spec hn (isB 97 122) q
  have hle := ru_le hn (isB 97 122) hq
  have hTj : ∀ x y, TpM (mSI (mSL S 11 x) 7 y) T := fun x y => TpM_L hT (FrL_t (FrL_L S 11 x) (FrL_I _ 7 y (by omega)))
  have key := lp_cnt (fun n j => fX5_next_102 N o k n (J (j : Int)) (emM o (mSI (mSL S 11 (JL (wcJ T q j))) 7 (J ((q + j : Nat) : Int))) w)) (k (emM o (mSI (mSL S 11 (JL (wc T q))) 7 (J ((q + ru T (isB 97 122) q : Nat) : Int))) w)) (ru T (isB 97 122) q) ?_ ?_ N (by omega)
  · have e0 : mSI (mSL S 11 (JL (wcJ T q 0))) 7 (J ((q + 0 : Nat) : Int)) = S := by
      rw [Nat.add_zero, ← h7, show wcJ T q 0 = 0 from rfl, ← h11]
      unfold mSI mSL
      refine Prod.ext (funext fun j => ?_) (Prod.ext (funext fun j => ?_) rfl)
      · simp only
        by_cases h : j = 7
        · rw [if_pos h, h]; rfl
        · rw [if_neg h]
      · simp only
        by_cases h : j = 11
        · rw [if_pos h, h]; rfl
        · rw [if_neg h]
    rw [e0] at key
    exact key
  · intro n j hj
    have ⟨a1, a2⟩ := r3 j hj
    have g7 : mi (mSI (mSL S 11 (JL (wcJ T q j))) 7 (J ((q + j : Nat) : Int))) 7 = J ((q + j : Nat) : Int) := rfl
    have g11 : ml (mSI (mSL S 11 (JL (wcJ T q j))) 7 (J ((q + j : Nat) : Int))) 11 = JL (wcJ T q j) := rfl
    have g7b : ∀ x, mi (mSL (mSI (mSL S 11 (JL (wcJ T q j))) 7 (J ((q + j : Nat) : Int))) 11 x) 7 = J ((q + j : Nat) : Int) := fun x => rfl
    have es : ∀ x y, mSI (mSL (mSI (mSL S 11 (JL (wcJ T q j))) 7 (J ((q + j : Nat) : Int))) 11 x) 7 y = mSI (mSL S 11 x) 7 y := fun x y => by
      rw [mSL_I, mSL_s, mSI_s]
    have b1 := M_isByte (N := N) (o := o) (w := w) (hTj (JL (wcJ T q j)) (J ((q + j : Nat) : Int))) (p := q + j) (by omega) (a := 97) (b := 122) (by omega)
    have t1 := M_tape (o := o) (w := w) (hTj (JL (wcJ T q j)) (J ((q + j : Nat) : Int))) a1
    have e : ((q + j : Nat) : Int) + 1 = ((q + (j + 1) : Nat) : Int) := by omega
    have htb := tz_bd T (q + j)
    show fX5_next_102 N o k (n + 1) (J (j : Int)) (emM o (mSI (mSL S 11 (JL (wcJ T q j))) 7 (J ((q + j : Nat) : Int))) w) = _
    rw [fX5_next_102]
    unfold fX5_next_153
    simp only [jn_0, jn_1, jn_2, jn_3, jn_4, jn_5, jn_6, jn_8, jn_9, jn_10, jn_11, jn_12, jn_16, jn_20, jn_24, jn_30, jn_31, jn_32, jn_36, jn_48, jn_57, jn_59, jn_60, jn_63, jn_72, jn_73, jn_96, jn_97, jn_100, jn_122, jn_144, jn_200, jn_240, jn_288, jn_512, jn_840, jn_1200, jn_1600, jn_5040, jn_5390, jn_5400, jn_9999, jn_18688, jn_32400, jn_99999, jn_100000, jn_1000000, jn_858993459, jn_1431655765, jn_252645135, jl_0, jl_1, jl_2, jl_3, jl_8, jl_9, jl_10, jl_20, jl_27, jl_47, jl_96, jl_99, jl_100, jl_200, jl_555, jl_2000, jl_10000, jl_12345, jl_65536, jl_99999, jl_131638, jl_240023, jl_298288, jl_383153, jl_1306021, jl_1960084, jl_4147840, jl_8740238, jl_9872299, jl_175252482, jl_291595537, jl_1103515245, jl_2000000000, jl_2147483648, jl_4721686497, jl_7873079139, J_add, J_sub, J_mul, J_neg, JL_add, JL_sub, JL_mul, JL_neg, J_long, JL_int, ↓remI_fold, ↓remL_fold, Int.reduceAdd, Int.reduceSub, Int.reduceMul, Int.reduceNeg, Int.reduceToNat, mg_7, mg_11, mg_5, g7, g11, g7b, b1, t1, mp_7, mp_11, mSL_s, es, J_long htb, e, castS, Option.bind_some, Classical.not_not, em_t, Bp_eq0, Bp_eq1, Bp_01, Bp_mk, Bp_mk', Bp_0, Bp_0', Bp_1, Bp_1', if_true, if_false, ite_not]
    rw [if_pos ⟨a1, a2⟩]
    by_cases h1 : j ≤ 11
    · rw [if_pos (by rw [J_le (by omega)]; omega)]
      have ew : 27 * wcJ T q j + tz T (q + j) - 96 = wcJ T q (j + 1) := by
        unfold wcJ
        rw [if_pos (by omega), if_pos (by omega)]; rfl
      rw [ew, if_pos (by rw [J_le (by omega)]; omega)]
    · rw [if_neg (by rw [J_le (by omega)]; omega), if_neg (by rw [J_le (by omega)]; omega)]
      have ew : wcJ T q (j + 1) = -1 := by
        unfold wcJ
        rw [if_neg (by omega)]
      rw [ew]
  · intro n
    have g7 : mi (mSI (mSL S 11 (JL (wc T q))) 7 (J ((q + ru T (isB 97 122) q : Nat) : Int))) 7 = J ((q + ru T (isB 97 122) q : Nat) : Int) := rfl
    have b1 := M_isByte (N := N) (o := o) (w := w) (hTj (JL (wc T q)) (J ((q + ru T (isB 97 122) q : Nat) : Int))) (p := q + ru T (isB 97 122) q) (by omega) (a := 97) (b := 122) (by omega)
    show fX5_next_102 N o k (n + 1) (J (ru T (isB 97 122) q : Int)) (emM o (mSI (mSL S 11 (JL (wc T q))) 7 (J ((q + ru T (isB 97 122) q : Nat) : Int))) w) = _
    rw [fX5_next_102]
    simp only [jn_0, jn_1, jn_2, jn_3, jn_4, jn_5, jn_6, jn_8, jn_9, jn_10, jn_11, jn_12, jn_16, jn_20, jn_24, jn_30, jn_31, jn_32, jn_36, jn_48, jn_57, jn_59, jn_60, jn_63, jn_72, jn_73, jn_96, jn_97, jn_100, jn_122, jn_144, jn_200, jn_240, jn_288, jn_512, jn_840, jn_1200, jn_1600, jn_5040, jn_5390, jn_5400, jn_9999, jn_18688, jn_32400, jn_99999, jn_100000, jn_1000000, jn_858993459, jn_1431655765, jn_252645135, jl_0, jl_1, jl_2, jl_3, jl_8, jl_9, jl_10, jl_20, jl_27, jl_47, jl_96, jl_99, jl_100, jl_200, jl_555, jl_2000, jl_10000, jl_12345, jl_65536, jl_99999, jl_131638, jl_240023, jl_298288, jl_383153, jl_1306021, jl_1960084, jl_4147840, jl_8740238, jl_9872299, jl_175252482, jl_291595537, jl_1103515245, jl_2000000000, jl_2147483648, jl_4721686497, jl_7873079139, J_add, J_sub, J_mul, J_neg, JL_add, JL_sub, JL_mul, JL_neg, J_long, JL_int, ↓remI_fold, ↓remL_fold, Int.reduceAdd, Int.reduceSub, Int.reduceMul, Int.reduceNeg, Int.reduceToNat, mg_7, g7, b1, Option.bind_some, Classical.not_not, em_t, Bp_eq0, Bp_eq1, Bp_01, Bp_mk, Bp_mk', Bp_0, Bp_0', Bp_1, Bp_1', if_true, if_false, ite_not]
    rw [if_neg r2]
theorem M_next (hT : TpM S T) (hN : 1000000 ≤ N) {p : Nat} (hp : p ≤ T.2) (h7 : mi S 7 = J (p : Int)) : ∃ S', fX5_next N (emM o S w) o = some (emM o S' w) ∧ LxM S' T (sk T p) ∧ FrL S S' := by
  have hn := hT.2.1
  have hq := (sk_le hn hp).2
  generalize hqq : sk T p = q at *
  unfold fX5_next
  rw [M_nx0 hT hN hp h7, hqq]
  have g7 : mi (mSI S 7 (J (q : Int))) 7 = J (q : Int) := rfl
  rw [mg_7, Option.bind_some, g7, mp_9, Option.bind_some, mp_10, Option.bind_some, mp_11, Option.bind_some, mg_7, Option.bind_some, mg_6, Option.bind_some]
  generalize hS1 : mSL (mSI (mSI (mSI S 7 (J (q : Int))) 9 (J (q : Int))) 10 (0 : Int32)) 11 (0 : Int64) = S1
  have f1 : FrL S S1 := by rw [← hS1]; exact FrL_t (FrL_I S 7 _ (by omega)) (FrL_t (FrL_I _ 9 _ (by omega)) (FrL_t (FrL_I _ 10 _ (by omega)) (FrL_L _ 11 _)))
  have i7 : mi S1 7 = J (q : Int) := by rw [← hS1]; rfl
  have i9 : mi S1 9 = J (q : Int) := by rw [← hS1]; rfl
  have i10 : mi S1 10 = J 0 := by rw [← hS1]; rfl
  have l11 : ml S1 11 = JL 0 := by rw [← hS1]; rfl
  have hT1 := TpM_L hT f1
  have b1 := M_isByte (N := N) (o := o) (w := w) hT1 hq (a := 97) (b := 122) (by omega)
  have b2 := M_isByte (N := N) (o := o) (w := w) hT1 hq (a := 48) (b := 57) (by omega)
  rw [i7, hT1.1]
  by_cases h0 : T.2 ≤ q
  · have hk : kd T q = 0 := if_pos h0
    refine ⟨mSI S1 8 (J 0), by rw [if_pos (by congr 1; omega), mp_8, Option.bind_some]; rfl, ⟨hq, ?_, i9, by rw [hk]; rfl, fun h => by omega, fun h => by omega⟩, FrL_t f1 (FrL_I _ 8 _ (by omega))⟩
    show mi S1 7 = _
    rw [i7, show en T q = q from if_pos hk]
  rw [if_neg (by rw [J_eq (by omega)]; omega), Option.bind_some, show (97 : Int32) = J 97 from rfl, show (122 : Int32) = J 122 from rfl, b1, Option.bind_some]
  by_cases h1 : isB 97 122 (tz T q) = true
  · have hk : kd T q = 1 := kd_1.2 ⟨by omega, h1⟩
    rw [Bp_t ⟨by omega, h1⟩, if_neg (by decide), mp_8, Option.bind_some, jn_0, jn_1]
    have c1 : mi (mSI S1 8 (J 1)) 7 = J (q : Int) := i7
    have c2 : ml (mSI S1 8 (J 1)) 11 = JL 0 := l11
    rw [M_nx102 (TpM_L hT1 (FrL_I S1 8 (J 1) (by omega))) hN hq c1 c2]
    refine ⟨_, rfl, ⟨hq, ?_, i9, by rw [hk]; rfl, fun h => by omega, fun _ => rfl⟩, FrL_t f1 (FrL_t (FrL_I _ 8 _ (by omega)) (FrL_t (FrL_L _ 11 _) (FrL_I _ 7 _ (by omega))))⟩
    have : en T q = q + ru T (isB 97 122) q := by unfold en; rw [if_neg (by omega), if_pos hk]
    rw [this]; rfl
  rw [Bp_f (fun h => h1 h.2), if_pos (show J 0 = (0 : Int32) from rfl), Option.bind_some, show (48 : Int32) = J 48 from rfl, show (57 : Int32) = J 57 from rfl, b2, Option.bind_some]
  by_cases h2 : isB 48 57 (tz T q) = true
  · have hk : kd T q = 2 := kd_2.2 ⟨by omega, h2⟩
    rw [Bp_t ⟨by omega, h2⟩, if_neg (by decide), mp_8, Option.bind_some, jn_2]
    have c1 : mi (mSI S1 8 (J 2)) 7 = J (q : Int) := i7
    have c2 : mi (mSI S1 8 (J 2)) 10 = J 0 := i10
    rw [M_nx208 (TpM_L hT1 (FrL_I S1 8 (J 2) (by omega))) hN hq c1 c2]
    have hv := vmS_vl (T := T) (q := q) (m := ru T (isB 48 57) q) (fun i hi => ((ru_spec hn (isB 48 57) q).2.2 i hi).2)
    refine ⟨_, rfl, ⟨hq, ?_, i9, by rw [hk]; rfl, fun _ => ⟨vm T q, rfl, hv.1, hv.2⟩, fun h => by omega⟩, FrL_t f1 (FrL_t (FrL_I _ 8 _ (by omega)) (FrL_t (FrL_I _ 10 _ (by omega)) (FrL_I _ 7 _ (by omega))))⟩
    have : en T q = q + ru T (isB 48 57) q := by unfold en; rw [if_neg (by omega), if_neg (by omega), if_pos hk]
    rw [this]; rfl
  rw [Bp_f (fun h => h2 h.2), if_pos (show J 0 = (0 : Int32) from rfl), mg_5, Option.bind_some, Option.bind_some, M_tape hT1 (by omega), Option.bind_some]
  have htb := tz_bd T q
  have he : ∀ k, kd T q = k → (k = 3 ∨ k = 4) → en T q = q + 1 := fun k hk hk2 => by
    unfold en
    rw [if_neg (by omega), if_neg (by omega), if_neg (by omega)]
  by_cases h3 : tz T q = 59
  · have hk : kd T q = 3 := by unfold kd; rw [if_neg h0, if_neg h1, if_neg h2, if_pos h3]
    rw [if_pos (by rw [h3]; rfl), mp_8, Option.bind_some, mg_7, Option.bind_some, show mi (mSI S1 8 3) 7 = J (q : Int) from i7, mp_7, Option.bind_some]
    refine ⟨_, rfl, ⟨hq, ?_, i9, by rw [hk]; rfl, fun h => by omega, fun h => by omega⟩, FrL_t f1 (FrL_t (FrL_I _ 8 _ (by omega)) (FrL_I _ 7 _ (by omega)))⟩
    rw [he 3 hk (by omega)]
    show J (q : Int) + 1 = _
    rw [jn_1, J_add, castS]
  · have hk : kd T q = 4 := by unfold kd; rw [if_neg h0, if_neg h1, if_neg h2, if_neg h3]
    rw [if_neg (by rw [show (59 : Int32) = J 59 from rfl, J_eq (by omega)]; exact h3), mp_8, Option.bind_some, mg_7, Option.bind_some, show mi (mSI S1 8 4) 7 = J (q : Int) from i7, mp_7, Option.bind_some]
    refine ⟨_, rfl, ⟨hq, ?_, i9, by rw [hk]; rfl, fun h => by omega, fun h => by omega⟩, FrL_t f1 (FrL_t (FrL_I _ 8 _ (by omega)) (FrL_I _ 7 _ (by omega)))⟩
    rw [he 4 hk (by omega)]
    show J (q : Int) + 1 = _
    rw [jn_1, J_add, castS]
end
