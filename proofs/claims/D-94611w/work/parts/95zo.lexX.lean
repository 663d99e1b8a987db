/-! the component: the next token -/
set_option maxRecDepth 100000
/-- the Reader's fields -/
def rdF (n c o : Nat) (p f : Int) (v : Int32) (t : Nat) : List Value := [.int (J (n : Int)), .ref c, .int (J p), .int (J f), .int v, .ref t, .ref o]
def rdW (V : Wd) (a n c o : Nat) (p f : Int) (v : Int32) (t : Nat) : Wd := wup V a (.inr (6, rdF n c o p f v t))
def TpX (V : Wd) (o : Nat) (T : Tx) : Prop := gR V [0] o 1 = some (o + 8) ∧ V (o + 8) = some (.inl (2, 1600, .inl T.1)) ∧ T.2 ≤ 1600
section
variable {N o a c t : Nat} {V : Wd} {T : Tx} {ad : Nat → Nat} {p f : Int} {v : Int32}
theorem rd_at (n : Nat) : rdW V a n c o p f v t a = some (.inr (6, rdF n c o p f v t)) := wup_s _ _ _
theorem rd_0 (n : Nat) : gI (rdW V a n c o p f v t) [6] a 0 = some (J (n : Int)) := gI_of (wup_s _ _ _) (by decide) rfl
theorem rd_1 (n : Nat) : gR (rdW V a n c o p f v t) [6] a 1 = some c := gR_of (wup_s _ _ _) (by decide) rfl
theorem rd_2 (n : Nat) : gI (rdW V a n c o p f v t) [6] a 2 = some (J p) := gI_of (wup_s _ _ _) (by decide) rfl
theorem rd_3 (n : Nat) : gI (rdW V a n c o p f v t) [6] a 3 = some (J f) := gI_of (wup_s _ _ _) (by decide) rfl
theorem rd_4 (n : Nat) : gI (rdW V a n c o p f v t) [6] a 4 = some v := gI_of (wup_s _ _ _) (by decide) rfl
theorem rd_5 (n : Nat) : gR (rdW V a n c o p f v t) [6] a 5 = some t := gR_of (wup_s _ _ _) (by decide) rfl
theorem rd_6 (n : Nat) : gR (rdW V a n c o p f v t) [6] a 6 = some o := gR_of (wup_s _ _ _) (by decide) rfl
theorem rd_p2 (n : Nat) (p' : Int) : pF (rdW V a n c o p f v t) [6] a 2 (.int (J p')) = some (rdW V a n c o p' f v t) := by
  unfold rdW
  rw [pF_of _ (wup_s _ _ _) (by decide) (show 2 < 7 by decide), wup_wup]; rfl
theorem rd_p3 (n : Nat) (f' : Int) : pF (rdW V a n c o p f v t) [6] a 3 (.int (J f')) = some (rdW V a n c o p f' v t) := by
  unfold rdW
  rw [pF_of _ (wup_s _ _ _) (by decide) (show 3 < 7 by decide), wup_wup]; rfl
theorem rd_p4 (n : Nat) (v' : Int32) : pF (rdW V a n c o p f v t) [6] a 4 (.int v') = some (rdW V a n c o p f v' t) := by
  unfold rdW
  rw [pF_of _ (wup_s _ _ _) (by decide) (show 4 < 7 by decide), wup_wup]; rfl
theorem rd_p5 (n : Nat) (t' : Nat) : pF (rdW V a n c o p f v t) [6] a 5 (.ref t') = some (rdW V a n c o p f v t') := by
  unfold rdW
  rw [pF_of _ (wup_s _ _ _) (by decide) (show 5 < 7 by decide), wup_wup]; rfl
theorem rd_o (n : Nat) {q : Nat} (h : q ≠ a) : rdW V a n c o p f v t q = V q := wup_o _ _ h
theorem rd_t1 (n : Nat) (hT : TpX V o T) (ha : a ≠ o) : gR (rdW V a n c o p f v t) [0] o 1 = some (o + 8) := by
  have h := hT.1
  unfold gR fld at h ⊢
  rw [rd_o n (fun e => ha e.symm)]; exact h
theorem rd_tp (n : Nat) (hT : TpX V o T) (ha : a ≠ o + 8) {i : Nat} (hi : i < T.2) : aI 2 (rdW V a n c o p f v t) (o + 8) (J (i : Int)) = some (J (tz T i)) := by
  have h1 := hT.2.2
  have e : rdW V a n c o p f v t (o + 8) = some (.inl (2, 1600, .inl T.1)) := (rd_o n (fun e => ha e.symm)).trans hT.2.1
  rw [aI_of e (show 0 ≤ (i : Int) ∧ (i : Int) < (1600 : Nat) by omega) (by decide), Int.toNat_natCast, tz_J]
theorem X_isNext (hT : TpX V o T) (ha : a ≠ o ∧ a ≠ o + 8) {i : Nat} (hi : i ≤ T.2) {x y : Int} (hxy : (-2147483648 ≤ x ∧ x ≤ 2147483647) ∧ -2147483648 ≤ y ∧ y ≤ 2147483647) : fX6_isNext ad N (rdW V a T.2 c o (i : Int) f v t) a (J x) (J y) = some (Bp (i < T.2 ∧ isB x y (tz T i) = true)) := by
  have hn := hT.2.2
  have hb := tz_bd T i
  unfold fX6_isNext
  rw [rd_2, Option.bind_some, rd_0, Option.bind_some]
  by_cases h1 : i < T.2
  case neg => rw [if_pos (by rw [J_le (by omega)]; omega), Bp_f (fun h => h1 h.1)]; rfl
  rw [if_neg (by rw [J_le (by omega)]; omega), rd_6, Option.bind_some, rd_t1 _ hT ha.1, Option.bind_some, Option.bind_some, rd_tp _ hT ha.2 h1, Option.bind_some, J_long hb, J_long hxy.1, J_long hxy.2, X_in (by omega), Option.bind_some]
  by_cases h2 : x ≤ tz T i ∧ tz T i ≤ y
  · rw [Bp_t h2, if_neg (by decide), Bp_t ⟨h1, isB_t.2 h2⟩]; rfl
  · rw [Bp_f h2, if_pos (show J 0 = (0 : Int32) from rfl), Bp_f (fun h => h2 (isB_t.1 h.2))]; rfl
theorem X_nx0 (hT : TpX V o T) (ha : a ≠ o ∧ a ≠ o + 8) (hN : 1000000 ≤ N) {i : Nat} (hi : i ≤ T.2) (k : Wd → Option Wd) : fX6_next_0 ad N a k N (rdW V a T.2 c o (i : Int) f v t) = k (rdW V a T.2 c o (sk T i : Int) f v t) := by
  have hn := hT.2.2
  have ⟨r1, r2, r3⟩ := ru_spec hn isWs i
  have hle := ru_le hn isWs hi
  have key := lp_cnt (fun n j => fX6_next_0 ad N a k n (rdW V a T.2 c o ((i + j : Nat) : Int) f v t)) (k (rdW V a T.2 c o (sk T i : Int) f v t)) (ru T isWs i) ?_ ?_ N (by omega)
  · exact key
  · intro n j hj
    have ⟨a1, a2⟩ := r3 j hj
    have hb := tz_bd T (i + j)
    have e : ((i + j : Nat) : Int) + 1 = ((i + (j + 1) : Nat) : Int) := by omega
    unfold isWs at a2
    rw [decide_eq_true_iff] at a2
    show fX6_next_0 ad N a k (n + 1) (rdW V a T.2 c o ((i + j : Nat) : Int) f v t) = _
    rw [fX6_next_0]
    simp only [jn_0, jn_1, jn_2, jn_3, jn_4, jn_5, jn_6, jn_8, jn_9, jn_10, jn_11, jn_12, jn_16, jn_20, jn_24, jn_30, jn_31, jn_32, jn_36, jn_48, jn_57, jn_59, jn_60, jn_63, jn_72, jn_73, jn_96, jn_97, jn_100, jn_122, jn_144, jn_200, jn_240, jn_288, jn_512, jn_840, jn_1200, jn_1600, jn_5040, jn_5390, jn_5400, jn_9999, jn_18688, jn_32400, jn_99999, jn_100000, jn_1000000, jn_858993459, jn_1431655765, jn_252645135, jl_0, jl_1, jl_2, jl_3, jl_8, jl_9, jl_10, jl_20, jl_27, jl_47, jl_96, jl_99, jl_100, jl_200, jl_555, jl_2000, jl_10000, jl_12345, jl_65536, jl_99999, jl_131638, jl_240023, jl_298288, jl_383153, jl_1306021, jl_1960084, jl_4147840, jl_8740238, jl_9872299, jl_175252482, jl_291595537, jl_1103515245, jl_2000000000, jl_2147483648, jl_4721686497, jl_7873079139, J_add, J_sub, J_mul, J_neg, JL_add, JL_sub, JL_mul, JL_neg, J_long, JL_int, ↓remI_fold, ↓remL_fold, Int.reduceAdd, Int.reduceSub, Int.reduceMul, Int.reduceNeg, Int.reduceToNat, rd_0, rd_2, rd_6, rd_t1 _ hT ha.1, rd_tp _ hT ha.2 a1, rd_p2, e, Option.bind_some]
    rw [if_neg (by rw [J_le (by omega)]; omega)]
    by_cases h1 : tz T (i + j) = 32
    · rw [if_pos (by rw [h1])]
    · rw [if_neg (by rw [J_eq (by omega)]; exact h1), if_pos (by rw [a2.resolve_left h1])]
  · intro n
    show fX6_next_0 ad N a k (n + 1) (rdW V a T.2 c o (sk T i : Int) f v t) = _
    have hs := sk_le hn hi
    rw [fX6_next_0]
    simp only [jn_0, jn_1, jn_2, jn_3, jn_4, jn_5, jn_6, jn_8, jn_9, jn_10, jn_11, jn_12, jn_16, jn_20, jn_24, jn_30, jn_31, jn_32, jn_36, jn_48, jn_57, jn_59, jn_60, jn_63, jn_72, jn_73, jn_96, jn_97, jn_100, jn_122, jn_144, jn_200, jn_240, jn_288, jn_512, jn_840, jn_1200, jn_1600, jn_5040, jn_5390, jn_5400, jn_9999, jn_18688, jn_32400, jn_99999, jn_100000, jn_1000000, jn_858993459, jn_1431655765, jn_252645135, jl_0, jl_1, jl_2, jl_3, jl_8, jl_9, jl_10, jl_20, jl_27, jl_47, jl_96, jl_99, jl_100, jl_200, jl_555, jl_2000, jl_10000, jl_12345, jl_65536, jl_99999, jl_131638, jl_240023, jl_298288, jl_383153, jl_1306021, jl_1960084, jl_4147840, jl_8740238, jl_9872299, jl_175252482, jl_291595537, jl_1103515245, jl_2000000000, jl_2147483648, jl_4721686497, jl_7873079139, J_add, J_sub, J_mul, J_neg, JL_add, JL_sub, JL_mul, JL_neg, J_long, JL_int, ↓remI_fold, ↓remL_fold, Int.reduceAdd, Int.reduceSub, Int.reduceMul, Int.reduceNeg, Int.reduceToNat, rd_0, rd_2, rd_6, rd_t1 _ hT ha.1, Option.bind_some]
    by_cases h0 : T.2 ≤ sk T i
    · rw [if_pos (by rw [J_le (by omega)]; omega)]
    · have hb := tz_bd T (sk T i)
      have hw : ¬ (tz T (sk T i) = 32 ∨ tz T (sk T i) = 10) := fun h => r2 ⟨by show sk T i < T.2; omega, by unfold isWs; rw [decide_eq_true_iff]; exact h⟩
      rw [if_neg (by rw [J_le (by omega)]; omega)]
      simp only [rd_tp _ hT ha.2 (show sk T i < T.2 by omega), Option.bind_some]
      rw [if_neg (by rw [J_eq (by omega)]; exact fun h => hw (Or.inl h)), if_neg (by rw [J_eq (by omega)]; exact fun h => hw (Or.inr h))]
theorem X_nx148 (hT : TpX V o T) (ha : a ≠ o ∧ a ≠ o + 8) (hN : 1000000 ≤ N) {q : Nat} (hq : q ≤ T.2) (k : Wd → Option Wd) : fX6_next_148 ad N a k N (rdW V a T.2 c o (q : Int) f (J 0) t) = k (rdW V a T.2 c o ((q + ru T (isB 48 57) q : Nat) : Int) f (J (vl T q)) t) := by
  have hn := hT.2.2
  have ⟨r1, r2, r3⟩ := ru_spec hn (isB 48 57) q
  have hle := ru_le hn (isB 48 57) hq
  have key := lp_cnt (fun n j => fX6_next_148 ad N a k n (rdW V a T.2 c o ((q + j : Nat) : Int) f (J (vlS T q j)) t)) (k (rdW V a T.2 c o ((q + ru T (isB 48 57) q : Nat) : Int) f (J (vl T q)) t)) (ru T (isB 48 57) q) ?_ ?_ N (by omega)
  · exact key
  · intro n j hj
    have ⟨a1, a2⟩ := r3 j hj
    have hb := tz_bd T (q + j)
    have hb2 := isB_t.1 a2
    have hv := vlS_bd (T := T) (q := q) (m := j) (fun i hi => (r3 i (by omega)).2)
    have e : ((q + j : Nat) : Int) + 1 = ((q + (j + 1) : Nat) : Int) := by omega
    have b1 := X_isNext (N := N) (ad := ad) (c := c) (f := f) (v := J (vlS T q j)) (t := t) hT ha (i := q + j) (by omega) (x := 48) (y := 57) (by omega)
    have em : ∀ W : Wd, fJ0_min N W (J 99999) (J (10 * vlS T q j + tz T (q + j) - 48)) = some (J (vlS T q (j + 1))) := fun W => by
      rw [X_min (by omega)]; rfl
    show fX6_next_148 ad N a k (n + 1) (rdW V a T.2 c o ((q + j : Nat) : Int) f (J (vlS T q j)) t) = _
    rw [fX6_next_148]
    simp only [jn_0, jn_1, jn_2, jn_3, jn_4, jn_5, jn_6, jn_8, jn_9, jn_10, jn_11, jn_12, jn_16, jn_20, jn_24, jn_30, jn_31, jn_32, jn_36, jn_48, jn_57, jn_59, jn_60, jn_63, jn_72, jn_73, jn_96, jn_97, jn_100, jn_122, jn_144, jn_200, jn_240, jn_288, jn_512, jn_840, jn_1200, jn_1600, jn_5040, jn_5390, jn_5400, jn_9999, jn_18688, jn_32400, jn_99999, jn_100000, jn_1000000, jn_858993459, jn_1431655765, jn_252645135, jl_0, jl_1, jl_2, jl_3, jl_8, jl_9, jl_10, jl_20, jl_27, jl_47, jl_96, jl_99, jl_100, jl_200, jl_555, jl_2000, jl_10000, jl_12345, jl_65536, jl_99999, jl_131638, jl_240023, jl_298288, jl_383153, jl_1306021, jl_1960084, jl_4147840, jl_8740238, jl_9872299, jl_175252482, jl_291595537, jl_1103515245, jl_2000000000, jl_2147483648, jl_4721686497, jl_7873079139, J_add, J_sub, J_mul, J_neg, JL_add, JL_sub, JL_mul, JL_neg, J_long, JL_int, ↓remI_fold, ↓remL_fold, Int.reduceAdd, Int.reduceSub, Int.reduceMul, Int.reduceNeg, Int.reduceToNat, b1, rd_0, rd_2, rd_4, rd_6, rd_t1 _ hT ha.1, rd_tp _ hT ha.2 a1, em, rd_p4, rd_p2, e, Option.bind_some, Classical.not_not, em_t, Bp_eq0, Bp_eq1, Bp_01, Bp_mk, Bp_mk', Bp_0, Bp_0', Bp_1, Bp_1', if_true, if_false, ite_not]
    rw [if_pos ⟨a1, a2⟩]
  · intro n
    have b1 := X_isNext (N := N) (ad := ad) (c := c) (f := f) (v := J (vl T q)) (t := t) hT ha (i := q + ru T (isB 48 57) q) (by omega) (x := 48) (y := 57) (by omega)
    show fX6_next_148 ad N a k (n + 1) (rdW V a T.2 c o ((q + ru T (isB 48 57) q : Nat) : Int) f (J (vl T q)) t) = _
    rw [fX6_next_148]
    simp only [jn_0, jn_1, jn_2, jn_3, jn_4, jn_5, jn_6, jn_8, jn_9, jn_10, jn_11, jn_12, jn_16, jn_20, jn_24, jn_30, jn_31, jn_32, jn_36, jn_48, jn_57, jn_59, jn_60, jn_63, jn_72, jn_73, jn_96, jn_97, jn_100, jn_122, jn_144, jn_200, jn_240, jn_288, jn_512, jn_840, jn_1200, jn_1600, jn_5040, jn_5390, jn_5400, jn_9999, jn_18688, jn_32400, jn_99999, jn_100000, jn_1000000, jn_858993459, jn_1431655765, jn_252645135, jl_0, jl_1, jl_2, jl_3, jl_8, jl_9, jl_10, jl_20, jl_27, jl_47, jl_96, jl_99, jl_100, jl_200, jl_555, jl_2000, jl_10000, jl_12345, jl_65536, jl_99999, jl_131638, jl_240023, jl_298288, jl_383153, jl_1306021, jl_1960084, jl_4147840, jl_8740238, jl_9872299, jl_175252482, jl_291595537, jl_1103515245, jl_2000000000, jl_2147483648, jl_4721686497, jl_7873079139, J_add, J_sub, J_mul, J_neg, JL_add, JL_sub, JL_mul, JL_neg, J_long, JL_int, ↓remI_fold, ↓remL_fold, Int.reduceAdd, Int.reduceSub, Int.reduceMul, Int.reduceNeg, Int.reduceToNat, b1, Option.bind_some, Classical.not_not, em_t, Bp_eq0, Bp_eq1, Bp_01, Bp_mk, Bp_mk', Bp_0, Bp_0', Bp_1, Bp_1', if_true, if_false, ite_not]
    rw [if_neg r2]
theorem X_nx98 (hT : TpX V o T) (ha : a ≠ o ∧ a ≠ o + 8) (hN : 1000000 ≤ N) {q : Nat} (hq : q ≤ T.2) (k : Wd → Option Wd) : fX6_next_98 ad N a k N (rdW V a T.2 c o (q : Int) f v t) = k (rdW V a T.2 c o ((q + ru T (isB 97 122) q : Nat) : Int) f v t) := by
  have hn := hT.2.2
  have ⟨r1, r2, r3⟩ := ru_spec hn (isB 97 122) q
  have hle := ru_le hn (isB 97 122) hq
  have key := lp_cnt (fun n j => fX6_next_98 ad N a k n (rdW V a T.2 c o ((q + j : Nat) : Int) f v t)) (k (rdW V a T.2 c o ((q + ru T (isB 97 122) q : Nat) : Int) f v t)) (ru T (isB 97 122) q) ?_ ?_ N (by omega)
  · exact key
  · intro n j hj
    have ⟨a1, a2⟩ := r3 j hj
    have e : ((q + j : Nat) : Int) + 1 = ((q + (j + 1) : Nat) : Int) := by omega
    have b1 := X_isNext (N := N) (ad := ad) (c := c) (f := f) (v := v) (t := t) hT ha (i := q + j) (by omega) (x := 97) (y := 122) (by omega)
    show fX6_next_98 ad N a k (n + 1) (rdW V a T.2 c o ((q + j : Nat) : Int) f v t) = _
    rw [fX6_next_98]
    simp only [jn_0, jn_1, jn_2, jn_3, jn_4, jn_5, jn_6, jn_8, jn_9, jn_10, jn_11, jn_12, jn_16, jn_20, jn_24, jn_30, jn_31, jn_32, jn_36, jn_48, jn_57, jn_59, jn_60, jn_63, jn_72, jn_73, jn_96, jn_97, jn_100, jn_122, jn_144, jn_200, jn_240, jn_288, jn_512, jn_840, jn_1200, jn_1600, jn_5040, jn_5390, jn_5400, jn_9999, jn_18688, jn_32400, jn_99999, jn_100000, jn_1000000, jn_858993459, jn_1431655765, jn_252645135, jl_0, jl_1, jl_2, jl_3, jl_8, jl_9, jl_10, jl_20, jl_27, jl_47, jl_96, jl_99, jl_100, jl_200, jl_555, jl_2000, jl_10000, jl_12345, jl_65536, jl_99999, jl_131638, jl_240023, jl_298288, jl_383153, jl_1306021, jl_1960084, jl_4147840, jl_8740238, jl_9872299, jl_175252482, jl_291595537, jl_1103515245, jl_2000000000, jl_2147483648, jl_4721686497, jl_7873079139, J_add, J_sub, J_mul, J_neg, JL_add, JL_sub, JL_mul, JL_neg, J_long, JL_int, ↓remI_fold, ↓remL_fold, Int.reduceAdd, Int.reduceSub, Int.reduceMul, Int.reduceNeg, Int.reduceToNat, b1, rd_2, rd_p2, e, Option.bind_some, Classical.not_not, em_t, Bp_eq0, Bp_eq1, Bp_01, Bp_mk, Bp_mk', Bp_0, Bp_0', Bp_1, Bp_1', if_true, if_false, ite_not]
    rw [if_pos ⟨a1, a2⟩]
  · intro n
    have b1 := X_isNext (N := N) (ad := ad) (c := c) (f := f) (v := v) (t := t) hT ha (i := q + ru T (isB 97 122) q) (by omega) (x := 97) (y := 122) (by omega)
    show fX6_next_98 ad N a k (n + 1) (rdW V a T.2 c o ((q + ru T (isB 97 122) q : Nat) : Int) f v t) = _
    rw [fX6_next_98]
    simp only [jn_0, jn_1, jn_2, jn_3, jn_4, jn_5, jn_6, jn_8, jn_9, jn_10, jn_11, jn_12, jn_16, jn_20, jn_24, jn_30, jn_31, jn_32, jn_36, jn_48, jn_57, jn_59, jn_60, jn_63, jn_72, jn_73, jn_96, jn_97, jn_100, jn_122, jn_144, jn_200, jn_240, jn_288, jn_512, jn_840, jn_1200, jn_1600, jn_5040, jn_5390, jn_5400, jn_9999, jn_18688, jn_32400, jn_99999, jn_100000, jn_1000000, jn_858993459, jn_1431655765, jn_252645135, jl_0, jl_1, jl_2, jl_3, jl_8, jl_9, jl_10, jl_20, jl_27, jl_47, jl_96, jl_99, jl_100, jl_200, jl_555, jl_2000, jl_10000, jl_12345, jl_65536, jl_99999, jl_131638, jl_240023, jl_298288, jl_383153, jl_1306021, jl_1960084, jl_4147840, jl_8740238, jl_9872299, jl_175252482, jl_291595537, jl_1103515245, jl_2000000000, jl_2147483648, jl_4721686497, jl_7873079139, J_add, J_sub, J_mul, J_neg, JL_add, JL_sub, JL_mul, JL_neg, J_long, JL_int, ↓remI_fold, ↓remL_fold, Int.reduceAdd, Int.reduceSub, Int.reduceMul, Int.reduceNeg, Int.reduceToNat, b1, Option.bind_some, Classical.not_not, em_t, Bp_eq0, Bp_eq1, Bp_01, Bp_mk, Bp_mk', Bp_0, Bp_0', Bp_1, Bp_1', if_true, if_false, ite_not]
    rw [if_neg r2]
theorem X_next (hT : TpX V o T) (ha : a ≠ o ∧ a ≠ o + 8) (hN : 1000000 ≤ N) {i : Nat} (hi : i ≤ T.2) : ∃ v', fX6_next ad N (rdW V a T.2 c o (i : Int) f v t) a = some (rdW V a T.2 c o (en T (sk T i) : Int) (sk T i : Int) v' (ad (kd T (sk T i)))) ∧ (kd T (sk T i) = 2 → v' = J (vl T (sk T i))) := by
  have hn := hT.2.2
  have hq := (sk_le hn hi).2
  unfold fX6_next
  rw [X_nx0 hT ha hN hi]
  generalize sk T i = q at *
  have b1 := X_isNext (N := N) (ad := ad) (c := c) (f := (q : Int)) (v := v) (t := t) hT ha hq (x := 97) (y := 122) (by omega)
  have b2 := X_isNext (N := N) (ad := ad) (c := c) (f := (q : Int)) (v := v) (t := t) hT ha hq (x := 48) (y := 57) (by omega)
  unfold fX6_next_58
  rw [rd_2, Option.bind_some, rd_p3, Option.bind_some, rd_2, Option.bind_some, rd_0, Option.bind_some]
  by_cases h0 : T.2 ≤ q
  · have hk : kd T q = 0 := if_pos h0
    have he : en T q = q := if_pos hk
    rw [if_pos (by congr 1; omega), rd_p5, Option.bind_some, hk, he]
    exact ⟨v, rfl, fun h => by omega⟩
  rw [if_neg (by rw [J_eq (by omega)]; omega), show (97 : Int32) = J 97 from rfl, show (122 : Int32) = J 122 from rfl, b1, Option.bind_some]
  by_cases h1 : isB 97 122 (tz T q) = true
  · have hk : kd T q = 1 := kd_1.2 ⟨by omega, h1⟩
    have he : en T q = q + ru T (isB 97 122) q := by unfold en; rw [if_neg (by omega), if_pos hk]
    rw [Bp_t ⟨by omega, h1⟩, if_neg (by decide), X_nx98 hT ha hN hq, rd_p5, Option.bind_some, hk, he]
    exact ⟨v, rfl, fun h => by omega⟩
  rw [Bp_f (fun h => h1 h.2), if_pos (show J 0 = (0 : Int32) from rfl), show (48 : Int32) = J 48 from rfl, show (57 : Int32) = J 57 from rfl, b2, Option.bind_some]
  by_cases h2 : isB 48 57 (tz T q) = true
  · have hk : kd T q = 2 := kd_2.2 ⟨by omega, h2⟩
    have he : en T q = q + ru T (isB 48 57) q := by unfold en; rw [if_neg (by omega), if_neg (by omega), if_pos hk]
    rw [Bp_t ⟨by omega, h2⟩, if_neg (by decide), rd_p4, Option.bind_some, jn_0, X_nx148 hT ha hN hq, rd_p5, Option.bind_some, hk, he]
    exact ⟨_, rfl, fun _ => rfl⟩
  have htb := tz_bd T q
  have he : ∀ k, kd T q = k → (k = 3 ∨ k = 4) → en T q = q + 1 := fun k hk hk2 => by
    unfold en
    rw [if_neg (by omega), if_neg (by omega), if_neg (by omega)]
  rw [Bp_f (fun h => h2 h.2), if_pos (show J 0 = (0 : Int32) from rfl), rd_6, Option.bind_some, rd_t1 _ hT ha.1, Option.bind_some, Option.bind_some, rd_tp _ hT ha.2 (by omega), Option.bind_some]
  by_cases h3 : tz T q = 59
  · have hk : kd T q = 3 := by unfold kd; rw [if_neg h0, if_neg h1, if_neg h2, if_pos h3]
    rw [if_pos (by rw [h3]; rfl), rd_p5, Option.bind_some, rd_2, Option.bind_some, jn_1, J_add, rd_p2, Option.bind_some, hk, he 3 hk (by omega), castS]
    exact ⟨v, rfl, fun h => by omega⟩
  · have hk : kd T q = 4 := by unfold kd; rw [if_neg h0, if_neg h1, if_neg h2, if_neg h3]
    rw [if_neg (by rw [show (59 : Int32) = J 59 from rfl, J_eq (by omega)]; exact h3), rd_p5, Option.bind_some, rd_2, Option.bind_some, jn_1, J_add, rd_p2, Option.bind_some, hk, he 4 hk (by omega), castS]
    exact ⟨v, rfl, fun h => by omega⟩
end
