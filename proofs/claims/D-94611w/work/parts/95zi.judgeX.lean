/-! the component: takes, judge -/
set_option maxRecDepth 100000
section
variable {N o c : Nat} {S : XS} {w : Wd} {C : Cy} {th ra : Nat → Nat} {σ : Sl}
theorem X_as106 (hg : gR w [0] o 0 = some c) (hc : Hc w c th C) {z : Int} (hz : 0 ≤ z ∧ z ≤ 99) (x y u v : Int32) (R : Int32 → Option Int32) (k1 k2 : Option Int32) : fX0_asksRow_106 N w o x y u v (J z) R k1 k2 = if z % 10 < cR C then R (v + 1) else k1 := by
  have e2 : remI (J z) (J 10) = J (z % 10) := J_rem (by omega)
  unfold fX0_asksRow_106
  simp only [jn_0, jn_1, jn_2, jn_3, jn_4, jn_5, jn_6, jn_8, jn_9, jn_10, jn_11, jn_12, jn_16, jn_20, jn_24, jn_30, jn_31, jn_32, jn_36, jn_48, jn_57, jn_59, jn_60, jn_63, jn_72, jn_73, jn_96, jn_97, jn_100, jn_122, jn_144, jn_200, jn_240, jn_288, jn_512, jn_840, jn_1200, jn_1600, jn_5040, jn_5390, jn_5400, jn_9999, jn_18688, jn_32400, jn_99999, jn_100000, jn_1000000, jn_858993459, jn_1431655765, jn_252645135, jl_0, jl_1, jl_2, jl_3, jl_8, jl_9, jl_10, jl_20, jl_27, jl_47, jl_96, jl_99, jl_100, jl_200, jl_555, jl_2000, jl_10000, jl_12345, jl_65536, jl_99999, jl_131638, jl_240023, jl_298288, jl_383153, jl_1306021, jl_1960084, jl_4147840, jl_8740238, jl_9872299, jl_175252482, jl_291595537, jl_1103515245, jl_2000000000, jl_2147483648, jl_4721686497, jl_7873079139, J_add, J_sub, J_mul, J_neg, JL_add, JL_sub, JL_mul, JL_neg, J_long, JL_int, ↓remI_fold, ↓remL_fold, Int.reduceAdd, Int.reduceSub, Int.reduceMul, Int.reduceNeg, Int.reduceToNat, e2, X_isRoof hg hc (v := z % 10) (by omega), Option.bind_some, Classical.not_not, em_t, Bp_eq0, Bp_eq1, Bp_01, Bp_mk, Bp_mk', Bp_0, Bp_0', Bp_1, Bp_1', if_true, if_false, ite_not]
  by_cases h : z % 10 < cR C
  · rw [if_pos h, if_pos ⟨by omega, h⟩]
  · rw [if_neg h, if_neg (fun x => h x.2)]
theorem X_as46 (hg : gR (emX o S w) [0] o 0 = some c) (hc : Hc (emX o S w) c th C) (h : SlX4 w o ra σ) (hN : 1000000 ≤ N) {a r u n : Nat} {g : Nat → Int64} (ha : a < 4) (hs : σ a = some (u, n, g)) (hn : n ≤ 8) (hr : r < cR C) (k1 k2 : Option Int32) : fX0_asksRow_46 N (emX o S w) o (J (a : Int)) (J (r : Int)) (J (n : Int)) k1 k2 N (J 0) = match fi (fun i => !okc (cR C) r (g i)) n with
    | some _ => k1
    | none => k2 := by
  have hR := cR_le C
  have key := lp_find (fun m i => fX0_asksRow_46 N (emX o S w) o (J (a : Int)) (J (r : Int)) (J (n : Int)) k1 k2 m (J (i : Int))) (fun _ => k1) k2 n (fun i => !okc (cR C) r (g i)) ?_ ?_ N (by omega)
  · exact key
  · intro m i hi
    have hzb := JL_bd (g i)
    show fX0_asksRow_46 _ _ _ _ _ _ _ _ _ _ = _
    rw [fX0_asksRow_46, if_neg (by rw [J_le (by omega)]; omega), xg_22, Option.bind_some, sx_at h ha, Option.bind_some, sx_k h ha, Option.bind_some, X4_at h ha hs hi, Option.bind_some]
    unfold okc
    rw [← JL_v (g i)]
    generalize hzz : (g i).toInt = z at *
    have e1 : fX0_isIn N (emX o S w) (JL z) (JL 0) (JL 99) = some (Bp (0 ≤ z ∧ z ≤ 99)) := X_in (by omega)
    rw [JL_toInt (by omega), jl_0, jl_99, e1, Option.bind_some, JL_int]
    simp only [jn_0, jn_1, jn_2, jn_3, jn_4, jn_5, jn_6, jn_8, jn_9, jn_10, jn_11, jn_12, jn_16, jn_20, jn_24, jn_30, jn_31, jn_32, jn_36, jn_48, jn_57, jn_59, jn_60, jn_63, jn_72, jn_73, jn_96, jn_97, jn_100, jn_122, jn_144, jn_200, jn_240, jn_288, jn_512, jn_840, jn_1200, jn_1600, jn_5040, jn_5390, jn_5400, jn_9999, jn_18688, jn_32400, jn_99999, jn_100000, jn_1000000, jn_858993459, jn_1431655765, jn_252645135, jl_0, jl_1, jl_2, jl_3, jl_8, jl_9, jl_10, jl_20, jl_27, jl_47, jl_96, jl_99, jl_100, jl_200, jl_555, jl_2000, jl_10000, jl_12345, jl_65536, jl_99999, jl_131638, jl_240023, jl_298288, jl_383153, jl_1306021, jl_1960084, jl_4147840, jl_8740238, jl_9872299, jl_175252482, jl_291595537, jl_1103515245, jl_2000000000, jl_2147483648, jl_4721686497, jl_7873079139, J_add, J_sub, J_mul, J_neg, JL_add, JL_sub, JL_mul, JL_neg, J_long, JL_int, ↓remI_fold, ↓remL_fold, Int.reduceAdd, Int.reduceSub, Int.reduceMul, Int.reduceNeg, Int.reduceToNat, Classical.not_not, em_t, Bp_eq0, Bp_eq1, Bp_01, Bp_mk, Bp_mk', Bp_0, Bp_0', Bp_1, Bp_1', if_true, if_false, ite_not]
    by_cases h4 : 0 ≤ z ∧ z ≤ 99
    case neg =>
      rw [if_neg h4]
      unfold fX0_asksRow_84
      rw [if_pos (by rfl), if_pos (by simp [h4])]
    rw [if_pos h4]
    have e3 : J z / J 10 = J (z / 10) := J_div (by omega)
    unfold fX0_asksRow_84
    simp only [jn_0, jn_1, jn_2, jn_3, jn_4, jn_5, jn_6, jn_8, jn_9, jn_10, jn_11, jn_12, jn_16, jn_20, jn_24, jn_30, jn_31, jn_32, jn_36, jn_48, jn_57, jn_59, jn_60, jn_63, jn_72, jn_73, jn_96, jn_97, jn_100, jn_122, jn_144, jn_200, jn_240, jn_288, jn_512, jn_840, jn_1200, jn_1600, jn_5040, jn_5390, jn_5400, jn_9999, jn_18688, jn_32400, jn_99999, jn_100000, jn_1000000, jn_858993459, jn_1431655765, jn_252645135, jl_0, jl_1, jl_2, jl_3, jl_8, jl_9, jl_10, jl_20, jl_27, jl_47, jl_96, jl_99, jl_100, jl_200, jl_555, jl_2000, jl_10000, jl_12345, jl_65536, jl_99999, jl_131638, jl_240023, jl_298288, jl_383153, jl_1306021, jl_1960084, jl_4147840, jl_8740238, jl_9872299, jl_175252482, jl_291595537, jl_1103515245, jl_2000000000, jl_2147483648, jl_4721686497, jl_7873079139, J_add, J_sub, J_mul, J_neg, JL_add, JL_sub, JL_mul, JL_neg, J_long, JL_int, ↓remI_fold, ↓remL_fold, Int.reduceAdd, Int.reduceSub, Int.reduceMul, Int.reduceNeg, Int.reduceToNat, e3, X_as106 hg hc h4, castS]
    rw [if_neg (by rw [J_eq (by omega)]; omega)]
    by_cases h6 : z / 10 = 0
    · rw [if_pos (by rw [h6])]
      by_cases h7 : z = (r : Int)
      · rw [if_pos (by rw [h7]), if_pos (by omega), if_neg (by simp; omega)]
      · rw [if_neg (by rw [J_eq (by omega)]; exact h7), if_pos (by simp; omega)]
    · rw [if_neg (by rw [J_eq (by omega)]; exact h6)]
      by_cases h5 : z % 10 < cR C
      · rw [if_pos h5, if_neg (by simp; omega)]
      · rw [if_neg h5, if_pos (by simp; omega)]
  · intro m
    show fX0_asksRow_46 _ _ _ _ _ _ _ _ _ _ = _
    rw [fX0_asksRow_46, if_pos (by rw [J_le (by omega)]; omega)]
theorem X_asksRow (hg : gR (emX o S w) [0] o 0 = some c) (hc : Hc (emX o S w) c th C) (h : SlX4 w o ra σ) (hN : 1000000 ≤ N) {v r : Int} (hv : -2147483648 ≤ v ∧ v ≤ 2147483647) (hr : -2147483648 ≤ r ∧ r ≤ 2147483647) : fX0_asksRow N (emX o S w) o (J v) (J r) = some (J (sp_asks C σ v r)) := by
  have hR := cR_le C
  unfold fX0_asksRow sp_asks
  simp only [jn_0, jn_1, jn_2, jn_3, jn_4, jn_5, jn_6, jn_8, jn_9, jn_10, jn_11, jn_12, jn_16, jn_20, jn_24, jn_30, jn_31, jn_32, jn_36, jn_48, jn_57, jn_59, jn_60, jn_63, jn_72, jn_73, jn_96, jn_97, jn_100, jn_122, jn_144, jn_200, jn_240, jn_288, jn_512, jn_840, jn_1200, jn_1600, jn_5040, jn_5390, jn_5400, jn_9999, jn_18688, jn_32400, jn_99999, jn_100000, jn_1000000, jn_858993459, jn_1431655765, jn_252645135, jl_0, jl_1, jl_2, jl_3, jl_8, jl_9, jl_10, jl_20, jl_27, jl_47, jl_96, jl_99, jl_100, jl_200, jl_555, jl_2000, jl_10000, jl_12345, jl_65536, jl_99999, jl_131638, jl_240023, jl_298288, jl_383153, jl_1306021, jl_1960084, jl_4147840, jl_8740238, jl_9872299, jl_175252482, jl_291595537, jl_1103515245, jl_2000000000, jl_2147483648, jl_4721686497, jl_7873079139, J_add, J_sub, J_mul, J_neg, JL_add, JL_sub, JL_mul, JL_neg, J_long, JL_int, ↓remI_fold, ↓remL_fold, Int.reduceAdd, Int.reduceSub, Int.reduceMul, Int.reduceNeg, Int.reduceToNat, Classical.not_not, em_t, Bp_eq0, Bp_eq1, Bp_01, Bp_mk, Bp_mk', Bp_0, Bp_0', Bp_1, Bp_1', if_true, if_false, ite_not, X_isSlot hv, X_isRoof hg hc hr, Option.bind_some]
  by_cases h1 : 0 ≤ v ∧ v ≤ 3
  case neg => simp only [if_neg h1]
  simp only [if_pos h1]
  by_cases h2 : 0 ≤ r ∧ r < cR C
  case neg => simp only [if_neg h2]
  simp only [if_pos h2]
  obtain ⟨a, ha⟩ : ∃ a : Nat, v = a := ⟨v.toNat, by omega⟩
  subst ha
  obtain ⟨b, hb⟩ : ∃ a : Nat, r = a := ⟨r.toNat, by omega⟩
  subst hb
  have ha4 : a < 4 := by omega
  simp only [Int.toNat_natCast, xg_22, sx_at h ha4, sx_k h ha4, Option.bind_some]
  cases hs : σ a with
  | none =>
    simp only [sx_n h ha4 hs, Option.bind_some, if_true]
  | some y =>
    obtain ⟨u, n, g⟩ := y
    obtain ⟨p1, p2, p3, _⟩ := sx_s (S := S) h ha4 hs
    have e1 : fX0_isIn N (emX o S w) (JL (n : Int)) (JL 1) (JL 8) = some (Bp (1 ≤ (n : Int) ∧ (n : Int) ≤ 8)) := X_in (by omega)
    simp only [p1, X4_size h ha4 hs, J_long (show -2147483648 ≤ (n : Int) ∧ (n : Int) ≤ 2147483647 by omega), e1, Option.bind_some, Classical.not_not, em_t, Bp_eq0, Bp_eq1, Bp_01, Bp_mk, Bp_mk', Bp_0, Bp_0', Bp_1, Bp_1', if_true, if_false, ite_not, reduceCtorEq]
    by_cases h3 : 1 ≤ n ∧ n ≤ 8
    case neg => rw [if_neg (by omega), if_neg h3]
    rw [if_pos (by omega), if_pos h3, X_as46 hg hc h hN ha4 hs h3.2 (by omega)]
    cases fi (fun i => !okc (cR C) b (g i)) n with
    | some i => rfl
    | none => rfl
theorem SlX4_fr {w' : Wd} (h : SlX4 w o ra σ) (hw : ∀ q, (o + 22 ≤ q ∧ q ≤ o + 26) ∨ (∃ v, v < 4 ∧ σ v ≠ none ∧ q = ra v) → w' q = w q) : SlX4 w' o ra σ := by
  obtain ⟨⟨f, e1, e2⟩, h2, h3, h4⟩ := h
  refine ⟨⟨f, by rw [hw _ (Or.inl (by omega))]; exact e1, e2⟩, fun v hv => ?_, h3, h4⟩
  have ⟨k1, k2⟩ := h2 v hv
  refine ⟨fun hs => by rw [hw _ (Or.inl (by omega))]; exact k1 hs, fun u n g hs => ?_⟩
  obtain ⟨a1, a2, a3, e, a4, a5⟩ := k2 u n g hs
  exact ⟨by rw [hw _ (Or.inl (by omega))]; exact a1, a2, a3, e, by rw [hw _ (Or.inr ⟨v, hv, by rw [hs]; exact Option.some_ne_none _, rfl⟩)]; exact a4, a5⟩
/-- the city's cells and the slots' are apart -/
def SpS (o c : Nat) (th : Nat → Nat) (R : Nat) (ra : Nat → Nat) (σ : Sl) : Prop := ∀ q, Ft c th R q → ¬ (o + 22 ≤ q ∧ q ≤ o + 26) ∧ ∀ v, v < 4 → σ v ≠ none → q ≠ ra v
theorem SlX4_W {w' : Wd} {R : Nat} (h : SlX4 w o ra σ) (hp : SpS o c th R ra σ) (hf : FrW c th R w w') : SlX4 w' o ra σ := SlX4_fr h (fun q hq => hf q (fun hft => by
  have ⟨p1, p2⟩ := hp q hft
  rcases hq with hq | ⟨v, hv, hs, hq⟩
  · exact p1 hq
  · exact p2 v hv hs hq))
theorem X_takesRow (hw : Hc w c th C) (hs : Sep o c th (cR C)) (h : SlX4 w o ra σ) (hp : SpS o c th (cR C) ra σ) (hN : 1000000 ≤ N) {a r u n : Nat} {g : Nat → Int64} (ha : a < 4) (hσ : σ a = some (u, n, g)) (hn : 1 ≤ n ∧ n ≤ 8) (hr : r < cR C) (hg : ∀ i, i < n → okc (cR C) r (g i) = true) {F G : Nat → Int32} (e : wT w (th r) (kc (cK C r)) r (J (cP C r)) F G = w) : fX0_takesRow N (emX o S w) o (J (a : Int)) (th r) (J (n : Int)) = some (emX o S (wT w (th r) (kc (cK C r)) r (J (n : Int)) (fun j => if j < n then J ((g j).toInt / 10) else F j) (fun j => if j < n then J ((g j).toInt % 10) else G j))) := by
  have hR := cR_le C
  have hk := kc_in _ (cK_le C r)
  have hth := Sep_th hs hr
  have hsl : ∀ m F G, SlX4 (wT w (th r) (kc (cK C r)) r m F G) o ra σ := fun m F G => SlX4_W h hp (FrW_T hr)
  unfold fX0_takesRow
  have key := lp_cnt (fun m i => fX0_takesRow_3 N o (J (a : Int)) (th r) (J (n : Int)) (fun w12 => (pF w12 [2, 8, 9, 10, 11] (th r) 3 (.int (J (n : Int)))).bind fun w13 => some w13) m (J (i : Int)) (emX o S (wT w (th r) (kc (cK C r)) r (J (cP C r)) (fun j => if j < i then J ((g j).toInt / 10) else F j) (fun j => if j < i then J ((g j).toInt % 10) else G j)))) (some (emX o S (wT w (th r) (kc (cK C r)) r (J (n : Int)) (fun j => if j < n then J ((g j).toInt / 10) else F j) (fun j => if j < n then J ((g j).toInt % 10) else G j)))) n ?_ ?_ N (by omega)
  · have e1 : (fun j => if j < 0 then J ((g j).toInt / 10) else F j) = F := by funext j; rw [if_neg (by omega)]
    have e2 : (fun j => if j < 0 then J ((g j).toInt % 10) else G j) = G := by funext j; rw [if_neg (by omega)]
    rw [e1, e2, e] at key
    exact key
  · intro m i hi
    have hzb := (okc_t (hg i hi)).1
    have e0 : (g i).toInt32 = J (g i).toInt := by
      have := JL_int (g i).toInt
      rwa [JL_v] at this
    have e1 : J (g i).toInt / J 10 = J ((g i).toInt / 10) := J_div (by omega)
    have e2 : remI (J (g i).toInt) (J 10) = J ((g i).toInt % 10) := J_rem (by omega)
    have hS := hsl (J (cP C r)) (fun j => if j < i then J ((g j).toInt / 10) else F j) (fun j => if j < i then J ((g j).toInt % 10) else G j)
    show fX0_takesRow_3 _ _ _ _ _ _ _ _ _ = _
    rw [fX0_takesRow_3, if_neg (by rw [J_le (by omega)]; omega)]
    simp only [jn_0, jn_1, jn_2, jn_3, jn_4, jn_5, jn_6, jn_8, jn_9, jn_10, jn_11, jn_12, jn_16, jn_20, jn_24, jn_30, jn_31, jn_32, jn_36, jn_48, jn_57, jn_59, jn_60, jn_63, jn_72, jn_73, jn_96, jn_97, jn_100, jn_122, jn_144, jn_200, jn_240, jn_288, jn_512, jn_840, jn_1200, jn_1600, jn_5040, jn_5390, jn_5400, jn_9999, jn_18688, jn_32400, jn_99999, jn_100000, jn_1000000, jn_858993459, jn_1431655765, jn_252645135, jl_0, jl_1, jl_2, jl_3, jl_8, jl_9, jl_10, jl_20, jl_27, jl_47, jl_96, jl_99, jl_100, jl_200, jl_555, jl_2000, jl_10000, jl_12345, jl_65536, jl_99999, jl_131638, jl_240023, jl_298288, jl_383153, jl_1306021, jl_1960084, jl_4147840, jl_8740238, jl_9872299, jl_175252482, jl_291595537, jl_1103515245, jl_2000000000, jl_2147483648, jl_4721686497, jl_7873079139, J_add, J_sub, J_mul, J_neg, JL_add, JL_sub, JL_mul, JL_neg, J_long, JL_int, ↓remI_fold, ↓remL_fold, Int.reduceAdd, Int.reduceSub, Int.reduceMul, Int.reduceNeg, Int.reduceToNat, xg_22, sx_at hS ha, sx_k hS ha, X4_at hS ha hσ hi, T_k hth hk, e0, e1, e2, Option.bind_some, castS]
    rw [T_set hth hk (by omega), Option.bind_some, Int.toNat_natCast, lt_upd (fun j => J ((g j).toInt / 10)) F i, lt_upd (fun j => J ((g j).toInt % 10)) G i]
  · intro m
    show fX0_takesRow_3 _ _ _ _ _ _ _ _ _ = _
    rw [fX0_takesRow_3, if_pos (by rw [J_le (by omega)]; omega), T_many hth hk, Option.bind_some]
theorem tk_H (hw : Hc w c th C) (hs : Sep o c th (cR C)) {r n : Nat} {g : Nat → Int64} (hn : 1 ≤ n ∧ n ≤ 8) (hr : r < cR C) (hg : ∀ i, i < n → okc (cR C) r (g i) = true) {F G : Nat → Int32} : Hc (wT w (th r) (kc (cK C r)) r (J (n : Int)) (fun j => if j < n then J ((g j).toInt / 10) else F j) (fun j => if j < n then J ((g j).toInt % 10) else G j)) c th (tkC C g r n) := by
  have hR := cR_le C
  refine Hc_row hw hs hr hn (fun i hi => ?_)
  have ht := okc_t (hg i hi)
  refine ⟨by omega, by omega, ?_, ?_⟩
  · simp only [if_pos hi]; congr 1; omega
  · simp only [if_pos hi]; congr 1; omega
theorem asks_lo (C : Cy) (σ : Sl) (v r : Int) : -6 ≤ sp_asks C σ v r ∧ sp_asks C σ v r ≠ 0 ∧ (sp_asks C σ v r ≤ 8) := by
  by_cases h : 0 < sp_asks C σ v r
  · obtain ⟨_, _, u, n, _, hn, en, _⟩ := asks_pos h
    omega
  · unfold sp_asks at h ⊢
    refine ⟨?_, ?_, ?_⟩
    all_goals
      repeat' split
      all_goals omega
theorem X_takes (hw : Hc w c th C) (hs : Sep o c th (cR C)) (hc : xc S = c) (h : SlX4 w o ra σ) (hp : SpS o c th (cR C) ra σ) (hN : 1000000 ≤ N) {v r : Int} (hv : -2147483648 ≤ v ∧ v ≤ 2147483647) (hr : -2147483648 ≤ r ∧ r ≤ 2147483647) : ∃ w', fX0_takes N (emX o S w) o (J v) (J r) = some (J (sp_takes C σ v r).1, emX o S w') ∧ FrW c th (cR C) w w' ∧ Hc w' c th (sp_takes C σ v r).2 := by
  have hx := hX_of hw hs S
  have hg : gR (emX o S w) [0] o 0 = some c := xg hc
  have hR := cR_le C
  have hlo := asks_lo C σ v r
  have hcm : (J (sp_asks C σ v r) ≤ J 0) = (sp_asks C σ v r ≤ 0) := J_le (by omega)
  unfold fX0_takes sp_takes
  simp only [jn_0, jn_1, jn_2, jn_3, jn_4, jn_5, jn_6, jn_8, jn_9, jn_10, jn_11, jn_12, jn_16, jn_20, jn_24, jn_30, jn_31, jn_32, jn_36, jn_48, jn_57, jn_59, jn_60, jn_63, jn_72, jn_73, jn_96, jn_97, jn_100, jn_122, jn_144, jn_200, jn_240, jn_288, jn_512, jn_840, jn_1200, jn_1600, jn_5040, jn_5390, jn_5400, jn_9999, jn_18688, jn_32400, jn_99999, jn_100000, jn_1000000, jn_858993459, jn_1431655765, jn_252645135, jl_0, jl_1, jl_2, jl_3, jl_8, jl_9, jl_10, jl_20, jl_27, jl_47, jl_96, jl_99, jl_100, jl_200, jl_555, jl_2000, jl_10000, jl_12345, jl_65536, jl_99999, jl_131638, jl_240023, jl_298288, jl_383153, jl_1306021, jl_1960084, jl_4147840, jl_8740238, jl_9872299, jl_175252482, jl_291595537, jl_1103515245, jl_2000000000, jl_2147483648, jl_4721686497, jl_7873079139, J_add, J_sub, J_mul, J_neg, JL_add, JL_sub, JL_mul, JL_neg, J_long, JL_int, ↓remI_fold, ↓remL_fold, Int.reduceAdd, Int.reduceSub, Int.reduceMul, Int.reduceNeg, Int.reduceToNat, X_asksRow hg hx h hN hv hr, Option.bind_some, hcm]
  by_cases h1 : 0 < sp_asks C σ v r
  case neg =>
    simp only [if_neg h1]
    exact ⟨w, by rw [if_pos (by omega)], FrW_r _ _ _ _, hw⟩
  simp only [if_pos h1]
  rw [if_neg (show ¬ sp_asks C σ v r ≤ 0 by omega)]
  obtain ⟨v1, r1, u, n, hσ, hn, en, hok⟩ := asks_pos h1
  obtain ⟨a, ha⟩ : ∃ a : Nat, v = a := ⟨v.toNat, by omega⟩
  subst ha
  obtain ⟨b, hb⟩ : ∃ a : Nat, r = a := ⟨r.toNat, by omega⟩
  subst hb
  simp only [Int.toNat_natCast] at hσ hok ⊢
  have hb : b < cR C := by omega
  have hat := hc_at hx (z := (b : Int)) (by omega)
  rw [Int.toNat_natCast] at hat
  obtain ⟨F, G, e, hF⟩ := Hc_thr hw hb
  rw [en, hg, Option.bind_some, hc_7 hx, Option.bind_some, hat, Option.bind_some, X_takesRow hw hs h hp hN (by omega) hσ hn hb hok e, Option.bind_some]
  exact ⟨_, rfl, FrW_T hb, by simpa using tk_H hw hs hn hb hok⟩
theorem X_judge (hw : Hc w c th C) (hs : Sep o c th (cR C)) (hc : xc S = c) (h : SlX4 w o ra σ) (hp : SpS o c th (cR C) ra σ) (hN : 1000000 ≤ N) {v r : Int} (hv : -2147483648 ≤ v ∧ v ≤ 2147483647) (hr : -2147483648 ≤ r ∧ r ≤ 2147483647) : ∃ S' w', fX0_judge N (emX o S w) o (J v) (J r) = some (J (sp_judge C σ v r), emX o S' w') ∧ FrX S S' ∧ FrW c th (cR C) w w' ∧ Hc w' c th C := by
  have hx := hX_of hw hs S
  have hg : gR (emX o S w) [0] o 0 = some c := xg hc
  have hR := cR_le C
  have hlo := asks_lo C σ v r
  have hcm : (J 0 ≤ J (sp_asks C σ v r)) = (0 ≤ sp_asks C σ v r) := J_le (by omega)
  unfold fX0_judge sp_judge
  simp only [jn_0, jn_1, jn_2, jn_3, jn_4, jn_5, jn_6, jn_8, jn_9, jn_10, jn_11, jn_12, jn_16, jn_20, jn_24, jn_30, jn_31, jn_32, jn_36, jn_48, jn_57, jn_59, jn_60, jn_63, jn_72, jn_73, jn_96, jn_97, jn_100, jn_122, jn_144, jn_200, jn_240, jn_288, jn_512, jn_840, jn_1200, jn_1600, jn_5040, jn_5390, jn_5400, jn_9999, jn_18688, jn_32400, jn_99999, jn_100000, jn_1000000, jn_858993459, jn_1431655765, jn_252645135, jl_0, jl_1, jl_2, jl_3, jl_8, jl_9, jl_10, jl_20, jl_27, jl_47, jl_96, jl_99, jl_100, jl_200, jl_555, jl_2000, jl_10000, jl_12345, jl_65536, jl_99999, jl_131638, jl_240023, jl_298288, jl_383153, jl_1306021, jl_1960084, jl_4147840, jl_8740238, jl_9872299, jl_175252482, jl_291595537, jl_1103515245, jl_2000000000, jl_2147483648, jl_4721686497, jl_7873079139, J_add, J_sub, J_mul, J_neg, JL_add, JL_sub, JL_mul, JL_neg, J_long, JL_int, ↓remI_fold, ↓remL_fold, Int.reduceAdd, Int.reduceSub, Int.reduceMul, Int.reduceNeg, Int.reduceToNat, X_asksRow hg hx h hN hv hr, Option.bind_some, hcm]
  by_cases h1 : 0 < sp_asks C σ v r
  case neg =>
    simp only [if_neg h1]
    exact ⟨S, w, by rw [if_neg (by omega)], FrX_r S, FrW_r _ _ _ _, hw⟩
  simp only [if_pos h1]
  rw [if_pos (show 0 ≤ sp_asks C σ v r by omega)]
  obtain ⟨v1, r1, u, n, hσ, hn, en, hok⟩ := asks_pos h1
  obtain ⟨a, ha⟩ : ∃ a : Nat, v = a := ⟨v.toNat, by omega⟩
  subst ha
  obtain ⟨b, hb⟩ : ∃ a : Nat, r = a := ⟨r.toNat, by omega⟩
  subst hb
  simp only [Int.toNat_natCast] at hσ hok ⊢
  have hb : b < cR C := by omega
  have hat := hc_at hx (z := (b : Int)) (by omega)
  rw [Int.toNat_natCast] at hat
  obtain ⟨F, G, e, hF⟩ := Hc_thr hw hb
  have hk := kc_in _ (cK_le C b)
  have hth := Sep_th hs hb
  have hP := cP_bd C b
  have eb := X_beS (N := N) (o := o) (S := S) (w := w) (r := b) (m := J (cP C b)) (F := F) (G := G) hth hk
  rw [e] at eb
  have hcS : xc (spr S F G (J (cP C b))) = c := hc
  have hg2 : ∀ W, gR (emX o (spr S F G (J (cP C b))) W) [0] o 0 = some c := fun W => xg hcS
  have q41 : xi (spr S F G (J (cP C b))) 41 = J (cP C b) := rfl
  have q10 : xa (spr S F G (J (cP C b))) 10 = cp8 F (xa S 10) := rfl
  have q11 : xa (spr S F G (J (cP C b))) 11 = cp8 G (xa S 11) := rfl
  have hD := tk_H (F := F) (G := G) hw hs hn hb hok
  have hsD : Sep o c th (cR (tkC C (rwG σ a) b n)) := hs
  have hxD := hX_of hD hsD (spr S F G (J (cP C b)))
  have ebT := X_beT (N := N) (o := o) (S := spr S F G (J (cP C b))) (w := w) (r := b) (m := J (n : Int)) (F := fun j => if j < n then J ((rwG σ a j).toInt / 10) else F j) (G := fun j => if j < n then J ((rwG σ a j).toInt % 10) else G j) hth hk
  rw [en, hg, Option.bind_some, hc_7 hx, Option.bind_some, hat, Option.bind_some, xg_5, Option.bind_some, xk_s, Option.bind_some, eb, Option.bind_some, X_takesRow hw hs h hp hN (by omega) hσ hn hb hok e, Option.bind_some, hg2, Option.bind_some, hc_k hxD, Option.bind_some, X_keepsC hxD (show 1000 ≤ N by omega), Option.bind_some, xg_5, Option.bind_some, T_k hth hk, Option.bind_some, ebT, Option.bind_some, Int.toNat_natCast]
  refine ⟨spr S F G (J (cP C b)), (wT w (th b) (kc (cK C b)) b (xi (spr S F G (J (cP C b))) 41) (cp8 (xa (spr S F G (J (cP C b))) 10) (fun j => if j < n then J ((rwG σ a j).toInt / 10) else F j)) (cp8 (xa (spr S F G (J (cP C b))) 11) (fun j => if j < n then J ((rwG σ a j).toInt % 10) else G j))), ?_, spr_Fr _ _ _ _, FrW_T hb, ?_⟩
  · by_cases h2 : kp (tkC C (rwG σ a) b n) = true
    · simp only [Bp_eq0, h2, not_true_eq_false, if_false, if_true]
    · simp only [Bp_eq0, h2, not_false_eq_true, if_true, if_false, Bool.false_eq_true]
  · rw [q41, q10, q11]
    have hrow := Hc_row (H := cH C b) (T := cT C b) (n := cP C b) hw hs hb hP (F := cp8 (cp8 F (xa S 10)) (fun j => if j < n then J ((rwG σ a j).toInt / 10) else F j)) (G := cp8 (cp8 G (xa S 11)) (fun j => if j < n then J ((rwG σ a j).toInt % 10) else G j)) (fun i hi => by
      have h8 := cH_le C b i
      have h9 := cT_le C b i
      have ⟨f1, f2⟩ := hF i hi
      refine ⟨h8, h9, ?_, ?_⟩
      · unfold cp8; rw [if_pos (by omega), if_pos (by omega)]; exact f1
      · unfold cp8; rw [if_pos (by omega), if_pos (by omega)]; exact f2)
    obtain ⟨a0, a1, a2, a3, a4, a5, a6, a7⟩ := hrow
    refine ⟨a0, a1, ?_, ?_, ?_, ?_, ?_, fun q hq => ?_⟩
    · obtain ⟨f, p1, p2⟩ := a2
      exact ⟨f, p1, fun k hk => by have := p2 k hk; rwa [cRow_Lo] at this⟩
    · obtain ⟨f, p1, p2⟩ := a3
      exact ⟨f, p1, fun k hk => by have := p2 k hk; rwa [cRow_Hi] at this⟩
    · obtain ⟨f, p1, p2⟩ := a4
      exact ⟨f, p1, fun k hk => by have := p2 k hk; rwa [cRow_F] at this⟩
    · obtain ⟨f, p1, p2⟩ := a5
      exact ⟨f, p1, fun k hk => by have := p2 k hk; rwa [cRow_A] at this⟩
    · obtain ⟨f, p1, p2⟩ := a6
      exact ⟨f, p1, fun k hk => by have := p2 k hk; rwa [cRow_D] at this⟩
    · obtain ⟨p0, ⟨f, p1, p1'⟩, ⟨f', p2, p2'⟩⟩ := a7 q hq
      have eP : cP (cRow C b (cP C b) (cH C b) (cT C b)) q = cP C q := by
        rw [cRow_P hP]
        by_cases hqb : q = b
        · rw [if_pos hqb, hqb]
        · rw [if_neg hqb]
      have hPq := cP_bd C q
      rw [cRow_K, eP] at p0
      refine ⟨p0, ⟨f, p1, fun i hi => ?_⟩, ⟨f', p2, fun i hi => ?_⟩⟩
      · have := p1' i (by rw [eP]; exact hi)
        rw [cRow_H (by omega) (cH_le _ _ _)] at this
        by_cases hqb : q = b
        · rw [if_pos hqb] at this; rw [hqb]; exact this
        · rw [if_neg hqb] at this; exact this
      · have := p2' i (by rw [eP]; exact hi)
        rw [cRow_T (by omega) (cT_le _ _ _)] at this
        by_cases hqb : q = b
        · rw [if_pos hqb] at this; rw [hqb]; exact this
        · rw [if_neg hqb] at this; exact this
end
