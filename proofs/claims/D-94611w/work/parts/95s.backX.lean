/-! the component: backwards -/
set_option maxRecDepth 100000
def bwC (C : Cy) (r : Nat) (b : Int) : Int := 10 * (bwM C r b).1 + (bwM C r b).2
/-- the codes that are laid: rows below r, of row r the first i -/
def bcF (C : Cy) (P r i : Nat) (f : Nat → Int32) : Nat → Int32 := fun p => if (p / 8 < r ∨ (p / 8 = r ∧ p % 8 < i)) ∧ p % 8 < P then J (bwC C (p / 8) ((P : Int) - (p % 8 : Nat))) else f p
section
variable {N o c : Nat} {S : XS} {w : Wd} {C : Cy} {th : Nat → Nat}
theorem X_from11 (hg : gR w [0] o 0 = some c) (h : Hc w c th C) {j r : Nat} (hj : j < 9) (hr : r ≤ 9) {b : Int} (hb : -900000 ≤ b ∧ b ≤ 900000) (kf : Int32 → Option Int32) (ke : Option Int32) {n : Nat} (hn : 6 < n) : fX0_from_11 N w o (J r) (J b) (J ((1 + j : Nat) : Int)) kf ke n (J 0) = match fi (fun q => lnd C r b q j) (cR C) with | some q => kf (J q) | none => ke := by
  have hR := cR_le C
  have key := lp_find (fun n q => fX0_from_11 N w o (J r) (J b) (J ((1 + j : Nat) : Int)) kf ke n (J (q : Int))) (fun q => kf (J q)) ke (cR C) (fun q => lnd C r b q j) ?_ ?_ n (by omega)
  · exact key
  · intro n i hi
    try dsimp only
    rw [fX0_from_11]
    simp (disch := omega) only [jn_0, jn_1, jn_2, jn_3, jn_4, jn_5, jn_6, jn_8, jn_9, jn_10, jn_11, jn_12, jn_16, jn_20, jn_24, jn_30, jn_31, jn_32, jn_36, jn_48, jn_57, jn_59, jn_60, jn_63, jn_72, jn_73, jn_96, jn_97, jn_100, jn_122, jn_144, jn_200, jn_240, jn_288, jn_512, jn_840, jn_1200, jn_1600, jn_5040, jn_5390, jn_5400, jn_9999, jn_18688, jn_32400, jn_99999, jn_100000, jn_1000000, jn_858993459, jn_1431655765, jn_252645135, jl_0, jl_1, jl_2, jl_3, jl_8, jl_9, jl_10, jl_20, jl_27, jl_47, jl_96, jl_99, jl_100, jl_200, jl_555, jl_2000, jl_10000, jl_12345, jl_65536, jl_99999, jl_131638, jl_240023, jl_298288, jl_383153, jl_1306021, jl_1960084, jl_4147840, jl_8740238, jl_9872299, jl_175252482, jl_291595537, jl_1103515245, jl_2000000000, jl_2147483648, jl_4721686497, jl_7873079139, J_add, J_sub, J_mul, J_neg, JL_add, JL_sub, JL_mul, JL_neg, J_long, JL_int, ↓remI_fold, ↓remL_fold, Int.reduceAdd, Int.reduceSub, Int.reduceMul, Int.reduceNeg, Int.reduceToNat, Classical.not_not, em_t, Bp_eq0, Bp_eq1, Bp_01, Bp_mk, Bp_mk', Bp_0, Bp_0', Bp_1, Bp_1', if_true, if_false, ite_not, hg, hc_0 h, hc_1 h, hc_2 h, hc_3 h, hc_4 h, hc_5 h, hc_7 h, hc_8 h, hc_9 h, hc_10 h, hc_11 h, hc_12 h, hc_k h, hc_at h, Int.toNat_natCast, J_le, castS, Option.bind_some, X_isFrom1 h hi hj hr hb]
    rw [if_neg (by omega)]
  · intro n
    try dsimp only
    rw [fX0_from_11]
    simp (disch := omega) only [jn_0, jn_1, jn_2, jn_3, jn_4, jn_5, jn_6, jn_8, jn_9, jn_10, jn_11, jn_12, jn_16, jn_20, jn_24, jn_30, jn_31, jn_32, jn_36, jn_48, jn_57, jn_59, jn_60, jn_63, jn_72, jn_73, jn_96, jn_97, jn_100, jn_122, jn_144, jn_200, jn_240, jn_288, jn_512, jn_840, jn_1200, jn_1600, jn_5040, jn_5390, jn_5400, jn_9999, jn_18688, jn_32400, jn_99999, jn_100000, jn_1000000, jn_858993459, jn_1431655765, jn_252645135, jl_0, jl_1, jl_2, jl_3, jl_8, jl_9, jl_10, jl_20, jl_27, jl_47, jl_96, jl_99, jl_100, jl_200, jl_555, jl_2000, jl_10000, jl_12345, jl_65536, jl_99999, jl_131638, jl_240023, jl_298288, jl_383153, jl_1306021, jl_1960084, jl_4147840, jl_8740238, jl_9872299, jl_175252482, jl_291595537, jl_1103515245, jl_2000000000, jl_2147483648, jl_4721686497, jl_7873079139, J_add, J_sub, J_mul, J_neg, JL_add, JL_sub, JL_mul, JL_neg, J_long, JL_int, ↓remI_fold, ↓remL_fold, Int.reduceAdd, Int.reduceSub, Int.reduceMul, Int.reduceNeg, Int.reduceToNat, Classical.not_not, em_t, Bp_eq0, Bp_eq1, Bp_01, Bp_mk, Bp_mk', Bp_0, Bp_0', Bp_1, Bp_1', if_true, if_false, ite_not, hg, hc_0 h, hc_1 h, hc_2 h, hc_3 h, hc_4 h, hc_5 h, hc_7 h, hc_8 h, hc_9 h, hc_10 h, hc_11 h, hc_12 h, hc_k h, hc_at h, Int.toNat_natCast, J_le, castS, Option.bind_some]
    rw [if_pos (by omega)]
theorem X_from (hg : gR w [0] o 0 = some c) (h : Hc w c th C) (ho : OkC C) (hk : kp C = true) (hN : 1000000 ≤ N) {r : Nat} (hr : r < cR C) {b : Int} (hb : -900000 ≤ b ∧ b ≤ 900000) : fX0_from N w o (J r) (J b) = some (J (bwC C r b)) := by
  have hR := cR_le C
  unfold fX0_from bwC bwM
  simp only [jn_0, jn_1, jn_2, jn_3, jn_4, jn_5, jn_6, jn_8, jn_9, jn_10, jn_11, jn_12, jn_16, jn_20, jn_24, jn_30, jn_31, jn_32, jn_36, jn_48, jn_57, jn_59, jn_60, jn_63, jn_72, jn_73, jn_96, jn_97, jn_100, jn_122, jn_144, jn_200, jn_240, jn_288, jn_512, jn_840, jn_1200, jn_1600, jn_5040, jn_5390, jn_5400, jn_9999, jn_18688, jn_32400, jn_99999, jn_100000, jn_1000000, jn_858993459, jn_1431655765, jn_252645135, jl_0, jl_1, jl_2, jl_3, jl_8, jl_9, jl_10, jl_20, jl_27, jl_47, jl_96, jl_99, jl_100, jl_200, jl_555, jl_2000, jl_10000, jl_12345, jl_65536, jl_99999, jl_131638, jl_240023, jl_298288, jl_383153, jl_1306021, jl_1960084, jl_4147840, jl_8740238, jl_9872299, jl_175252482, jl_291595537, jl_1103515245, jl_2000000000, jl_2147483648, jl_4721686497, jl_7873079139, J_add, J_sub, J_mul, J_neg, JL_add, JL_sub, JL_mul, JL_neg, J_long, JL_int, ↓remI_fold, ↓remL_fold, Int.reduceAdd, Int.reduceSub, Int.reduceMul, Int.reduceNeg, Int.reduceToNat]
  have key := lp_find (fun n i => fX0_from_2 N w o (J r) (J b) (fun y9 y10 => some (J 10 * y9 + y10)) (some (J r)) n (J ((1 + i : Nat) : Int))) (fun i => match fi (fun q => lnd C r b q i) (cR C) with | some q => some (J (10 * (1 + i) + q)) | none => none) (some (J r)) (9) (fun i => (fi (fun q => lnd C r b q i) (cR C)).isSome) ?_ ?_ N (by omega)
  · refine Eq.trans key ?_
    rw [← ld_eq hk ho]
    unfold ldX
    cases h' : fi (fun i => (fi (fun q => lnd C r b q i) (cR C)).isSome) 9 with
    | none => simp only [Option.bind_none]; congr 2; omega
    | some i =>
      have hq := ((fi_some _ _ _).1 h').2.1
      simp only [Option.bind_some]
      cases h'' : fi (fun q => lnd C r b q i) (cR C) with
      | none => rw [h''] at hq; cases hq
      | some r => simp only [Option.map_some]; congr 2
  · intro n i hi
    try dsimp only
    rw [fX0_from_2]
    simp (disch := omega) only [jn_0, jn_1, jn_2, jn_3, jn_4, jn_5, jn_6, jn_8, jn_9, jn_10, jn_11, jn_12, jn_16, jn_20, jn_24, jn_30, jn_31, jn_32, jn_36, jn_48, jn_57, jn_59, jn_60, jn_63, jn_72, jn_73, jn_96, jn_97, jn_100, jn_122, jn_144, jn_200, jn_240, jn_288, jn_512, jn_840, jn_1200, jn_1600, jn_5040, jn_5390, jn_5400, jn_9999, jn_18688, jn_32400, jn_99999, jn_100000, jn_1000000, jn_858993459, jn_1431655765, jn_252645135, jl_0, jl_1, jl_2, jl_3, jl_8, jl_9, jl_10, jl_20, jl_27, jl_47, jl_96, jl_99, jl_100, jl_200, jl_555, jl_2000, jl_10000, jl_12345, jl_65536, jl_99999, jl_131638, jl_240023, jl_298288, jl_383153, jl_1306021, jl_1960084, jl_4147840, jl_8740238, jl_9872299, jl_175252482, jl_291595537, jl_1103515245, jl_2000000000, jl_2147483648, jl_4721686497, jl_7873079139, J_add, J_sub, J_mul, J_neg, JL_add, JL_sub, JL_mul, JL_neg, J_long, JL_int, ↓remI_fold, ↓remL_fold, Int.reduceAdd, Int.reduceSub, Int.reduceMul, Int.reduceNeg, Int.reduceToNat, J_lt, Option.bind_some]
    rw [if_neg (by omega), X_from11 hg h hi (by omega) (by omega) _ _ (by omega), show ((1 + i : Nat) : Int) + 1 = ((1 + (i + 1) : Nat) : Int) by omega]
    cases fi (fun q => lnd C r b q i) (cR C) with
    | none => rfl
    | some q => simp only [jn_0, jn_1, jn_2, jn_3, jn_4, jn_5, jn_6, jn_8, jn_9, jn_10, jn_11, jn_12, jn_16, jn_20, jn_24, jn_30, jn_31, jn_32, jn_36, jn_48, jn_57, jn_59, jn_60, jn_63, jn_72, jn_73, jn_96, jn_97, jn_100, jn_122, jn_144, jn_200, jn_240, jn_288, jn_512, jn_840, jn_1200, jn_1600, jn_5040, jn_5390, jn_5400, jn_9999, jn_18688, jn_32400, jn_99999, jn_100000, jn_1000000, jn_858993459, jn_1431655765, jn_252645135, jl_0, jl_1, jl_2, jl_3, jl_8, jl_9, jl_10, jl_20, jl_27, jl_47, jl_96, jl_99, jl_100, jl_200, jl_555, jl_2000, jl_10000, jl_12345, jl_65536, jl_99999, jl_131638, jl_240023, jl_298288, jl_383153, jl_1306021, jl_1960084, jl_4147840, jl_8740238, jl_9872299, jl_175252482, jl_291595537, jl_1103515245, jl_2000000000, jl_2147483648, jl_4721686497, jl_7873079139, J_add, J_sub, J_mul, J_neg, JL_add, JL_sub, JL_mul, JL_neg, J_long, JL_int, ↓remI_fold, ↓remL_fold, Int.reduceAdd, Int.reduceSub, Int.reduceMul, Int.reduceNeg, Int.reduceToNat]; rw [show ((1 + i : Nat) : Int) = 1 + (i : Int) by omega]; rfl
  · intro n
    try dsimp only
    rw [fX0_from_2]
    simp (disch := omega) only [jn_0, jn_1, jn_2, jn_3, jn_4, jn_5, jn_6, jn_8, jn_9, jn_10, jn_11, jn_12, jn_16, jn_20, jn_24, jn_30, jn_31, jn_32, jn_36, jn_48, jn_57, jn_59, jn_60, jn_63, jn_72, jn_73, jn_96, jn_97, jn_100, jn_122, jn_144, jn_200, jn_240, jn_288, jn_512, jn_840, jn_1200, jn_1600, jn_5040, jn_5390, jn_5400, jn_9999, jn_18688, jn_32400, jn_99999, jn_100000, jn_1000000, jn_858993459, jn_1431655765, jn_252645135, jl_0, jl_1, jl_2, jl_3, jl_8, jl_9, jl_10, jl_20, jl_27, jl_47, jl_96, jl_99, jl_100, jl_200, jl_555, jl_2000, jl_10000, jl_12345, jl_65536, jl_99999, jl_131638, jl_240023, jl_298288, jl_383153, jl_1306021, jl_1960084, jl_4147840, jl_8740238, jl_9872299, jl_175252482, jl_291595537, jl_1103515245, jl_2000000000, jl_2147483648, jl_4721686497, jl_7873079139, J_add, J_sub, J_mul, J_neg, JL_add, JL_sub, JL_mul, JL_neg, J_long, JL_int, ↓remI_fold, ↓remL_fold, Int.reduceAdd, Int.reduceSub, Int.reduceMul, Int.reduceNeg, Int.reduceToNat, J_lt, Option.bind_some]
    rw [if_pos (by omega)]
theorem bcF_up (C : Cy) (P r i : Nat) (f : Nat → Int32) (hi : i < P) (hP : P ≤ 8) : upd (bcF C P r i f) (8 * r + i) (J (bwC C r ((P : Int) - i))) = bcF C P r (i + 1) f := by
  funext p
  unfold upd bcF
  by_cases h1 : p = 8 * r + i
  · have e1 : p / 8 = r := by omega
    have e2 : p % 8 = i := by omega
    rw [if_pos h1, e1, e2, if_pos ⟨Or.inr ⟨rfl, by omega⟩, hi⟩]
  · rw [if_neg h1]
    by_cases h2 : (p / 8 < r ∨ (p / 8 = r ∧ p % 8 < i)) ∧ p % 8 < P
    · rw [if_pos h2, if_pos ⟨by omega, h2.2⟩]
    · rw [if_neg h2, if_neg (by omega)]
theorem bcF_end (C : Cy) (P r : Nat) (f : Nat → Int32) : bcF C P r P f = bcF C P (r + 1) 0 f := by
  funext p
  unfold bcF
  by_cases h2 : (p / 8 < r ∨ (p / 8 = r ∧ p % 8 < P)) ∧ p % 8 < P
  · rw [if_pos h2, if_pos (by omega)]
  · rw [if_neg h2, if_neg (by omega)]
theorem bcF_0 (C : Cy) (P : Nat) (f : Nat → Int32) : bcF C P 0 0 f = f := by
  funext p
  unfold bcF
  rw [if_neg (by omega)]
theorem X_bw68 (hw : Hc w c th C) (hs : Sep o c th (cR C)) (hc : xc S = c) (ho : OkC C) (hk : kp C = true) (hN : 1000000 ≤ N) {P : Nat} (hP : 1 ≤ P ∧ P ≤ 8) {r : Nat} (hr : r < cR C) (k : Wd → Option (Int32 × Wd)) : fX0_backwards_68 N o (J P) (J r) k N (J 0) (emX o (xSR S 20 (bcF C P r 0 (xa S 20))) w) = k (emX o (xSR S 20 (bcF C P (r + 1) 0 (xa S 20))) w) := by
  have hR := cR_le C
  rw [← bcF_end]
  have key := lp_cnt (fun n i => fX0_backwards_68 N o (J P) (J r) k n (J (i : Int)) (emX o (xSR S 20 (bcF C P r i (xa S 20))) w)) (k (emX o (xSR S 20 (bcF C P r P (xa S 20))) w)) P ?_ ?_ N (by omega)
  · exact key
  · intro n i hi
    have e1 := X_from (N := N) (w := emX o (xSR S 20 (bcF C P r i (xa S 20))) w) (xg hc) (hX_of hw hs _) ho hk hN hr (b := (P : Int) - i) (by omega)
    have e2 : (8 : Int32) * J (r : Int) + J (i : Int) = J ((8 * r + i : Nat) : Int) := by rw [jn_8, J_mul, J_add]; congr 1
    rw [fX0_backwards_68, if_neg (by rw [J_le (by omega)]; omega), xg_17, Option.bind_some, J_sub, e1, Option.bind_some, e2, xw_20 o _ w _ (by omega), Option.bind_some, Int.toNat_natCast, xSA_R, bcF_up C P r i _ hi hP.2, Option.bind_some, jn_1, J_add, castS]
  · intro n
    rw [fX0_backwards_68, if_pos (by rw [J_le (by omega)]; omega)]
theorem X_bw55 (hw : Hc w c th C) (hs : Sep o c th (cR C)) (hc : xc S = c) (ho : OkC C) (hk : kp C = true) (hN : 1000000 ≤ N) {P : Nat} (hP : 1 ≤ P ∧ P ≤ 8) (k : Wd → Option (Int32 × Wd)) : fX0_backwards_55 N o (J P) k N (J 0) (emX o S w) = k (emX o (xSR S 20 (bcF C P (cR C) 0 (xa S 20))) w) := by
  have hR := cR_le C
  have key := lp_cnt (fun n r => fX0_backwards_55 N o (J P) k n (J (r : Int)) (emX o (xSR S 20 (bcF C P r 0 (xa S 20))) w)) (k (emX o (xSR S 20 (bcF C P (cR C) 0 (xa S 20))) w)) (cR C) ?_ ?_ N (by omega)
  · rw [bcF_0, xSR_id] at key
    exact key
  · intro n r hr
    have hg : gR (emX o (xSR S 20 (bcF C P r 0 (xa S 20))) w) [0] o 0 = some c := xg hc
    rw [fX0_backwards_55, hg, Option.bind_some, hc_0 (hX_of hw hs _), Option.bind_some, if_neg (by rw [J_le (by omega)]; omega), jn_0, X_bw68 hw hs hc ho hk hN hP hr, Option.bind_some, jn_1, J_add, castS]
  · intro n
    have hg : gR (emX o (xSR S 20 (bcF C P (cR C) 0 (xa S 20))) w) [0] o 0 = some c := xg hc
    rw [fX0_backwards_55, hg, Option.bind_some, hc_0 (hX_of hw hs _), Option.bind_some, if_pos (by rw [J_le (by omega)]; omega)]
theorem bwC_div {C : Cy} {r : Nat} (hr : r < cR C) (P i : Nat) : bwC C r ((P : Int) - i) = ((10 * bH C P r i + bT C P r i : Nat) : Int) := by
  have h := bwM_bd hr ((P : Int) - i)
  have hR := cR_le C
  unfold bwC bH bT
  omega
theorem X_bw119 {D : Cy} (hw : Hc w c th D) (hs : Sep o c th (cR C)) (hD : cR D = cR C) (hc : xc S = c) (hN : 1000000 ≤ N) {P : Nat} (hP : 1 ≤ P ∧ P ≤ 8) {r : Nat} (hr : r < cR C) (h20 : ∀ i, i < P → xa S 20 (8 * r + i) = J (bwC C r ((P : Int) - i))) (k : Wd → Option (Int32 × Wd)) : ∃ F G, (∀ i, i < P → F i = J (bH C P r i) ∧ G i = J (bT C P r i)) ∧ fX0_backwards_119 N o (J P) (J r) k N (J 0) (emX o S w) = k (emX o S (wT w (th r) (kc (cK D r)) r (J (cP D r)) F G)) := by
  have hR := cR_le C
  have hrD : r < cR D := by omega
  have hsD : Sep o c th (cR D) := by rw [hD]; exact hs
  have ⟨F, G, e, hF⟩ := Hc_thr hw hrD
  have hk := kc_in _ (cK_le D r)
  have ha := Sep_th hsD hrD
  have hPD := cP_bd D r
  refine ⟨fun j => if j < P then J (bH C P r j) else F j, fun j => if j < P then J (bT C P r j) else G j, fun i hi => ⟨if_pos hi, if_pos hi⟩, ?_⟩
  have key := lp_cnt (fun n i => fX0_backwards_119 N o (J P) (J r) k n (J (i : Int)) (emX o S (wT w (th r) (kc (cK D r)) r (J (cP D r)) (fun j => if j < i then J (bH C P r j) else F j) (fun j => if j < i then J (bT C P r j) else G j)))) (k (emX o S (wT w (th r) (kc (cK D r)) r (J (cP D r)) (fun j => if j < P then J (bH C P r j) else F j) (fun j => if j < P then J (bT C P r j) else G j)))) P ?_ ?_ N (by omega)
  · have e1 : (fun j => if j < 0 then J (bH C P r j : Int) else F j) = F := by funext j; rw [if_neg (by omega)]
    have e2 : (fun j => if j < 0 then J (bT C P r j : Int) else G j) = G := by funext j; rw [if_neg (by omega)]
    rw [e1, e2, e] at key
    exact key
  · intro n i hi
    have b := bk_bd hr P i
    have e2 : (8 : Int32) * J (r : Int) + J (i : Int) = J ((8 * r + i : Nat) : Int) := by rw [jn_8, J_mul, J_add]; congr 1
    have hcd : ∀ d, d ≤ 6 → emX o S (wT w (th r) (kc (cK D r)) r (J (cP D r)) (fun j => if j < i then J (bH C P r j : Int) else F j) (fun j => if j < i then J (bT C P r j : Int) else G j)) (c + d) = w (c + d) := fun d hd => by
      have h0 := hsD.2.2.1 r 0 d hrD (by omega) hd
      have h1 := hsD.2.2.1 r 1 d hrD (by omega) hd
      have h2 := hsD.2.2.1 r 2 d hrD (by omega) hd
      rw [emX_out o S _ _ (hsD.1 d hd), wT_o _ _ _ _ _ _ _ (by omega)]
    have g7 : gR (emX o S (wT w (th r) (kc (cK D r)) r (J (cP D r)) (fun j => if j < i then J (bH C P r j : Int) else F j) (fun j => if j < i then J (bT C P r j : Int) else G j))) [1] c 7 = some (c + 1) := by
      have ⟨g, e0⟩ := hw.1
      exact gR_of ((hcd 0 (by omega)).trans e0) (by decide) rfl
    have gat : aR 5 (emX o S (wT w (th r) (kc (cK D r)) r (J (cP D r)) (fun j => if j < i then J (bH C P r j : Int) else F j) (fun j => if j < i then J (bT C P r j : Int) else G j))) (c + 1) (J (r : Int)) = some (th r) := by
      have ⟨f, e0, hf⟩ := hw.2.1
      exact aR_of ((hcd 1 (by omega)).trans e0) (by omega) (by decide) (hf r hrD)
    have hg : gR (emX o S (wT w (th r) (kc (cK D r)) r (J (cP D r)) (fun j => if j < i then J (bH C P r j : Int) else F j) (fun j => if j < i then J (bT C P r j : Int) else G j))) [0] o 0 = some c := xg hc
    have q1 : J ((10 * bH C P r i + bT C P r i : Nat) : Int) / J 10 = J (bH C P r i) := by rw [J_div (by omega)]; congr 1; omega
    have q2 : remI (J ((10 * bH C P r i + bT C P r i : Nat) : Int)) (J 10) = J (bT C P r i) := by rw [J_rem (by omega)]; congr 1; omega
    rw [fX0_backwards_119, if_neg (by rw [J_le (by omega)]; omega), hg, Option.bind_some, g7, Option.bind_some, gat, Option.bind_some, xg_17, Option.bind_some, e2, xr_20 o S _ (by omega), Option.bind_some, Option.bind_some, xr_20 o S _ (by omega), Option.bind_some, Int.toNat_natCast, h20 i hi, bwC_div hr, T_k ha hk, Option.bind_some, jn_10, remI_fold, q2, q1, T_set ha hk (by omega), Option.bind_some, Option.bind_some, jn_1, J_add, castS, Int.toNat_natCast, lt_upd (fun j => J (bH C P r j)) F i, lt_upd (fun j => J (bT C P r j)) G i]
  · intro n
    rw [fX0_backwards_119, if_pos (by rw [J_le (by omega)]; omega)]
theorem X_bw106 (hs : Sep o c th (cR C)) (hc : xc S = c) (hN : 1000000 ≤ N) {P : Nat} (hP : 1 ≤ P ∧ P ≤ 8) (h20 : ∀ r i, r < cR C → i < P → xa S 20 (8 * r + i) = J (bwC C r ((P : Int) - i))) (k : Wd → Option (Int32 × Wd)) : ∀ m r w n, r + m = cR C → m < n → Hc w c th (bkR C P r) → ∃ w', fX0_backwards_106 N o (J P) k n (J (r : Int)) (emX o S w) = k (emX o S w') ∧ FrW c th (cR C) w w' ∧ Hc w' c th (bkR C P (cR C)) := by
  have hR := cR_le C
  intro m
  induction m with
  | zero =>
    intro r w n hr hn hw
    have e : r = cR C := by omega
    subst e
    have hsD : Sep o c th (cR (bkR C P (cR C))) := by rw [bkR_R]; exact hs
    refine ⟨w, ?_, FrW_r _ _ _ _, hw⟩
    obtain ⟨n, rfl⟩ : ∃ n', n = n' + 1 := ⟨n - 1, by omega⟩
    have hg : gR (emX o S w) [0] o 0 = some c := xg hc
    rw [fX0_backwards_106, hg, Option.bind_some, hc_0 (hX_of hw hsD S), Option.bind_some, bkR_R, if_pos (by rw [J_le (by omega)]; omega)]
  | succ m ih =>
    intro r w n hr hn hw
    have hrC : r < cR C := by omega
    have hsD : Sep o c th (cR (bkR C P r)) := by rw [bkR_R]; exact hs
    have hrD : r < cR (bkR C P r) := by rw [bkR_R]; exact hrC
    have hk := kc_in _ (cK_le (bkR C P r) r)
    have ha := Sep_th hsD hrD
    obtain ⟨n, rfl⟩ : ∃ n', n = n' + 1 := ⟨n - 1, by omega⟩
    have hg : gR (emX o S w) [0] o 0 = some c := xg hc
    have key := X_bw119 (N := N) (C := C) hw hs (bkR_R C P r) hc hN hP hrC (fun i hi => h20 r i hrC hi) (fun w29 =>
          (gR w29 [0] o 0).bind fun x30 =>
          (gR w29 [1] x30 7).bind fun x31 =>
          (aR 5 w29 x31 (J r)).bind fun x32 =>
          (pF w29 [2, 8, 9, 10, 11] x32 3 (.int (J P))).bind fun w33 =>
          (some (J (r : Int) + (1 : Int32))).bind fun x34 =>
          fX0_backwards_106 N o (J P) k n x34 w33)
    obtain ⟨F, G, hF, key⟩ := key
    have hw1 := Hc_row (F := F) (G := G) hw hsD hrD hP (H := bH C P r) (T := bT C P r) (fun i hi => by
      have b := bk_bd hrC P i
      exact ⟨b.1, by omega, (hF i hi).1, (hF i hi).2⟩)
    have hwm : wT (wT w (th r) (kc (cK (bkR C P r) r)) r (J (cP (bkR C P r) r)) F G) (th r) (kc (cK (bkR C P r) r)) r (J P) F G = wT w (th r) (kc (cK (bkR C P r) r)) r (J P) F G := by
      funext q
      unfold wT
      by_cases h0 : q = th r
      · simp only [if_pos h0]
      · by_cases h1 : q = th r + 1
        · simp only [if_neg h0, if_pos h1]
        · by_cases h2 : q = th r + 2
          · simp only [if_neg h0, if_neg h1, if_pos h2]
          · simp only [if_neg h0, if_neg h1, if_neg h2]
    have hcd : ∀ d, d ≤ 6 → emX o S (wT w (th r) (kc (cK (bkR C P r) r)) r (J (cP (bkR C P r) r)) F G) (c + d) = w (c + d) := fun d hd => by
      have h0 := hsD.2.2.1 r 0 d hrD (by omega) hd
      have h1 := hsD.2.2.1 r 1 d hrD (by omega) hd
      have h2 := hsD.2.2.1 r 2 d hrD (by omega) hd
      rw [emX_out o S _ _ (hsD.1 d hd), wT_o _ _ _ _ _ _ _ (by omega)]
    have g7 : gR (emX o S (wT w (th r) (kc (cK (bkR C P r) r)) r (J (cP (bkR C P r) r)) F G)) [1] c 7 = some (c + 1) := by
      have ⟨g, e0⟩ := hw.1
      exact gR_of ((hcd 0 (by omega)).trans e0) (by decide) rfl
    have gat : aR 5 (emX o S (wT w (th r) (kc (cK (bkR C P r) r)) r (J (cP (bkR C P r) r)) F G)) (c + 1) (J (r : Int)) = some (th r) := by
      have ⟨f, e0, hf⟩ := hw.2.1
      exact aR_of ((hcd 1 (by omega)).trans e0) (by omega) (by decide) (hf r hrD)
    have hg2 : gR (emX o S (wT w (th r) (kc (cK (bkR C P r) r)) r (J (cP (bkR C P r) r)) F G)) [0] o 0 = some c := xg hc
    have ⟨w', e, f1, f2⟩ := ih (r + 1) (wT w (th r) (kc (cK (bkR C P r) r)) r (J P) F G) n (by omega) (by omega) hw1
    refine ⟨w', ?_, FrW_t (FrW_T hrC) f1, f2⟩
    rw [fX0_backwards_106, hg, Option.bind_some, hc_0 (hX_of hw hsD S), Option.bind_some, bkR_R, if_neg (by rw [J_le (by omega)]; omega), jn_0]
    refine Eq.trans key ?_
    rw [hg2, Option.bind_some, g7, Option.bind_some, gat, Option.bind_some, T_many ha hk, Option.bind_some, Option.bind_some, jn_1, J_add, castS]
    exact e
theorem X_backwards (hw : Hc w c th C) (hs : Sep o c th (cR C)) (hc : xc S = c) (ho : OkC C) (hN : 1000000 ≤ N) : ∃ S' w', fX0_backwards N (emX o S w) o = some (J (sp_backwards C), emX o S' w') ∧ FrX S S' ∧ FrW c th (cR C) w w' ∧ Hc w' c th (if 0 < cR C ∧ kp C = true ∧ rnd C ≤ 8 then bkR C (rnd C) (cR C) else C) := by
  have hx := hX_of hw hs S
  have hg : gR (emX o S w) [0] o 0 = some c := xg hc
  have hR := cR_le C
  have hP := rnd_bd C
  unfold fX0_backwards sp_backwards
  simp (disch := omega) only [jn_0, jn_1, jn_2, jn_3, jn_4, jn_5, jn_6, jn_8, jn_9, jn_10, jn_11, jn_12, jn_16, jn_20, jn_24, jn_30, jn_31, jn_32, jn_36, jn_48, jn_57, jn_59, jn_60, jn_63, jn_72, jn_73, jn_96, jn_97, jn_100, jn_122, jn_144, jn_200, jn_240, jn_288, jn_512, jn_840, jn_1200, jn_1600, jn_5040, jn_5390, jn_5400, jn_9999, jn_18688, jn_32400, jn_99999, jn_100000, jn_1000000, jn_858993459, jn_1431655765, jn_252645135, jl_0, jl_1, jl_2, jl_3, jl_8, jl_9, jl_10, jl_20, jl_27, jl_47, jl_96, jl_99, jl_100, jl_200, jl_555, jl_2000, jl_10000, jl_12345, jl_65536, jl_99999, jl_131638, jl_240023, jl_298288, jl_383153, jl_1306021, jl_1960084, jl_4147840, jl_8740238, jl_9872299, jl_175252482, jl_291595537, jl_1103515245, jl_2000000000, jl_2147483648, jl_4721686497, jl_7873079139, J_add, J_sub, J_mul, J_neg, JL_add, JL_sub, JL_mul, JL_neg, J_long, JL_int, ↓remI_fold, ↓remL_fold, Int.reduceAdd, Int.reduceSub, Int.reduceMul, Int.reduceNeg, Int.reduceToNat, Classical.not_not, em_t, Bp_eq0, Bp_eq1, Bp_01, Bp_mk, Bp_mk', Bp_0, Bp_0', Bp_1, Bp_1', if_true, if_false, ite_not, X_isCity hg hx, hg, hc_k hx, X_round hx (show 1000 ≤ N by omega), X_keepsC hx (show 1000 ≤ N by omega), Option.bind_some, J_le]
  by_cases h1 : 0 < cR C
  case neg => rw [if_neg h1, if_neg h1, if_neg (fun h => h1 h.1)]; exact ⟨S, w, rfl, FrX_r S, FrW_r _ _ _ _, hw⟩
  rw [if_pos h1, if_pos h1]
  by_cases h2 : kp C = true
  case neg => 
    rw [if_neg h2, if_neg h2, ite_self, if_neg h2, if_neg (fun h => h2 h.2.1)]; exact ⟨S, w, rfl, FrX_r S, FrW_r _ _ _ _, hw⟩
  rw [if_pos h2, if_pos h2, if_pos h2]
  by_cases h3 : rnd C ≤ 8
  case neg => rw [if_neg (by omega), if_neg h3, if_neg (fun h => h3 h.2.2)]; exact ⟨S, w, rfl, FrX_r S, FrW_r _ _ _ _, hw⟩
  rw [if_pos (by omega), if_pos h3, if_pos ⟨h1, h2, h3⟩]
  rw [X_bw55 hw hs hc ho h2 hN (by omega)]
  have ⟨w', e, f1, f2⟩ := X_bw106 (N := N) (S := xSR S 20 (bcF C (rnd C) (cR C) 0 (xa S 20))) hs hc hN (P := rnd C) (by omega) (fun r i hr hi => by
    rw [xa_R, if_pos rfl]
    unfold bcF
    have e1 : (8 * r + i) / 8 = r := by omega
    have e2 : (8 * r + i) % 8 = i := by omega
    rw [e1, e2, if_pos ⟨Or.inl hr, hi⟩]) (fun w35 => some (J (rnd C), w35)) (cR C) 0 w N (by omega) (by omega) hw
  exact ⟨_, w', e, FrX_R S 20 _ (by decide), f1, f2⟩
end
