/-! the component: rows of one alone, changes -/
set_option maxRecDepth 100000
def bcI (v0 : Int32) : Int32 :=
  let x1 := v0 - (((v0.toUInt32 >>> ((1 : Int32).toUInt32 &&& Int32.toUInt32 31)).toInt32) &&& (1431655765 : Int32))
  let x2 := (x1 &&& (858993459 : Int32)) + (((x1.toUInt32 >>> ((2 : Int32).toUInt32 &&& Int32.toUInt32 31)).toInt32) &&& (858993459 : Int32))
  let x3 := (x2 + ((x2.toUInt32 >>> ((4 : Int32).toUInt32 &&& Int32.toUInt32 31)).toInt32)) &&& (252645135 : Int32)
  let x4 := x3 + ((x3.toUInt32 >>> ((8 : Int32).toUInt32 &&& Int32.toUInt32 31)).toInt32)
  let x5 := x4 + ((x4.toUInt32 >>> ((16 : Int32).toUInt32 &&& Int32.toUInt32 31)).toInt32)
  x5 &&& (63 : Int32)
theorem bcI_ok : ∀ n : Fin 512, bcI (J (n.1 : Int)) = J (popc n.1) := by decide +kernel
section
variable {N o c : Nat} {S : XS} {w : Wd} {C : Cy} {th : Nat → Nat}
theorem X_bitCount {n : Nat} (hn : n < 512) : fJ7_bitCount N w (J n) = some (J (popc n)) := by
  have : fJ7_bitCount N w (J n) = some (bcI (J n)) := rfl
  rw [this, bcI_ok ⟨n, hn⟩]
theorem X_isSolo (h : Hc w c th C) (ho : OkC C) (hN : 1000000 ≤ N) {r : Nat} (hr : r < cR C) : fX2_isSolo N w (th r) = some (Bp (sol1 C r = true)) := by
  have hP := cP_bd C r
  unfold fX2_isSolo
  have key := lp_find (fun n i => fX2_isSolo_2 N w (th r) (some (J 0)) (some (J 1)) n (J (i : Int))) (fun _ => some (J 0)) (some (J 1)) (cP C r) (fun i => decide (cT C r i ≠ r)) ?_ ?_ N (by omega)
  · refine Eq.trans key ?_
    unfold sol1
    cases fi (fun i => decide (cT C r i ≠ r)) (cP C r) <;> rfl
  · intro n i hi
    try dsimp only
    have e1 : hh C r i = cH C r i := by unfold hh; rw [pl_nat C r i hi]
    have e2 : tt C r i = cT C r i := by unfold tt; rw [pl_nat C r i hi]
    have e3 := (ho.1 r i hr hi).2
    rw [fX2_isSolo_2]
    simp (disch := omega) only [jn_0, jn_1, jn_2, jn_3, jn_4, jn_5, jn_6, jn_8, jn_9, jn_10, jn_11, jn_12, jn_16, jn_20, jn_24, jn_30, jn_31, jn_32, jn_36, jn_48, jn_57, jn_59, jn_60, jn_63, jn_72, jn_73, jn_96, jn_97, jn_100, jn_122, jn_144, jn_200, jn_240, jn_288, jn_512, jn_840, jn_1200, jn_1600, jn_5040, jn_5390, jn_5400, jn_9999, jn_18688, jn_32400, jn_99999, jn_100000, jn_1000000, jn_858993459, jn_1431655765, jn_252645135, jl_0, jl_1, jl_2, jl_3, jl_8, jl_9, jl_10, jl_20, jl_27, jl_47, jl_96, jl_99, jl_100, jl_200, jl_555, jl_2000, jl_10000, jl_12345, jl_65536, jl_99999, jl_131638, jl_240023, jl_298288, jl_383153, jl_1306021, jl_1960084, jl_4147840, jl_8740238, jl_9872299, jl_175252482, jl_291595537, jl_1103515245, jl_2000000000, jl_2147483648, jl_4721686497, jl_7873079139, J_add, J_sub, J_mul, J_neg, JL_add, JL_sub, JL_mul, JL_neg, J_long, JL_int, ↓remI_fold, ↓remL_fold, Int.reduceAdd, Int.reduceSub, Int.reduceMul, Int.reduceNeg, Int.reduceToNat, Classical.not_not, em_t, Bp_eq0, Bp_eq1, Bp_01, Bp_mk, Bp_mk', Bp_0, Bp_0', Bp_1, Bp_1', if_true, if_false, ite_not, ht_3 h hr, ht_k h hr, J_le, castS, Option.bind_some, X_isAway h hr, decide_eq_true_iff, e1, e2]
    rw [if_neg (by omega)]
    by_cases h1 : cT C r i = r
    · rw [if_neg (fun h => h.2 h1), if_pos h1]
    · rw [if_pos ⟨by omega, h1⟩, if_neg h1]
  · intro n
    try dsimp only
    rw [fX2_isSolo_2]
    simp (disch := omega) only [jn_0, jn_1, jn_2, jn_3, jn_4, jn_5, jn_6, jn_8, jn_9, jn_10, jn_11, jn_12, jn_16, jn_20, jn_24, jn_30, jn_31, jn_32, jn_36, jn_48, jn_57, jn_59, jn_60, jn_63, jn_72, jn_73, jn_96, jn_97, jn_100, jn_122, jn_144, jn_200, jn_240, jn_288, jn_512, jn_840, jn_1200, jn_1600, jn_5040, jn_5390, jn_5400, jn_9999, jn_18688, jn_32400, jn_99999, jn_100000, jn_1000000, jn_858993459, jn_1431655765, jn_252645135, jl_0, jl_1, jl_2, jl_3, jl_8, jl_9, jl_10, jl_20, jl_27, jl_47, jl_96, jl_99, jl_100, jl_200, jl_555, jl_2000, jl_10000, jl_12345, jl_65536, jl_99999, jl_131638, jl_240023, jl_298288, jl_383153, jl_1306021, jl_1960084, jl_4147840, jl_8740238, jl_9872299, jl_175252482, jl_291595537, jl_1103515245, jl_2000000000, jl_2147483648, jl_4721686497, jl_7873079139, J_add, J_sub, J_mul, J_neg, JL_add, JL_sub, JL_mul, JL_neg, J_long, JL_int, ↓remI_fold, ↓remL_fold, Int.reduceAdd, Int.reduceSub, Int.reduceMul, Int.reduceNeg, Int.reduceToNat, Classical.not_not, em_t, Bp_eq0, Bp_eq1, Bp_01, Bp_mk, Bp_mk', Bp_0, Bp_0', Bp_1, Bp_1', if_true, if_false, ite_not, ht_3 h hr, ht_k h hr, J_le, castS, Option.bind_some]
    rw [if_pos (by omega)]
theorem X_keepsAlone (h : Hc w c th C) (ho : OkC C) (hN : 1000000 ≤ N) {r : Nat} (hr : r < cR C) : fX0_keepsAlone N w o (th r) = some (Bp (solo C r = true)) := by
  have hP := cP_bd C r
  have hl := alS_lt C r
  have h256 : alS C r < 256 := Nat.lt_of_lt_of_le hl (by have := Nat.pow_le_pow_right (show 2 > 0 by decide) hP.2; omega)
  have hpc := popc_lt (alS C r)
  unfold fX0_keepsAlone
  simp (disch := omega) only [jn_0, jn_1, jn_2, jn_3, jn_4, jn_5, jn_6, jn_8, jn_9, jn_10, jn_11, jn_12, jn_16, jn_20, jn_24, jn_30, jn_31, jn_32, jn_36, jn_48, jn_57, jn_59, jn_60, jn_63, jn_72, jn_73, jn_96, jn_97, jn_100, jn_122, jn_144, jn_200, jn_240, jn_288, jn_512, jn_840, jn_1200, jn_1600, jn_5040, jn_5390, jn_5400, jn_9999, jn_18688, jn_32400, jn_99999, jn_100000, jn_1000000, jn_858993459, jn_1431655765, jn_252645135, jl_0, jl_1, jl_2, jl_3, jl_8, jl_9, jl_10, jl_20, jl_27, jl_47, jl_96, jl_99, jl_100, jl_200, jl_555, jl_2000, jl_10000, jl_12345, jl_65536, jl_99999, jl_131638, jl_240023, jl_298288, jl_383153, jl_1306021, jl_1960084, jl_4147840, jl_8740238, jl_9872299, jl_175252482, jl_291595537, jl_1103515245, jl_2000000000, jl_2147483648, jl_4721686497, jl_7873079139, J_add, J_sub, J_mul, J_neg, JL_add, JL_sub, JL_mul, JL_neg, J_long, JL_int, ↓remI_fold, ↓remL_fold, Int.reduceAdd, Int.reduceSub, Int.reduceMul, Int.reduceNeg, Int.reduceToNat, Classical.not_not, em_t, Bp_eq0, Bp_eq1, Bp_01, Bp_mk, Bp_mk', Bp_0, Bp_0', Bp_1, Bp_1', if_true, if_false, ite_not, ht_k h hr, X_isSolo h ho hN hr, Option.bind_some]
  by_cases h1 : sol1 C r = true
  case neg => rw [if_neg h1, Bp_f (by unfold solo; simp [h1])]
  simp only [if_pos h1]
  have key := lp_fold (fun n i (s : Nat) => fX0_keepsAlone_13 N w o (th r) (fun y9 => (fJ7_bitCount N w y9).bind fun x10 => (gI w [2, 8, 9, 10, 11] (th r) 3).bind fun x11 => some (Bp (x10 = x11))) n (J s) (J (i : Int))) (fun s => (fJ7_bitCount N w (J s)).bind fun x10 => (gI w [2, 8, 9, 10, 11] (th r) 3).bind fun x11 => some (Bp (x10 = x11))) (cP C r) (fun i s => s ||| 1 <<< ((i + cH C r i) % cP C r)) (fun _ _ => True) ?_ ?_ N 0 (by omega) trivial
  · refine Eq.trans key.1 ?_
    rw [show fo (fun i s => s ||| 1 <<< ((i + cH C r i) % cP C r)) (cP C r) 0 = alS C r from rfl, X_bitCount (by omega), Option.bind_some, ht_3 h hr, Option.bind_some]
    congr 1; apply Bp_congr
    rw [J_eq (by omega), castE, alS_iff]
    unfold solo
    simp [h1]
  · intro n i s hi hI
    try dsimp only
    have e1 : hh C r i = cH C r i := by unfold hh; rw [pl_nat C r i hi]
    have h9 := cH_le C r i
    have hm := Nat.mod_lt (i + cH C r i) (show cP C r > 0 by omega)
    refine ⟨?_, ?_⟩
    rotate_left
    trivial
    rw [fX0_keepsAlone_13]
    simp (disch := omega) only [jn_0, jn_1, jn_2, jn_3, jn_4, jn_5, jn_6, jn_8, jn_9, jn_10, jn_11, jn_12, jn_16, jn_20, jn_24, jn_30, jn_31, jn_32, jn_36, jn_48, jn_57, jn_59, jn_60, jn_63, jn_72, jn_73, jn_96, jn_97, jn_100, jn_122, jn_144, jn_200, jn_240, jn_288, jn_512, jn_840, jn_1200, jn_1600, jn_5040, jn_5390, jn_5400, jn_9999, jn_18688, jn_32400, jn_99999, jn_100000, jn_1000000, jn_858993459, jn_1431655765, jn_252645135, jl_0, jl_1, jl_2, jl_3, jl_8, jl_9, jl_10, jl_20, jl_27, jl_47, jl_96, jl_99, jl_100, jl_200, jl_555, jl_2000, jl_10000, jl_12345, jl_65536, jl_99999, jl_131638, jl_240023, jl_298288, jl_383153, jl_1306021, jl_1960084, jl_4147840, jl_8740238, jl_9872299, jl_175252482, jl_291595537, jl_1103515245, jl_2000000000, jl_2147483648, jl_4721686497, jl_7873079139, J_add, J_sub, J_mul, J_neg, JL_add, JL_sub, JL_mul, JL_neg, J_long, JL_int, ↓remI_fold, ↓remL_fold, Int.reduceAdd, Int.reduceSub, Int.reduceMul, Int.reduceNeg, Int.reduceToNat, ht_3 h hr, ht_k h hr, J_le, castS, Option.bind_some, X_height h hr, e1, J_rem, J_eq]
    rw [if_neg (by omega), if_neg (by omega), show ((i : Int) + (cH C r i : Int)) % (cP C r : Int) = (((i + cH C r i) % cP C r : Nat) : Int) by rw [Int.natCast_emod, Int.natCast_add], J_shlz (by omega), J_or, Int.toNat_natCast]
  · intro n s hI
    try dsimp only
    rw [fX0_keepsAlone_13]
    simp (disch := omega) only [jn_0, jn_1, jn_2, jn_3, jn_4, jn_5, jn_6, jn_8, jn_9, jn_10, jn_11, jn_12, jn_16, jn_20, jn_24, jn_30, jn_31, jn_32, jn_36, jn_48, jn_57, jn_59, jn_60, jn_63, jn_72, jn_73, jn_96, jn_97, jn_100, jn_122, jn_144, jn_200, jn_240, jn_288, jn_512, jn_840, jn_1200, jn_1600, jn_5040, jn_5390, jn_5400, jn_9999, jn_18688, jn_32400, jn_99999, jn_100000, jn_1000000, jn_858993459, jn_1431655765, jn_252645135, jl_0, jl_1, jl_2, jl_3, jl_8, jl_9, jl_10, jl_20, jl_27, jl_47, jl_96, jl_99, jl_100, jl_200, jl_555, jl_2000, jl_10000, jl_12345, jl_65536, jl_99999, jl_131638, jl_240023, jl_298288, jl_383153, jl_1306021, jl_1960084, jl_4147840, jl_8740238, jl_9872299, jl_175252482, jl_291595537, jl_1103515245, jl_2000000000, jl_2147483648, jl_4721686497, jl_7873079139, J_add, J_sub, J_mul, J_neg, JL_add, JL_sub, JL_mul, JL_neg, J_long, JL_int, ↓remI_fold, ↓remL_fold, Int.reduceAdd, Int.reduceSub, Int.reduceMul, Int.reduceNeg, Int.reduceToNat, ht_3 h hr, ht_k h hr, J_le, castS, Option.bind_some]
    rw [if_pos (by omega)]
theorem X_stateOf (h : Hc w c th C) (hN : 1000000 ≤ N) {r : Nat} (hr : r < cR C) {z : Int} (hz : 0 ≤ z ∧ z ≤ 900000) : fX0_stateOf N w o (th r) (J z) = some (J (st C r z)) := by
  unfold fX0_stateOf
  simp only [jn_0, jn_1, jn_2, jn_3, jn_4, jn_5, jn_6, jn_8, jn_9, jn_10, jn_11, jn_12, jn_16, jn_20, jn_24, jn_30, jn_31, jn_32, jn_36, jn_48, jn_57, jn_59, jn_60, jn_63, jn_72, jn_73, jn_96, jn_97, jn_100, jn_122, jn_144, jn_200, jn_240, jn_288, jn_512, jn_840, jn_1200, jn_1600, jn_5040, jn_5390, jn_5400, jn_9999, jn_18688, jn_32400, jn_99999, jn_100000, jn_1000000, jn_858993459, jn_1431655765, jn_252645135, jl_0, jl_1, jl_2, jl_3, jl_8, jl_9, jl_10, jl_20, jl_27, jl_47, jl_96, jl_99, jl_100, jl_200, jl_555, jl_2000, jl_10000, jl_12345, jl_65536, jl_99999, jl_131638, jl_240023, jl_298288, jl_383153, jl_1306021, jl_1960084, jl_4147840, jl_8740238, jl_9872299, jl_175252482, jl_291595537, jl_1103515245, jl_2000000000, jl_2147483648, jl_4721686497, jl_7873079139, J_add, J_sub, J_mul, J_neg, JL_add, JL_sub, JL_mul, JL_neg, J_long, JL_int, ↓remI_fold, ↓remL_fold, Int.reduceAdd, Int.reduceSub, Int.reduceMul, Int.reduceNeg, Int.reduceToNat, Option.bind_some]
  have key := lp_fold' (fun n i (s : Nat) => fX0_stateOf_8 N w o (th r) (J z) (fun y9 => some y9) n (J s) (J (z - 9 + (i : Int)))) (fun s => some (J s)) (9) (fun i s => st1 C r z (z - 9 + i) s) ?_ ?_ N 0 (by omega)
  · rw [show z - 9 + ((0 : Nat) : Int) = z - 9 by omega] at key
    exact key
  · intro n i s hi
    try dsimp only
    have h9 := hh_le C r (z - 9 + i)
    rw [fX0_stateOf_8]
    simp (disch := omega) only [jn_0, jn_1, jn_2, jn_3, jn_4, jn_5, jn_6, jn_8, jn_9, jn_10, jn_11, jn_12, jn_16, jn_20, jn_24, jn_30, jn_31, jn_32, jn_36, jn_48, jn_57, jn_59, jn_60, jn_63, jn_72, jn_73, jn_96, jn_97, jn_100, jn_122, jn_144, jn_200, jn_240, jn_288, jn_512, jn_840, jn_1200, jn_1600, jn_5040, jn_5390, jn_5400, jn_9999, jn_18688, jn_32400, jn_99999, jn_100000, jn_1000000, jn_858993459, jn_1431655765, jn_252645135, jl_0, jl_1, jl_2, jl_3, jl_8, jl_9, jl_10, jl_20, jl_27, jl_47, jl_96, jl_99, jl_100, jl_200, jl_555, jl_2000, jl_10000, jl_12345, jl_65536, jl_99999, jl_131638, jl_240023, jl_298288, jl_383153, jl_1306021, jl_1960084, jl_4147840, jl_8740238, jl_9872299, jl_175252482, jl_291595537, jl_1103515245, jl_2000000000, jl_2147483648, jl_4721686497, jl_7873079139, J_add, J_sub, J_mul, J_neg, JL_add, JL_sub, JL_mul, JL_neg, J_long, JL_int, ↓remI_fold, ↓remL_fold, Int.reduceAdd, Int.reduceSub, Int.reduceMul, Int.reduceNeg, Int.reduceToNat, J_le, J_lt, ht_k h hr, Option.bind_some, X_height h hr]
    rw [if_neg (by omega), show z - 9 + (i : Int) + 1 = z - 9 + ((i + 1 : Nat) : Int) by omega]
    unfold st1
    by_cases h1 : 0 < hh C r (z - 9 + i)
    · rw [if_neg (by omega)]
      by_cases h2 : z ≤ z - 9 + i + hh C r (z - 9 + i)
      · rw [if_neg (by omega), if_pos ⟨h1, h2⟩, J_shlz (by omega), J_or]
      · rw [if_pos (by omega), if_neg (fun h => h2 h.2)]
    · rw [if_pos (by omega), if_neg (fun h => h1 h.1)]
  · intro n s
    try dsimp only
    rw [fX0_stateOf_8]
    simp (disch := omega) only [jn_0, jn_1, jn_2, jn_3, jn_4, jn_5, jn_6, jn_8, jn_9, jn_10, jn_11, jn_12, jn_16, jn_20, jn_24, jn_30, jn_31, jn_32, jn_36, jn_48, jn_57, jn_59, jn_60, jn_63, jn_72, jn_73, jn_96, jn_97, jn_100, jn_122, jn_144, jn_200, jn_240, jn_288, jn_512, jn_840, jn_1200, jn_1600, jn_5040, jn_5390, jn_5400, jn_9999, jn_18688, jn_32400, jn_99999, jn_100000, jn_1000000, jn_858993459, jn_1431655765, jn_252645135, jl_0, jl_1, jl_2, jl_3, jl_8, jl_9, jl_10, jl_20, jl_27, jl_47, jl_96, jl_99, jl_100, jl_200, jl_555, jl_2000, jl_10000, jl_12345, jl_65536, jl_99999, jl_131638, jl_240023, jl_298288, jl_383153, jl_1306021, jl_1960084, jl_4147840, jl_8740238, jl_9872299, jl_175252482, jl_291595537, jl_1103515245, jl_2000000000, jl_2147483648, jl_4721686497, jl_7873079139, J_add, J_sub, J_mul, J_neg, JL_add, JL_sub, JL_mul, JL_neg, J_long, JL_int, ↓remI_fold, ↓remL_fold, Int.reduceAdd, Int.reduceSub, Int.reduceMul, Int.reduceNeg, Int.reduceToNat, J_le, J_lt, ht_k h hr, Option.bind_some]
    rw [if_pos (by omega)]
theorem X_mayThrow {s h : Nat} (hs : s < 512) (hh9 : h < 10) : fX0_mayThrow N w (J s) (J h) = some (Bp (okS s h = true)) := by
  have h2 := Nat.shiftRight_le s h
  unfold fX0_mayThrow fX0_has okS
  simp (disch := omega) only [jn_0, jn_1, jn_2, jn_3, jn_4, jn_5, jn_6, jn_8, jn_9, jn_10, jn_11, jn_12, jn_16, jn_20, jn_24, jn_30, jn_31, jn_32, jn_36, jn_48, jn_57, jn_59, jn_60, jn_63, jn_72, jn_73, jn_96, jn_97, jn_100, jn_122, jn_144, jn_200, jn_240, jn_288, jn_512, jn_840, jn_1200, jn_1600, jn_5040, jn_5390, jn_5400, jn_9999, jn_18688, jn_32400, jn_99999, jn_100000, jn_1000000, jn_858993459, jn_1431655765, jn_252645135, jl_0, jl_1, jl_2, jl_3, jl_8, jl_9, jl_10, jl_20, jl_27, jl_47, jl_96, jl_99, jl_100, jl_200, jl_555, jl_2000, jl_10000, jl_12345, jl_65536, jl_99999, jl_131638, jl_240023, jl_298288, jl_383153, jl_1306021, jl_1960084, jl_4147840, jl_8740238, jl_9872299, jl_175252482, jl_291595537, jl_1103515245, jl_2000000000, jl_2147483648, jl_4721686497, jl_7873079139, J_add, J_sub, J_mul, J_neg, JL_add, JL_sub, JL_mul, JL_neg, J_long, JL_int, ↓remI_fold, ↓remL_fold, Int.reduceAdd, Int.reduceSub, Int.reduceMul, Int.reduceNeg, Int.reduceToNat, J_and1, J_shrz, J_eq, J_le, Int.toNat_natCast, Int.reduceToNat]
  by_cases h4 : s % 2 = 0
  · rw [if_pos (by omega)]
    simp only [if_pos h4, decide_eq_true_iff]
    by_cases h5 : h = 0
    · rw [if_pos (by omega), Bp_t h5]
    · rw [if_neg (by omega), Bp_f h5]
  · rw [if_neg (by omega)]
    simp only [if_neg h4, decide_eq_true_iff]
    by_cases h5 : h = 0
    · rw [if_pos (by omega), Bp_f (by omega)]
    · rw [if_neg (by omega)]
      by_cases h6 : s.testBit h = true
      · have := (shr1_bit s h).2 h6
        have hz : ((s >>> h : Nat) : Int) % 2 = 1 := by omega
        rw [J_and1 (Int.natCast_nonneg _), hz, if_pos rfl, Option.bind_some, Bp_f (by rw [h6]; simp)]
        exact if_neg (by rw [J_eq (by omega)]; omega)
      · have : ¬ (s >>> h) % 2 = 1 := fun e => h6 ((shr1_bit s h).1 e)
        have hz : ((s >>> h : Nat) : Int) % 2 = 0 := by omega
        rw [J_and1 (Int.natCast_nonneg _), hz, if_neg (by rw [J_eq (by omega)]; omega), Option.bind_some, Bp_t ⟨by omega, by simpa using h6⟩]
        exact if_pos rfl
theorem X_thrown {s h : Nat} (hs : s < 512) (hh9 : h < 10) : fX0_thrown N w (J s) (J h) = some (J (nxS s h)) := by
  unfold fX0_thrown nxS
  simp (disch := omega) only [jn_0, jn_1, jn_2, jn_3, jn_4, jn_5, jn_6, jn_8, jn_9, jn_10, jn_11, jn_12, jn_16, jn_20, jn_24, jn_30, jn_31, jn_32, jn_36, jn_48, jn_57, jn_59, jn_60, jn_63, jn_72, jn_73, jn_96, jn_97, jn_100, jn_122, jn_144, jn_200, jn_240, jn_288, jn_512, jn_840, jn_1200, jn_1600, jn_5040, jn_5390, jn_5400, jn_9999, jn_18688, jn_32400, jn_99999, jn_100000, jn_1000000, jn_858993459, jn_1431655765, jn_252645135, jl_0, jl_1, jl_2, jl_3, jl_8, jl_9, jl_10, jl_20, jl_27, jl_47, jl_96, jl_99, jl_100, jl_200, jl_555, jl_2000, jl_10000, jl_12345, jl_65536, jl_99999, jl_131638, jl_240023, jl_298288, jl_383153, jl_1306021, jl_1960084, jl_4147840, jl_8740238, jl_9872299, jl_175252482, jl_291595537, jl_1103515245, jl_2000000000, jl_2147483648, jl_4721686497, jl_7873079139, J_add, J_sub, J_mul, J_neg, JL_add, JL_sub, JL_mul, JL_neg, J_long, JL_int, ↓remI_fold, ↓remL_fold, Int.reduceAdd, Int.reduceSub, Int.reduceMul, Int.reduceNeg, Int.reduceToNat, J_eq, J_shlz, J_or, Int.toNat_natCast]
  by_cases h5 : h = 0
  · rw [if_pos (by omega), if_pos h5]
    exact congrArg some (J_shr s 1 (by omega) (by omega))
  · rw [if_neg (by omega), if_neg h5]
    have : s ||| 1 <<< h < 2 ^ 10 := Nat.or_lt_two_pow (by omega) (by rw [Nat.shiftLeft_eq, Nat.one_mul]; exact Nat.pow_lt_pow_right (by decide) hh9)
    exact congrArg some (J_shr _ 1 (by omega) (by omega))
def xst (A : Nat → Int) (x : Nat) (d : Int) : Option Nat := fi (fun h => okS x h && decide (A (nxS x h) = d)) 10
theorem X_stepFrom (hN : 1000000 ≤ N) {x : Nat} (hx : x < 512) {A : Nat → Int} (hb : Bdd A) {d : Int} (hd : -1 ≤ d ∧ d ≤ 1000001) : fX0_stepFrom N (emX o (xSR S 16 (fun q => J (A q))) w) o (J x) (J d) = some (J (match xst A x d with | some h => (h : Int) | none => -1)) := by
  unfold fX0_stepFrom
  have key := lp_find (fun n i => fX0_stepFrom_2 N (emX o (xSR S 16 (fun q => J (A q))) w) o (J x) (J d) (fun y7 => some y7) (some (J (-1))) n (J (i : Int))) (fun i => some (J i)) (some (J (-1))) (10) (fun h => okS x h && decide (A (nxS x h) = d)) ?_ ?_ N (by omega)
  · refine Eq.trans key ?_
    unfold xst
    cases fi (fun h => okS x h && decide (A (nxS x h) = d)) 10 <;> rfl
  · intro n i hi
    try dsimp only
    have hl : nxS x i < 512 := nxS_lt ⟨x, hx⟩ ⟨i, hi⟩
    have hbd := hb _ hl
    rw [fX0_stepFrom_2]
    simp (disch := omega) only [jn_0, jn_1, jn_2, jn_3, jn_4, jn_5, jn_6, jn_8, jn_9, jn_10, jn_11, jn_12, jn_16, jn_20, jn_24, jn_30, jn_31, jn_32, jn_36, jn_48, jn_57, jn_59, jn_60, jn_63, jn_72, jn_73, jn_96, jn_97, jn_100, jn_122, jn_144, jn_200, jn_240, jn_288, jn_512, jn_840, jn_1200, jn_1600, jn_5040, jn_5390, jn_5400, jn_9999, jn_18688, jn_32400, jn_99999, jn_100000, jn_1000000, jn_858993459, jn_1431655765, jn_252645135, jl_0, jl_1, jl_2, jl_3, jl_8, jl_9, jl_10, jl_20, jl_27, jl_47, jl_96, jl_99, jl_100, jl_200, jl_555, jl_2000, jl_10000, jl_12345, jl_65536, jl_99999, jl_131638, jl_240023, jl_298288, jl_383153, jl_1306021, jl_1960084, jl_4147840, jl_8740238, jl_9872299, jl_175252482, jl_291595537, jl_1103515245, jl_2000000000, jl_2147483648, jl_4721686497, jl_7873079139, J_add, J_sub, J_mul, J_neg, JL_add, JL_sub, JL_mul, JL_neg, J_long, JL_int, ↓remI_fold, ↓remL_fold, Int.reduceAdd, Int.reduceSub, Int.reduceMul, Int.reduceNeg, Int.reduceToNat, J_lt, castS, Option.bind_some, Classical.not_not, em_t, Bp_eq0, Bp_eq1, Bp_01, Bp_mk, Bp_mk', Bp_0, Bp_0', Bp_1, Bp_1', if_true, if_false, ite_not, X_mayThrow hx hi, X_thrown hx hi, xg_0, xg_1, xg_2, xg_3, xg_4, xg_5, xg_6, xg_7, xg_8, xg_9, xg_10, xg_11, xg_12, xg_13, xg_14, xg_15, xg_16, xg_17, xg_18, xg_19, xg_20, xg_21, xg_22, xg_23, xg_s1, xg_s2, xg_s3, xg_b0, xg_b1, xg_b2, xk_0, xk_s, xk_b, xr_8, xr_10, xr_11, xr_13, xr_14, xr_15, xr_16, xr_17, xr_18, xr_19, xr_20, xr_21, xc_C, xc_I, xc_A, xc_R, xc_B, xc_Q, xi_C, xi_I, xi_A, xi_R, xi_B, xi_Q, xa_C, xa_I, xa_A, xa_R, xa_B, xa_Q, xb_C, xb_I, xb_A, xb_R, xb_B, xb_Q, Nat.reduceEqDiff, eq_self, if_true, if_false, reduceIte, Int.toNat_natCast, J_eq, Bool.and_eq_true, decide_eq_true_iff]
    rw [if_neg (by omega)]
    by_cases h4 : okS x i = true
    · rw [if_pos h4]
      by_cases h5 : A (nxS x i) = d
      · rw [if_pos h5, if_pos ⟨h4, h5⟩]
      · rw [if_neg h5, if_neg (fun h => h5 h.2)]
    · rw [if_neg h4, if_neg (fun h => h4 h.1)]
  · intro n
    try dsimp only
    rw [fX0_stepFrom_2]
    simp (disch := omega) only [jn_0, jn_1, jn_2, jn_3, jn_4, jn_5, jn_6, jn_8, jn_9, jn_10, jn_11, jn_12, jn_16, jn_20, jn_24, jn_30, jn_31, jn_32, jn_36, jn_48, jn_57, jn_59, jn_60, jn_63, jn_72, jn_73, jn_96, jn_97, jn_100, jn_122, jn_144, jn_200, jn_240, jn_288, jn_512, jn_840, jn_1200, jn_1600, jn_5040, jn_5390, jn_5400, jn_9999, jn_18688, jn_32400, jn_99999, jn_100000, jn_1000000, jn_858993459, jn_1431655765, jn_252645135, jl_0, jl_1, jl_2, jl_3, jl_8, jl_9, jl_10, jl_20, jl_27, jl_47, jl_96, jl_99, jl_100, jl_200, jl_555, jl_2000, jl_10000, jl_12345, jl_65536, jl_99999, jl_131638, jl_240023, jl_298288, jl_383153, jl_1306021, jl_1960084, jl_4147840, jl_8740238, jl_9872299, jl_175252482, jl_291595537, jl_1103515245, jl_2000000000, jl_2147483648, jl_4721686497, jl_7873079139, J_add, J_sub, J_mul, J_neg, JL_add, JL_sub, JL_mul, JL_neg, J_long, JL_int, ↓remI_fold, ↓remL_fold, Int.reduceAdd, Int.reduceSub, Int.reduceMul, Int.reduceNeg, Int.reduceToNat, J_lt, castS, Option.bind_some]
    rw [if_pos (by omega)]
theorem X_lay2 {g : Nat} (hg : g < 512) (k : Wd → Option Wd) {n : Nat} (hn : 512 < n) (A : Nat → Int) : fX0_lays_2 N o (J g) k n (J 0) (emX o (xSR S 16 (fun s => J (A s))) w) = k (emX o (xSR S 16 (fun s => J (if s < 512 then (if s = g then 0 else 1000000) else A s))) w) := by
  have key := lp_cnt (fun n i => fX0_lays_2 N o (J g) k n (J (i : Int)) (emX o (xSR S 16 (fun s => J (if s < i then (if s = g then 0 else 1000000) else A s))) w)) (k (emX o (xSR S 16 (fun s => J (if s < 512 then (if s = g then 0 else 1000000) else A s))) w)) (512) ?_ ?_ n (by omega)
  · exact key
  · intro n i hi
    try dsimp only
    rw [fX0_lays_2]
    simp (disch := omega) only [jn_0, jn_1, jn_2, jn_3, jn_4, jn_5, jn_6, jn_8, jn_9, jn_10, jn_11, jn_12, jn_16, jn_20, jn_24, jn_30, jn_31, jn_32, jn_36, jn_48, jn_57, jn_59, jn_60, jn_63, jn_72, jn_73, jn_96, jn_97, jn_100, jn_122, jn_144, jn_200, jn_240, jn_288, jn_512, jn_840, jn_1200, jn_1600, jn_5040, jn_5390, jn_5400, jn_9999, jn_18688, jn_32400, jn_99999, jn_100000, jn_1000000, jn_858993459, jn_1431655765, jn_252645135, jl_0, jl_1, jl_2, jl_3, jl_8, jl_9, jl_10, jl_20, jl_27, jl_47, jl_96, jl_99, jl_100, jl_200, jl_555, jl_2000, jl_10000, jl_12345, jl_65536, jl_99999, jl_131638, jl_240023, jl_298288, jl_383153, jl_1306021, jl_1960084, jl_4147840, jl_8740238, jl_9872299, jl_175252482, jl_291595537, jl_1103515245, jl_2000000000, jl_2147483648, jl_4721686497, jl_7873079139, J_add, J_sub, J_mul, J_neg, JL_add, JL_sub, JL_mul, JL_neg, J_long, JL_int, ↓remI_fold, ↓remL_fold, Int.reduceAdd, Int.reduceSub, Int.reduceMul, Int.reduceNeg, Int.reduceToNat, J_le, J_eq, castE, castS, xg_0, xg_1, xg_2, xg_3, xg_4, xg_5, xg_6, xg_7, xg_8, xg_9, xg_10, xg_11, xg_12, xg_13, xg_14, xg_15, xg_16, xg_17, xg_18, xg_19, xg_20, xg_21, xg_22, xg_23, xg_s1, xg_s2, xg_s3, xg_b0, xg_b1, xg_b2, xk_0, xk_s, xk_b, xw_8, xw_10, xw_11, xw_13, xw_14, xw_15, xw_16, xw_17, xw_18, xw_19, xw_20, xw_21, Int.toNat_natCast, xSA_R, Option.bind_some]
    rw [if_neg (by omega)]
    have e : ∀ v : Int, (if i = g then (0 : Int) else 1000000) = v → upd (fun s => J (if s < i then (if s = g then 0 else 1000000) else A s)) i (J v) = fun s => J (if s < i + 1 then (if s = g then 0 else 1000000) else A s) := by
      intro v hv
      rw [upd_J]
      funext s
      congr 1
      by_cases h1 : s = i
      · subst h1; rw [if_pos rfl, if_pos (by omega), hv]
      · rw [if_neg h1]
        by_cases h2 : s < i
        · rw [if_pos h2, if_pos (show s < i + 1 by omega)]
        · rw [if_neg h2, if_neg (show ¬ s < i + 1 by omega)]
    by_cases h : i = g
    · rw [if_pos h, e 0 (if_pos h)]
    · rw [if_neg h, e 1000000 (if_neg h)]
  · intro n
    try dsimp only
    rw [fX0_lays_2]
    simp (disch := omega) only [jn_0, jn_1, jn_2, jn_3, jn_4, jn_5, jn_6, jn_8, jn_9, jn_10, jn_11, jn_12, jn_16, jn_20, jn_24, jn_30, jn_31, jn_32, jn_36, jn_48, jn_57, jn_59, jn_60, jn_63, jn_72, jn_73, jn_96, jn_97, jn_100, jn_122, jn_144, jn_200, jn_240, jn_288, jn_512, jn_840, jn_1200, jn_1600, jn_5040, jn_5390, jn_5400, jn_9999, jn_18688, jn_32400, jn_99999, jn_100000, jn_1000000, jn_858993459, jn_1431655765, jn_252645135, jl_0, jl_1, jl_2, jl_3, jl_8, jl_9, jl_10, jl_20, jl_27, jl_47, jl_96, jl_99, jl_100, jl_200, jl_555, jl_2000, jl_10000, jl_12345, jl_65536, jl_99999, jl_131638, jl_240023, jl_298288, jl_383153, jl_1306021, jl_1960084, jl_4147840, jl_8740238, jl_9872299, jl_175252482, jl_291595537, jl_1103515245, jl_2000000000, jl_2147483648, jl_4721686497, jl_7873079139, J_add, J_sub, J_mul, J_neg, JL_add, JL_sub, JL_mul, JL_neg, J_long, JL_int, ↓remI_fold, ↓remL_fold, Int.reduceAdd, Int.reduceSub, Int.reduceMul, Int.reduceNeg, Int.reduceToNat, J_le, J_eq, castE, castS, xg_0, xg_1, xg_2, xg_3, xg_4, xg_5, xg_6, xg_7, xg_8, xg_9, xg_10, xg_11, xg_12, xg_13, xg_14, xg_15, xg_16, xg_17, xg_18, xg_19, xg_20, xg_21, xg_22, xg_23, xg_s1, xg_s2, xg_s3, xg_b0, xg_b1, xg_b2, xk_0, xk_s, xk_b, xw_8, xw_10, xw_11, xw_13, xw_14, xw_15, xw_16, xw_17, xw_18, xw_19, xw_20, xw_21, Int.toNat_natCast, xSA_R, Option.bind_some]
    rw [if_pos (by omega)]
/-- a state is laid at d + 1, if it is not laid yet and a throw leads to one at d -/
def lay1 (d : Int) (x : Nat) (p : Int × (Nat → Int)) : Int × (Nat → Int) := if p.2 x = 1000000 ∧ (xst p.2 x d).isSome = true then (1, fun q => if q = x then d + 1 else p.2 q) else p
def layA (d : Int) (p : Int × (Nat → Int)) : Int × (Nat → Int) := fo (fun x p => lay1 d x p) 512 p
theorem lay1_bd {d : Int} (hd : 0 ≤ d ∧ d ≤ 999999) {x : Nat} {p : Int × (Nat → Int)} (hb : Bdd p.2) (h1 : p.1 = 0 ∨ p.1 = 1) : Bdd (lay1 d x p).2 ∧ ((lay1 d x p).1 = 0 ∨ (lay1 d x p).1 = 1) := by
  unfold lay1
  split
  · refine ⟨fun q hq => ?_, Or.inr rfl⟩
    have := hb q hq
    simp only
    split <;> omega
  · exact ⟨hb, h1⟩
theorem X_lay46 (hN : 1000000 ≤ N) {d : Int} (hd : 0 ≤ d ∧ d ≤ 999999) (k : Int32 → Wd → Option Wd) {n : Nat} (hn : 512 < n) (p : Int × (Nat → Int)) (hb : Bdd p.2) (h1 : p.1 = 0 ∨ p.1 = 1) : fX0_lays_46 N o (J d) k n (J p.1) (J 0) (emX o (xSR S 16 (fun q => J (p.2 q))) w) = k (J (layA d p).1) (emX o (xSR S 16 (fun q => J ((layA d p).2 q))) w) := by
  have key := lp_fold (fun n i (p : Int × (Nat → Int)) => fX0_lays_46 N o (J d) k n (J p.1) (J (i : Int)) (emX o (xSR S 16 (fun q => J (p.2 q))) w)) (fun p => k (J p.1) (emX o (xSR S 16 (fun q => J (p.2 q))) w)) (512) (fun x p => lay1 d x p) (fun _ p => Bdd p.2 ∧ (p.1 = 0 ∨ p.1 = 1)) ?_ ?_ n p (by omega) ⟨hb, h1⟩
  · exact key.1
  · intro n i s hi hI
    try dsimp only
    have hbi := hI.1 i hi
    have o1 : J s.1 ||| J 0 = J s.1 := by rcases hI.2 with e | e <;> rw [e] <;> decide
    have o2 : J s.1 ||| J 1 = J 1 := by rcases hI.2 with e | e <;> rw [e] <;> decide
    refine ⟨?_, ?_⟩
    rotate_left
    exact lay1_bd hd hI.1 hI.2
    rw [fX0_lays_46]
    simp (disch := omega) only [jn_0, jn_1, jn_2, jn_3, jn_4, jn_5, jn_6, jn_8, jn_9, jn_10, jn_11, jn_12, jn_16, jn_20, jn_24, jn_30, jn_31, jn_32, jn_36, jn_48, jn_57, jn_59, jn_60, jn_63, jn_72, jn_73, jn_96, jn_97, jn_100, jn_122, jn_144, jn_200, jn_240, jn_288, jn_512, jn_840, jn_1200, jn_1600, jn_5040, jn_5390, jn_5400, jn_9999, jn_18688, jn_32400, jn_99999, jn_100000, jn_1000000, jn_858993459, jn_1431655765, jn_252645135, jl_0, jl_1, jl_2, jl_3, jl_8, jl_9, jl_10, jl_20, jl_27, jl_47, jl_96, jl_99, jl_100, jl_200, jl_555, jl_2000, jl_10000, jl_12345, jl_65536, jl_99999, jl_131638, jl_240023, jl_298288, jl_383153, jl_1306021, jl_1960084, jl_4147840, jl_8740238, jl_9872299, jl_175252482, jl_291595537, jl_1103515245, jl_2000000000, jl_2147483648, jl_4721686497, jl_7873079139, J_add, J_sub, J_mul, J_neg, JL_add, JL_sub, JL_mul, JL_neg, J_long, JL_int, ↓remI_fold, ↓remL_fold, Int.reduceAdd, Int.reduceSub, Int.reduceMul, Int.reduceNeg, Int.reduceToNat, J_le, castS, Option.bind_some, xg_0, xg_1, xg_2, xg_3, xg_4, xg_5, xg_6, xg_7, xg_8, xg_9, xg_10, xg_11, xg_12, xg_13, xg_14, xg_15, xg_16, xg_17, xg_18, xg_19, xg_20, xg_21, xg_22, xg_23, xg_s1, xg_s2, xg_s3, xg_b0, xg_b1, xg_b2, xk_0, xk_s, xk_b, xr_8, xr_10, xr_11, xr_13, xr_14, xr_15, xr_16, xr_17, xr_18, xr_19, xr_20, xr_21, xw_8, xw_10, xw_11, xw_13, xw_14, xw_15, xw_16, xw_17, xw_18, xw_19, xw_20, xw_21, xc_C, xc_I, xc_A, xc_R, xc_B, xc_Q, xi_C, xi_I, xi_A, xi_R, xi_B, xi_Q, xa_C, xa_I, xa_A, xa_R, xa_B, xa_Q, xb_C, xb_I, xb_A, xb_R, xb_B, xb_Q, Nat.reduceEqDiff, eq_self, if_true, if_false, reduceIte, Int.toNat_natCast, J_eq, X_stepFrom hN hi hI.1, fX0_nears, xSA_R, upd_J, o1, o2]
    rw [if_neg (by omega)]
    unfold lay1
    by_cases h2 : s.2 i = 1000000
    · rw [if_pos h2]
      cases hx : xst s.2 i d with
      | none => rw [if_neg (show ¬ (s.2 i = 1000000 ∧ (none : Option Nat).isSome = true) by simp)]; rfl
      | some y =>
        have hy := ((fi_some _ _ _).1 hx).1
        rw [if_pos (show s.2 i = 1000000 ∧ (some y).isSome = true from ⟨h2, rfl⟩)]
        simp only
        rw [if_neg (by rw [J_eq (by omega)]; omega)]
        rfl
    · rw [if_neg h2, if_neg (fun h => h2 h.1)]
  · intro n s hI
    try dsimp only
    rw [fX0_lays_46]
    simp (disch := omega) only [jn_0, jn_1, jn_2, jn_3, jn_4, jn_5, jn_6, jn_8, jn_9, jn_10, jn_11, jn_12, jn_16, jn_20, jn_24, jn_30, jn_31, jn_32, jn_36, jn_48, jn_57, jn_59, jn_60, jn_63, jn_72, jn_73, jn_96, jn_97, jn_100, jn_122, jn_144, jn_200, jn_240, jn_288, jn_512, jn_840, jn_1200, jn_1600, jn_5040, jn_5390, jn_5400, jn_9999, jn_18688, jn_32400, jn_99999, jn_100000, jn_1000000, jn_858993459, jn_1431655765, jn_252645135, jl_0, jl_1, jl_2, jl_3, jl_8, jl_9, jl_10, jl_20, jl_27, jl_47, jl_96, jl_99, jl_100, jl_200, jl_555, jl_2000, jl_10000, jl_12345, jl_65536, jl_99999, jl_131638, jl_240023, jl_298288, jl_383153, jl_1306021, jl_1960084, jl_4147840, jl_8740238, jl_9872299, jl_175252482, jl_291595537, jl_1103515245, jl_2000000000, jl_2147483648, jl_4721686497, jl_7873079139, J_add, J_sub, J_mul, J_neg, JL_add, JL_sub, JL_mul, JL_neg, J_long, JL_int, ↓remI_fold, ↓remL_fold, Int.reduceAdd, Int.reduceSub, Int.reduceMul, Int.reduceNeg, Int.reduceToNat, J_le, castS, Option.bind_some]
    rw [if_pos (by omega)]
end
