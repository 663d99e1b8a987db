/-! the reference: one city copied over another -/
set_option maxRecDepth 100000
def cpR (b f t : Nat) (g : Nat → Int32) : Nat → Int32 := fun j => if b * t ≤ j ∧ j < b * t + b then g (j - b * t + b * f) else g j
theorem mul_apart {f t : Nat} (b : Nat) (h : f ≠ t) : b * f + b ≤ b * t ∨ b * t + b ≤ b * f := by
  rcases Nat.lt_or_gt_of_ne h with h | h
  · left
    have := Nat.mul_le_mul_left b (show f + 1 ≤ t by omega)
    rw [Nat.mul_add, Nat.mul_one] at this
    exact this
  · right
    have := Nat.mul_le_mul_left b (show t + 1 ≤ f by omega)
    rw [Nat.mul_add, Nat.mul_one] at this
    exact this
theorem cpR_t {b f t x : Nat} (g : Nat → Int32) (hx : x < b) : cpR b f t g (b * t + x) = g (b * f + x) := by
  unfold cpR
  rw [if_pos ⟨by omega, by omega⟩]
  congr 1
  omega
theorem cpR_o {b f t n x : Nat} (g : Nat → Int32) (hx : x < b) (hn : n ≠ t) : cpR b f t g (b * n + x) = g (b * n + x) := by
  unfold cpR
  have := mul_apart b hn
  rw [if_neg (by omega)]
section
variable {N o : Nat} {S : MS} {w : Wd} {C : Cy}
theorem M_copyRow {a b f t : Nat} (hN : 1000000 ≤ N) (hb : b ≤ 48) (hf : f ≤ 5) (ht : t ≤ 5) (hne : f ≠ t) (hr : ∀ (S : MS) (z : Int), 0 ≤ z ∧ z < ((6 * b : Nat) : Int) → aI 0 (emM o S w) (o + a) (J z) = some (ma S a z.toNat)) (hw : ∀ (S : MS) (z : Int) (x : Int32), 0 ≤ z ∧ z < ((6 * b : Nat) : Int) → sI 0 (emM o S w) (o + a) (J z) x = some (emM o (mSA S a z.toNat x) w)) : fX5_copyRow N (emM o S w) (o + a) (J b) (J f) (J t) = some (emM o (mSR S a (cpR b f t (ma S a))) w) := by
  have hap := mul_apart b hne
  have h5f : b * f ≤ b * 5 := Nat.mul_le_mul_left b hf
  have h5t : b * t ≤ b * 5 := Nat.mul_le_mul_left b ht
  unfold fX5_copyRow
  have key := lp_cnt (fun n i => fX5_copyRow_3 N (o + a) (J b) (J f) (J t) (fun w4 => some w4) n (J (i : Int)) (emM o (mSR S a (fun j => if b * t ≤ j ∧ j < b * t + i then ma S a (j - b * t + b * f) else ma S a j)) w)) (some (emM o (mSR S a (cpR b f t (ma S a))) w)) b ?_ ?_ N (by omega)
  · rw [show (fun j => if b * t ≤ j ∧ j < b * t + 0 then ma S a (j - b * t + b * f) else ma S a j) = ma S a from funext fun j => by rw [if_neg (by omega)], mSR_id] at key
    exact key
  · intro n i hi
    have e1 : J (b : Int) * J (f : Int) + J (i : Int) = J ((b * f + i : Nat) : Int) := by rw [J_mul, J_add, Int.natCast_add, Int.natCast_mul]
    have e2 : J (b : Int) * J (t : Int) + J (i : Int) = J ((b * t + i : Nat) : Int) := by rw [J_mul, J_add, Int.natCast_add, Int.natCast_mul]
    rw [fX5_copyRow_3, if_neg (by rw [J_le (by omega)]; omega), e1, e2, hr _ _ (by omega), Option.bind_some, hw _ _ _ (by omega), Option.bind_some, Int.toNat_natCast, Int.toNat_natCast, mSA_R]
    simp only [jn_0, jn_1, jn_2, jn_3, jn_4, jn_5, jn_6, jn_8, jn_9, jn_10, jn_11, jn_12, jn_16, jn_20, jn_24, jn_30, jn_31, jn_32, jn_36, jn_48, jn_57, jn_59, jn_60, jn_63, jn_72, jn_73, jn_96, jn_97, jn_100, jn_122, jn_144, jn_200, jn_240, jn_288, jn_512, jn_840, jn_1200, jn_1600, jn_5040, jn_5390, jn_5400, jn_9999, jn_18688, jn_32400, jn_99999, jn_100000, jn_1000000, jn_858993459, jn_1431655765, jn_252645135, jl_0, jl_1, jl_2, jl_3, jl_8, jl_9, jl_10, jl_20, jl_27, jl_47, jl_96, jl_99, jl_100, jl_200, jl_555, jl_2000, jl_10000, jl_12345, jl_65536, jl_99999, jl_131638, jl_240023, jl_298288, jl_383153, jl_1306021, jl_1960084, jl_4147840, jl_8740238, jl_9872299, jl_175252482, jl_291595537, jl_1103515245, jl_2000000000, jl_2147483648, jl_4721686497, jl_7873079139, J_add, J_sub, J_mul, J_neg, JL_add, JL_sub, JL_mul, JL_neg, J_long, JL_int, ↓remI_fold, ↓remL_fold, Int.reduceAdd, Int.reduceSub, Int.reduceMul, Int.reduceNeg, Int.reduceToNat, Option.bind_some, castS]
    rw [ma_R, if_pos rfl, if_neg (show ¬ (b * t ≤ b * f + i ∧ b * f + i < b * t + i) by omega)]
    congr 3
    funext j
    unfold upd
    by_cases h1 : j = b * t + i
    · rw [if_pos h1, if_pos (show b * t ≤ j ∧ j < b * t + (i + 1) by omega), h1]
      congr 1
      omega
    · rw [if_neg h1]
      simp only
      by_cases h2 : b * t ≤ j ∧ j < b * t + i
      · rw [if_pos h2, if_pos (show b * t ≤ j ∧ j < b * t + (i + 1) by omega)]
      · rw [if_neg h2, if_neg (show ¬ (b * t ≤ j ∧ j < b * t + (i + 1)) by omega)]
  · intro n
    rw [fX5_copyRow_3, if_pos (by rw [J_le (by omega)]; omega)]
    rfl
def mCC (S : MS) (f t : Nat) : MS := mSR (mSR (mSR (mSR (mSR (mSR (mSR (mSR (mSR (mSR S 6 (cpR 1 f t (ma S 6))) 7 (cpR 1 f t (ma S 7))) 8 (cpR 6 f t (ma S 8))) 9 (cpR 6 f t (ma S 9))) 10 (cpR 48 f t (ma S 10))) 11 (cpR 48 f t (ma S 11))) 12 (cpR 2 f t (ma S 12))) 13 (cpR 12 f t (ma S 13))) 14 (cpR 24 f t (ma S 14))) 15 (cpR 2 f t (ma S 15))
theorem M_copyCity {f t : Nat} (hN : 1000000 ≤ N) (hf : f ≤ 5) (ht : t ≤ 5) (hne : f ≠ t) : fX5_copyCity N (emM o S w) o (J f) (J t) = some (emM o (mCC S f t) w) := by
  unfold fX5_copyCity
  simp only [mg_16, mg_17, mg_18, mg_19, mg_20, mg_21, mg_22, mg_23, mg_24, mg_25, Option.bind_some]
  have c1 : (1 : Int32) = J ((1 : Nat) : Int) := rfl
  have c6 : (6 : Int32) = J ((6 : Nat) : Int) := rfl
  have c48 : (48 : Int32) = J ((48 : Nat) : Int) := rfl
  have c2 : (2 : Int32) = J ((2 : Nat) : Int) := rfl
  have c12 : (12 : Int32) = J ((12 : Nat) : Int) := rfl
  have c24 : (24 : Int32) = J ((24 : Nat) : Int) := rfl
  rw [c1, M_copyRow hN (by omega) hf ht hne (fun S z h => mr_6 o S w (by omega)) (fun S z x h => mw_6 o S w x (by omega)), Option.bind_some, mg_17, Option.bind_some]
  rw [M_copyRow hN (by omega) hf ht hne (fun S z h => mr_7 o S w (by omega)) (fun S z x h => mw_7 o S w x (by omega)), Option.bind_some, mg_18, Option.bind_some]
  rw [c6, M_copyRow hN (by omega) hf ht hne (fun S z h => mr_8 o S w (by omega)) (fun S z x h => mw_8 o S w x (by omega)), Option.bind_some, mg_19, Option.bind_some]
  rw [M_copyRow hN (by omega) hf ht hne (fun S z h => mr_9 o S w (by omega)) (fun S z x h => mw_9 o S w x (by omega)), Option.bind_some, mg_20, Option.bind_some]
  rw [c48, M_copyRow hN (by omega) hf ht hne (fun S z h => mr_10 o S w (by omega)) (fun S z x h => mw_10 o S w x (by omega)), Option.bind_some, mg_21, Option.bind_some]
  rw [M_copyRow hN (by omega) hf ht hne (fun S z h => mr_11 o S w (by omega)) (fun S z x h => mw_11 o S w x (by omega)), Option.bind_some, mg_22, Option.bind_some]
  rw [c2, M_copyRow hN (by omega) hf ht hne (fun S z h => mr_12 o S w (by omega)) (fun S z x h => mw_12 o S w x (by omega)), Option.bind_some, mg_23, Option.bind_some]
  rw [c12, M_copyRow hN (by omega) hf ht hne (fun S z h => mr_13 o S w (by omega)) (fun S z x h => mw_13 o S w x (by omega)), Option.bind_some, mg_24, Option.bind_some]
  rw [c24, M_copyRow hN (by omega) hf ht hne (fun S z h => mr_14 o S w (by omega)) (fun S z x h => mw_14 o S w x (by omega)), Option.bind_some, mg_25, Option.bind_some]
  rw [M_copyRow hN (by omega) hf ht hne (fun S z h => mr_15 o S w (by omega)) (fun S z x h => mw_15 o S w x (by omega)), Option.bind_some]
  rfl
theorem cpR_i {b f t i j : Nat} (g : Nat → Int32) (h1 : b * t ≤ i) (h2 : i < b * t + b) (h3 : j = i - b * t + b * f) : cpR b f t g i = g j := by
  unfold cpR
  rw [if_pos ⟨h1, h2⟩, h3]
theorem cpR_n {b f t i : Nat} (g : Nat → Int32) (h : ¬ (b * t ≤ i ∧ i < b * t + b)) : cpR b f t g i = g i := by
  unfold cpR
  rw [if_neg h]
theorem mCC_6 (S : MS) (f t : Nat) : ma (mCC S f t) 6 = cpR 1 f t (ma S 6) := rfl
theorem mCC_7 (S : MS) (f t : Nat) : ma (mCC S f t) 7 = cpR 1 f t (ma S 7) := rfl
theorem mCC_8 (S : MS) (f t : Nat) : ma (mCC S f t) 8 = cpR 6 f t (ma S 8) := rfl
theorem mCC_9 (S : MS) (f t : Nat) : ma (mCC S f t) 9 = cpR 6 f t (ma S 9) := rfl
theorem mCC_10 (S : MS) (f t : Nat) : ma (mCC S f t) 10 = cpR 48 f t (ma S 10) := rfl
theorem mCC_11 (S : MS) (f t : Nat) : ma (mCC S f t) 11 = cpR 48 f t (ma S 11) := rfl
theorem mCC_12 (S : MS) (f t : Nat) : ma (mCC S f t) 12 = cpR 2 f t (ma S 12) := rfl
theorem mCC_13 (S : MS) (f t : Nat) : ma (mCC S f t) 13 = cpR 12 f t (ma S 13) := rfl
theorem mCC_14 (S : MS) (f t : Nat) : ma (mCC S f t) 14 = cpR 24 f t (ma S 14) := rfl
theorem mCC_15 (S : MS) (f t : Nat) : ma (mCC S f t) 15 = cpR 2 f t (ma S 15) := rfl
theorem mCC_t {f t : Nat} (hG : GdM S f C) : GdM (mCC S f t) t C := by
  have hR := cR_le C
  have hX := cX_le C
  have hN := cN_le C
  obtain ⟨g1, g2, g3, g4, g5, g6, g7, g8⟩ := hG
  refine ⟨?_, ?_, fun r hr => ?_, ?_, ?_, fun k hk => ?_, fun k hk => ?_, fun h => ?_⟩
  · rw [mCC_6, cpR_i (j := f) _ (by omega) (by omega) (by omega)]; exact g1
  · rw [mCC_7, cpR_i (j := f) _ (by omega) (by omega) (by omega)]; exact g2
  · have ⟨a1, a2, a3⟩ := g3 r hr
    refine ⟨?_, ?_, fun i hi => ?_⟩
    · rw [mCC_8, cpR_i (j := 6 * f + r) _ (by omega) (by omega) (by omega)]; exact a1
    · rw [mCC_9, cpR_i (j := 6 * f + r) _ (by omega) (by omega) (by omega)]; exact a2
    · have hP := cP_bd C r
      have ⟨b1, b2⟩ := a3 i hi
      rw [mCC_10, mCC_11, cpR_i (j := 8 * (6 * f + r) + i) _ (by omega) (by omega) (by omega), cpR_i (j := 8 * (6 * f + r) + i) _ (by omega) (by omega) (by omega)]
      exact ⟨b1, b2⟩
  · rw [mCC_12, cpR_i (j := 2 * f) _ (by omega) (by omega) (by omega)]; exact g4
  · rw [mCC_12, cpR_i (j := 2 * f + 1) _ (by omega) (by omega) (by omega)]; exact g5
  · rw [mCC_13, cpR_i (j := 2 * (6 * f + k)) _ (by omega) (by omega) (by omega), cpR_i (j := 2 * (6 * f + k) + 1) _ (by omega) (by omega) (by omega)]; exact g6 k hk
  · rw [mCC_14, cpR_i (j := 3 * (8 * f + k)) _ (by omega) (by omega) (by omega), cpR_i (j := 3 * (8 * f + k) + 1) _ (by omega) (by omega) (by omega), cpR_i (j := 3 * (8 * f + k) + 2) _ (by omega) (by omega) (by omega)]; exact g7 k hk
  · rw [mCC_15, cpR_i (j := 2 * f) _ (by omega) (by omega) (by omega), cpR_i (j := 2 * f + 1) _ (by omega) (by omega) (by omega)]; exact g8 h
theorem mCC_o {f t n : Nat} (hn : n ≠ t) (hG : GdM S n C) : GdM (mCC S f t) n C := by
  have hR := cR_le C
  have hX := cX_le C
  have hN := cN_le C
  obtain ⟨g1, g2, g3, g4, g5, g6, g7, g8⟩ := hG
  refine ⟨?_, ?_, fun r hr => ?_, ?_, ?_, fun k hk => ?_, fun k hk => ?_, fun h => ?_⟩
  · rw [mCC_6, cpR_n _ (by omega)]; exact g1
  · rw [mCC_7, cpR_n _ (by omega)]; exact g2
  · have ⟨a1, a2, a3⟩ := g3 r hr
    refine ⟨?_, ?_, fun i hi => ?_⟩
    · rw [mCC_8, cpR_n _ (by omega)]; exact a1
    · rw [mCC_9, cpR_n _ (by omega)]; exact a2
    · have hP := cP_bd C r
      have ⟨b1, b2⟩ := a3 i hi
      rw [mCC_10, mCC_11, cpR_n _ (by omega), cpR_n _ (by omega)]
      exact ⟨b1, b2⟩
  · rw [mCC_12, cpR_n _ (by omega)]; exact g4
  · rw [mCC_12, cpR_n _ (by omega)]; exact g5
  · rw [mCC_13, cpR_n _ (by omega), cpR_n _ (by omega)]; exact g6 k hk
  · rw [mCC_14, cpR_n _ (by omega), cpR_n _ (by omega), cpR_n _ (by omega)]; exact g7 k hk
  · rw [mCC_15, cpR_n _ (by omega), cpR_n _ (by omega)]; exact g8 h
end
