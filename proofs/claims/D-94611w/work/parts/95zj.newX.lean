/-! cells that are made: throwers, cities, copies -/
set_option maxRecDepth 100000
theorem st_put {W : Wd} {a c k : Nat} {fs : List Value} {cs : List Nat} (v : Value) (h : W a = some (.inr (c, fs))) (hc : c ∈ cs) (hk : k < fs.length) : ∃ W', pF W cs a k v = some W' ∧ W' a = some (.inr (c, fs.set k v)) ∧ ∀ q, q ≠ a → W' q = W q := ⟨_, pF_of v h hc hk, wup_s _ _ _, fun _ hq => wup_o _ _ hq⟩
theorem st_new (t lim : Nat) (W : Wd) (b z : Nat) (h : z ≤ lim ∧ z ≤ 2147483647) : ∃ W', nwA t lim W b (J (z : Int)) = some W' ∧ W' b = some (zA t z) ∧ ∀ q, q ≠ b → W' q = W q := by
  refine ⟨wup W b (zA t z), ?_, wup_s _ _ _, fun _ hq => wup_o _ _ hq⟩
  unfold nwA
  rw [if_neg (by rw [jn_0, J_lt (by omega), J_nn (by omega)]; omega), J_nn (by omega), Int.toNat_natCast]
theorem st_newQ (t lim : Nat) (W : Wd) (b z : Nat) (h : z ≤ lim ∧ z ≤ 2147483647) : ∃ W', nwQ t lim W b (J (z : Int)) = some W' ∧ W' b = some (.inl (t, z, .inr (.inr (.inr (.inr fun _ => none))))) ∧ ∀ q, q ≠ b → W' q = W q := by
  refine ⟨wup W b (.inl (t, z, .inr (.inr (.inr (.inr fun _ => none))))), ?_, wup_s _ _ _, fun _ hq => wup_o _ _ hq⟩
  unfold nwQ
  rw [if_neg (by rw [jn_0, J_lt (by omega), J_nn (by omega)]; omega), J_nn (by omega), Int.toNat_natCast]
theorem st_cp {W : Wd} {a0 a n : Nat} {f g : Nat → Int32} (h0 : W a0 = some (.inl (0, n, .inl f))) (h1 : W a = some (.inl (0, n, .inl g))) (hn : n ≤ 60) : ∃ W' g', cpI 0 W a0 (J 0) a (J 0) (J (n : Int)) = some W' ∧ W' a = some (.inl (0, n, .inl g')) ∧ (∀ i, i < n → g' i = f i) ∧ ∀ q, q ≠ a → W' q = W q := by
  refine ⟨_, _, cpI_b (i := 0) (k := 0) (z := n) h0 h1 (by omega) (by omega) ⟨hn, hn⟩ (Or.inl rfl) (fun _ _ => rfl), wup_s _ _ _, fun i hi => ?_, fun _ hq => wup_o _ _ hq⟩
  unfold va_cpy
  rw [if_pos (by omega), Nat.zero_add, Nat.sub_zero]
section
variable {N : Nat}
theorem X2_init {V : Wd} {a k r : Nat} (hk : k ∈ [2, 8, 9, 10, 11]) (h : V a = some (.inr (k, [.int 0, .null, .null, .int 0]))) : fX2_init N V (a + 1) a (J (r : Int)) = some (wT V a k r (J 1) (fun _ => 0) (upd (fun _ => 0) 0 (J (r : Int))), a + 3) := by
  obtain ⟨W1, p1, c1, f1⟩ := st_new 0 8 V (a + 1) 8 (by omega)
  obtain ⟨W2, p2, c2, f2⟩ := st_put (k := 1) (.ref (a + 1)) ((f1 a (by omega)).trans h) hk (show 1 < 4 by decide)
  obtain ⟨W3, p3, c3, f3⟩ := st_new 0 8 W2 (a + 2) 8 (by omega)
  obtain ⟨W4, p4, c4, f4⟩ := st_put (k := 2) (.ref (a + 2)) ((f3 a (by omega)).trans c2) hk (show 2 < 4 by decide)
  obtain ⟨W5, p5, c5, f5⟩ := st_put (k := 3) (.int (J 1)) c4 hk (show 3 < 4 by decide)
  obtain ⟨W6, p6, c6, f6⟩ := st_put (k := 0) (.int (J (r : Int))) c5 hk (show 0 < 4 by decide)
  have g6 : gR W6 [2, 8, 9, 10, 11] a 2 = some (a + 2) := gR_of c6 hk rfl
  have e2 : W6 (a + 2) = some (.inl (0, 8, .inl fun _ => 0)) := by rw [f6 _ (by omega), f5 _ (by omega), f4 _ (by omega), c3]; rfl
  have e1 : W6 (a + 1) = some (.inl (0, 8, .inl fun _ => 0)) := by rw [f6 _ (by omega), f5 _ (by omega), f4 _ (by omega), f3 _ (by omega), f2 _ (by omega), c1]; rfl
  have s7 := sI_of (J (r : Int)) e2 (z := 0) (by omega) (by decide)
  unfold fX2_init
  simp only [jn_0, jn_1, jn_2, jn_3, jn_4, jn_5, jn_6, jn_8, jn_9, jn_10, jn_11, jn_12, jn_16, jn_20, jn_24, jn_30, jn_31, jn_32, jn_36, jn_48, jn_57, jn_59, jn_60, jn_63, jn_72, jn_73, jn_96, jn_97, jn_100, jn_122, jn_144, jn_200, jn_240, jn_288, jn_512, jn_840, jn_1200, jn_1600, jn_5040, jn_5390, jn_5400, jn_9999, jn_18688, jn_32400, jn_99999, jn_100000, jn_1000000, jn_858993459, jn_1431655765, jn_252645135, jl_0, jl_1, jl_2, jl_3, jl_8, jl_9, jl_10, jl_20, jl_27, jl_47, jl_96, jl_99, jl_100, jl_200, jl_555, jl_2000, jl_10000, jl_12345, jl_65536, jl_99999, jl_131638, jl_240023, jl_298288, jl_383153, jl_1306021, jl_1960084, jl_4147840, jl_8740238, jl_9872299, jl_175252482, jl_291595537, jl_1103515245, jl_2000000000, jl_2147483648, jl_4721686497, jl_7873079139, J_add, J_sub, J_mul, J_neg, JL_add, JL_sub, JL_mul, JL_neg, J_long, JL_int, ↓remI_fold, ↓remL_fold, Int.reduceAdd, Int.reduceSub, Int.reduceMul, Int.reduceNeg, Int.reduceToNat]
  rw [show (J 8 : Int32) = J ((8 : Nat) : Int) from rfl, p1, Option.bind_some, p2, Option.bind_some, p3, Option.bind_some, p4, Option.bind_some, p5, Option.bind_some, p6, Option.bind_some, g6, Option.bind_some, s7, Option.bind_some]
  have ew : wup W6 (a + 2) (.inl (0, 8, .inl (upd (fun _ => 0) (0 : Int).toNat (nar 0 (J (r : Int)))))) = wT V a k r (J 1) (fun _ => 0) (upd (fun _ => 0) 0 (J (r : Int))) := by
    funext q
    by_cases q2 : q = a + 2
    · rw [q2, wup_s, wT_2]; rfl
    · rw [wup_o _ _ q2]
      by_cases q1 : q = a + 1
      · rw [q1, wT_1]; exact e1
      · by_cases q0 : q = a
        · rw [q0, wT_0]; exact c6
        · rw [wT_o _ _ _ _ _ _ _ (by omega), f6 _ q0, f5 _ q0, f4 _ q0, f3 _ q2, f2 _ q0, f1 _ q1]
  rw [ew]; rfl
theorem wT_wup (V : Wd) (a k r : Nat) (n : Int32) (F G : Nat → Int32) (e : En) : wT (wup V a e) a k r n F G = wT V a k r n F G := by
  funext q
  unfold wT wup
  by_cases h : q = a
  · rw [if_pos h, if_pos h]
  · rw [if_neg h, if_neg h, if_neg h]
/-- a new thrower of a class -/
theorem X_newT {V : Wd} {a k r : Nat} (hk : k ∈ [2, 8, 9, 10, 11]) : fX2_init N (wup V a (.inr (k, [.int 0, .null, .null, .int 0]))) (a + 1) a (J (r : Int)) = some (wT V a k r (J 1) (fun _ => 0) (upd (fun _ => 0) 0 (J (r : Int))), a + 3) := by
  rw [X2_init hk (wup_s _ _ _), wT_wup]
theorem X_copyD {V : Wd} {a t k r : Nat} (hk : k ≤ 4) (ht : t ≠ a) (hg : gI V [2, 8, 9, 10, 11] t 0 = some (J (r : Int))) : dX2_copy N V a (kc k) t = some (a, wT V a (kc k) r (J 1) (fun _ => 0) (upd (fun _ => 0) 0 (J (r : Int))), a + 3) := by
  have hg2 : ∀ e, gI (wup V a e) [2, 8, 9, 10, 11] t 0 = some (J (r : Int)) := fun e => by
    unfold gI fld at hg ⊢
    rw [wup_o _ _ ht]; exact hg
  have hk' : k = 0 ∨ k = 1 ∨ k = 2 ∨ k = 3 ∨ k = 4 := by omega
  unfold dX2_copy
  rcases hk' with h | h | h | h | h <;> subst h
  · rw [if_neg (by decide), if_neg (by decide), if_neg (by decide), if_neg (by decide)]
    unfold fX2_copy
    rw [Option.bind_some, hg2, Option.bind_some, show newX2 = [.int 0, .null, .null, .int 0] from rfl, X_newT (by decide), Option.bind_some]; rfl
  · rw [if_pos (by decide)]
    unfold fX8_copy fX8_init
    rw [Option.bind_some, hg2, Option.bind_some, show newX8 = [.int 0, .null, .null, .int 0] from rfl, X_newT (by decide), Option.bind_some, Option.bind_some]; rfl
  · rw [if_neg (by decide), if_pos (by decide)]
    unfold fX9_copy fX9_init
    rw [Option.bind_some, hg2, Option.bind_some, show newX9 = [.int 0, .null, .null, .int 0] from rfl, X_newT (by decide), Option.bind_some, Option.bind_some]; rfl
  · rw [if_neg (by decide), if_neg (by decide), if_pos (by decide)]
    unfold fX10_copy fX10_init
    rw [Option.bind_some, hg2, Option.bind_some, show newX10 = [.int 0, .null, .null, .int 0] from rfl, X_newT (by decide), Option.bind_some, Option.bind_some]; rfl
  · rw [if_neg (by decide), if_neg (by decide), if_neg (by decide), if_pos (by decide)]
    unfold fX11_copy fX11_init
    rw [Option.bind_some, hg2, Option.bind_some, show newX11 = [.int 0, .null, .null, .int 0] from rfl, X_newT (by decide), Option.bind_some, Option.bind_some]; rfl
/-- a thrower is made like another -/
theorem X_beG {V : Wd} {a t k k' r : Nat} {x m m' : Int32} {F G F' G' : Nat → Int32} (hk : k ∈ [2, 8, 9, 10, 11]) (hk' : k' ∈ [2, 8, 9, 10, 11]) (h0 : V t = some (.inr (k', [.int x, .ref (t + 1), .ref (t + 2), .int m]))) (h1 : V (t + 1) = some (.inl (0, 8, .inl F))) (h2 : V (t + 2) = some (.inl (0, 8, .inl G))) (ha : ∀ d e, d ≤ 2 → e ≤ 2 → t + d ≠ a + e) : fX2_be N (wT V a k r m' F' G') a t = some (wT V a k r m (cp8 F F') (cp8 G G')) := by
  have o0 : ∀ n f g, wT V a k r n f g t = V t := fun n f g => wT_o _ _ _ _ _ _ _ (fun h => ha 0 (t - a) (by omega) (by omega) (by omega))
  have o1 : ∀ n f g, wT V a k r n f g (t + 1) = V (t + 1) := fun n f g => wT_o _ _ _ _ _ _ _ (fun h => ha 1 (t + 1 - a) (by omega) (by omega) (by omega))
  have o2 : ∀ n f g, wT V a k r n f g (t + 2) = V (t + 2) := fun n f g => wT_o _ _ _ _ _ _ _ (fun h => ha 2 (t + 2 - a) (by omega) (by omega) (by omega))
  unfold fX2_be
  rw [gR_of ((o0 _ _ _).trans h0) hk' rfl, Option.bind_some, gR_of (wT_0 V a k r m' F' G') hk rfl, Option.bind_some]
  simp only [jn_0, jn_1, jn_2, jn_3, jn_4, jn_5, jn_6, jn_8, jn_9, jn_10, jn_11, jn_12, jn_16, jn_20, jn_24, jn_30, jn_31, jn_32, jn_36, jn_48, jn_57, jn_59, jn_60, jn_63, jn_72, jn_73, jn_96, jn_97, jn_100, jn_122, jn_144, jn_200, jn_240, jn_288, jn_512, jn_840, jn_1200, jn_1600, jn_5040, jn_5390, jn_5400, jn_9999, jn_18688, jn_32400, jn_99999, jn_100000, jn_1000000, jn_858993459, jn_1431655765, jn_252645135, jl_0, jl_1, jl_2, jl_3, jl_8, jl_9, jl_10, jl_20, jl_27, jl_47, jl_96, jl_99, jl_100, jl_200, jl_555, jl_2000, jl_10000, jl_12345, jl_65536, jl_99999, jl_131638, jl_240023, jl_298288, jl_383153, jl_1306021, jl_1960084, jl_4147840, jl_8740238, jl_9872299, jl_175252482, jl_291595537, jl_1103515245, jl_2000000000, jl_2147483648, jl_4721686497, jl_7873079139, J_add, J_sub, J_mul, J_neg, JL_add, JL_sub, JL_mul, JL_neg, J_long, JL_int, ↓remI_fold, ↓remL_fold, Int.reduceAdd, Int.reduceSub, Int.reduceMul, Int.reduceNeg, Int.reduceToNat]
  rw [cpI_8 ((o1 _ _ _).trans h1) (wT_1 V a k r m' F' G'), Option.bind_some, wT_up1, gR_of ((o0 _ _ _).trans h0) hk' rfl, Option.bind_some, gR_of (wT_0 V a k r m' (cp8 F F') G') hk rfl, Option.bind_some, cpI_8 ((o2 _ _ _).trans h2) (wT_2 V a k r m' (cp8 F F') G'), Option.bind_some, wT_up2, gI_of ((o0 _ _ _).trans h0) hk' rfl, Option.bind_some, pF_of (.int m) (wT_0 V a k r m' (cp8 F F') (cp8 G G')) hk (show 3 < 4 by decide), Option.bind_some]
  exact congrArg some (wT_up0 V a k r m' m _ _)

/-- the cells of a city that was made just now -/
def Cn (W : Wd) (a : Nat) (fs : List Value) (m : Nat → Option Nat) (f : Nat → Nat → Int32) : Prop := W a = some (.inr (1, fs)) ∧ W (a + 1) = some (.inl (5, 6, .inr (.inr (.inr (.inr m))))) ∧ W (a + 2) = some (.inl (0, 6, .inl (f 2))) ∧ W (a + 3) = some (.inl (0, 6, .inl (f 3))) ∧ W (a + 4) = some (.inl (0, 8, .inl (f 4))) ∧ W (a + 5) = some (.inl (0, 8, .inl (f 5))) ∧ W (a + 6) = some (.inl (0, 8, .inl (f 6)))
theorem X1_init {V : Wd} {a : Nat} (h : V a = some (.inr (1, newX1))) : ∃ W, fX1_init N V (a + 1) a = some (W, a + 7) ∧ Cn W a [.int 0, .int 0, .int 0, .int 0, .int (J 9), .int 0, .int 0, .ref (a + 1), .ref (a + 2), .ref (a + 3), .ref (a + 4), .ref (a + 5), .ref (a + 6)] (fun _ => none) (fun _ _ => 0) ∧ ∀ q, ¬ (a ≤ q ∧ q ≤ a + 6) → W q = V q := by
  obtain ⟨W0, p0, c0, f0⟩ := st_put (k := 4) (.int (J 9)) h (cs := [1]) (by decide) (show 4 < 13 by decide)
  obtain ⟨W1, p1, c1, f1⟩ := st_newQ 5 6 W0 (a + 1) 6 (by omega)
  obtain ⟨W2, p2, c2, f2⟩ := st_put (k := 7) (.ref (a + 1)) ((f1 a (by omega)).trans c0) (cs := [1]) (by decide) (show 7 < 13 by decide)
  obtain ⟨W3, p3, c3, f3⟩ := st_new 0 6 W2 (a + 2) 6 (by omega)
  obtain ⟨W4, p4, c4, f4⟩ := st_put (k := 8) (.ref (a + 2)) ((f3 a (by omega)).trans c2) (cs := [1]) (by decide) (show 8 < 13 by decide)
  obtain ⟨W5, p5, c5, f5⟩ := st_new 0 6 W4 (a + 3) 6 (by omega)
  obtain ⟨W6, p6, c6, f6⟩ := st_put (k := 9) (.ref (a + 3)) ((f5 a (by omega)).trans c4) (cs := [1]) (by decide) (show 9 < 13 by decide)
  obtain ⟨W7, p7, c7, f7⟩ := st_new 0 8 W6 (a + 4) 8 (by omega)
  obtain ⟨W8, p8, c8, f8⟩ := st_put (k := 10) (.ref (a + 4)) ((f7 a (by omega)).trans c6) (cs := [1]) (by decide) (show 10 < 13 by decide)
  obtain ⟨W9, p9, c9, f9⟩ := st_new 0 8 W8 (a + 5) 8 (by omega)
  obtain ⟨W10, p10, c10, f10⟩ := st_put (k := 11) (.ref (a + 5)) ((f9 a (by omega)).trans c8) (cs := [1]) (by decide) (show 11 < 13 by decide)
  obtain ⟨W11, p11, c11, f11⟩ := st_new 0 8 W10 (a + 6) 8 (by omega)
  obtain ⟨W12, p12, c12, f12⟩ := st_put (k := 12) (.ref (a + 6)) ((f11 a (by omega)).trans c10) (cs := [1]) (by decide) (show 12 < 13 by decide)
  refine ⟨W12, ?_, ⟨c12, ?_, ?_, ?_, ?_, ?_, ?_⟩, fun q hq => ?_⟩
  · unfold fX1_init
    simp only [jn_0, jn_1, jn_2, jn_3, jn_4, jn_5, jn_6, jn_8, jn_9, jn_10, jn_11, jn_12, jn_16, jn_20, jn_24, jn_30, jn_31, jn_32, jn_36, jn_48, jn_57, jn_59, jn_60, jn_63, jn_72, jn_73, jn_96, jn_97, jn_100, jn_122, jn_144, jn_200, jn_240, jn_288, jn_512, jn_840, jn_1200, jn_1600, jn_5040, jn_5390, jn_5400, jn_9999, jn_18688, jn_32400, jn_99999, jn_100000, jn_1000000, jn_858993459, jn_1431655765, jn_252645135, jl_0, jl_1, jl_2, jl_3, jl_8, jl_9, jl_10, jl_20, jl_27, jl_47, jl_96, jl_99, jl_100, jl_200, jl_555, jl_2000, jl_10000, jl_12345, jl_65536, jl_99999, jl_131638, jl_240023, jl_298288, jl_383153, jl_1306021, jl_1960084, jl_4147840, jl_8740238, jl_9872299, jl_175252482, jl_291595537, jl_1103515245, jl_2000000000, jl_2147483648, jl_4721686497, jl_7873079139, J_add, J_sub, J_mul, J_neg, JL_add, JL_sub, JL_mul, JL_neg, J_long, JL_int, ↓remI_fold, ↓remL_fold, Int.reduceAdd, Int.reduceSub, Int.reduceMul, Int.reduceNeg, Int.reduceToNat, Nat.add_assoc, Nat.reduceAdd]
    rw [show (J 6 : Int32) = J ((6 : Nat) : Int) from rfl, show (J 8 : Int32) = J ((8 : Nat) : Int) from rfl, p0, Option.bind_some, p1, Option.bind_some, p2, Option.bind_some, p3, Option.bind_some, p4, Option.bind_some, p5, Option.bind_some, p6, Option.bind_some, p7, Option.bind_some, p8, Option.bind_some, p9, Option.bind_some, p10, Option.bind_some, p11, Option.bind_some, p12, Option.bind_some]
  · rw [f12 _ (by omega), f11 _ (by omega), f10 _ (by omega), f9 _ (by omega), f8 _ (by omega), f7 _ (by omega), f6 _ (by omega), f5 _ (by omega), f4 _ (by omega), f3 _ (by omega), f2 _ (by omega), c1]
  · rw [f12 _ (by omega), f11 _ (by omega), f10 _ (by omega), f9 _ (by omega), f8 _ (by omega), f7 _ (by omega), f6 _ (by omega), f5 _ (by omega), f4 _ (by omega), c3]; rfl
  · rw [f12 _ (by omega), f11 _ (by omega), f10 _ (by omega), f9 _ (by omega), f8 _ (by omega), f7 _ (by omega), f6 _ (by omega), c5]; rfl
  · rw [f12 _ (by omega), f11 _ (by omega), f10 _ (by omega), f9 _ (by omega), f8 _ (by omega), c7]; rfl
  · rw [f12 _ (by omega), f11 _ (by omega), f10 _ (by omega), c9]; rfl
  · rw [f12 _ (by omega), c11]; rfl
  · rw [f12 _ (by omega), f11 _ (by omega), f10 _ (by omega), f9 _ (by omega), f8 _ (by omega), f7 _ (by omega), f6 _ (by omega), f5 _ (by omega), f4 _ (by omega), f3 _ (by omega), f2 _ (by omega), f1 _ (by omega), f0 _ (by omega)]
end
