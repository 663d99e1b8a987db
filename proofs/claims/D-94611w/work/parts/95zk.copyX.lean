/-! the component: a city copied -/
set_option maxRecDepth 100000
section
variable {N o c a : Nat} {S : XS} {V : Wd} {C : Cy} {th : Nat → Nat}
theorem Cn_put {W : Wd} {fs : List Value} {m : Nat → Option Nat} {f : Nat → Nat → Int32} (h : Cn W a fs m f) {k : Nat} (v : Value) (hk : k < fs.length) : ∃ W', pF W [1] a k v = some W' ∧ Cn W' a (fs.set k v) m f ∧ ∀ q, ¬ (a ≤ q ∧ q ≤ a + 6) → W' q = W q := by
  obtain ⟨h0, h1, h2, h3, h4, h5, h6⟩ := h
  obtain ⟨W', p, c, g⟩ := st_put v h0 (cs := [1]) (by decide) hk
  exact ⟨W', p, ⟨c, by rw [g _ (by omega)]; exact h1, by rw [g _ (by omega)]; exact h2, by rw [g _ (by omega)]; exact h3, by rw [g _ (by omega)]; exact h4, by rw [g _ (by omega)]; exact h5, by rw [g _ (by omega)]; exact h6⟩, fun q hq => g q (by omega)⟩
def lnC (j : Nat) : Nat := if j ≤ 3 then 6 else 8
theorem Cn_cp {W : Wd} {fs : List Value} {m : Nat → Option Nat} {f : Nat → Nat → Int32} (h : Cn W a fs m f) {j a0 : Nat} (hj : 2 ≤ j ∧ j ≤ 6) {g : Nat → Int32} (h0 : W a0 = some (.inl (0, lnC j, .inl g))) : ∃ W' f', cpI 0 W a0 (J 0) (a + j) (J 0) (J (lnC j : Int)) = some W' ∧ Cn W' a fs m f' ∧ (∀ i, i < lnC j → f' j i = g i) ∧ (∀ x, x ≠ j → f' x = f x) ∧ ∀ q, ¬ (a ≤ q ∧ q ≤ a + 6) → W' q = W q := by
  obtain ⟨c0, c1, c2, c3, c4, c5, c6⟩ := h
  have hj' : j = 2 ∨ j = 3 ∨ j = 4 ∨ j = 5 ∨ j = 6 := by omega
  have hcell : W (a + j) = some (.inl (0, lnC j, .inl (f j))) := by
    rcases hj' with h | h | h | h | h <;> subst h
    · exact c2
    · exact c3
    · exact c4
    · exact c5
    · exact c6
  obtain ⟨W', g', p, k1, k2, k3⟩ := st_cp h0 hcell (by unfold lnC; split <;> omega)
  refine ⟨W', fun x => if x = j then g' else f x, p, ⟨by rw [k3 _ (by omega)]; exact c0, by rw [k3 _ (by omega)]; exact c1, ?_, ?_, ?_, ?_, ?_⟩, fun i hi => by simp only [if_true]; exact k2 i hi, fun x hx => by simp only [if_neg hx], fun q hq => k3 q (by omega)⟩
  all_goals
    rcases hj' with h | h | h | h | h <;> subst h
    all_goals first
      | (rw [k3 _ (by omega)]; simp only [Nat.reduceEqDiff, if_false]; assumption)
      | (simp only [if_true]; exact k1)
/-- the cells below are as they were -/
theorem Hc_lo {W : Wd} (h : Hc V c th C) (hlt : ∀ q, Ft c th (cR C) q → q < a) (hw : ∀ q, q < a → W q = V q) : Hc W c th C := Hc_fr h (fun q hq => hw q (hlt q hq))
def cFs (a : Nat) (C : Cy) : List Value := [.int (J (cR C : Int)), .int (J (cX C : Int)), .int (J (cN C : Int)), .int (J (cL C : Int)), .int (J (cG C : Int)), .int (J (cO C : Int)), .int 0, .ref (a + 1), .ref (a + 2), .ref (a + 3), .ref (a + 4), .ref (a + 5), .ref (a + 6)]
/-- the new city, its first r throwers -/
def CpI (V : Wd) (a : Nat) (C : Cy) (r : Nat) (W : Wd) : Prop := ∃ m f, Cn W a (cFs a C) m f ∧ (∀ k, k < cX C → f 2 k = J (cLo C k : Int)) ∧ (∀ k, k < cX C → f 3 k = J (cHi C k : Int)) ∧ (∀ k, k < cN C → f 4 k = J (cF C k : Int)) ∧ (∀ k, k < cN C → f 5 k = J (cA C k : Int)) ∧ (∀ k, k < cN C → f 6 k = J (cD C k : Int)) ∧ (∀ q, q < r → m q = some (a + 7 + 3 * q)) ∧
  (∀ q, q < r → W (a + 7 + 3 * q) = some (.inr (kc (cK C q), [.int (J (q : Int)), .ref (a + 7 + 3 * q + 1), .ref (a + 7 + 3 * q + 2), .int (J (cP C q : Int))])) ∧ (∃ F, W (a + 7 + 3 * q + 1) = some (.inl (0, 8, .inl F)) ∧ ∀ i, i < cP C q → F i = J (cH C q i : Int)) ∧ (∃ F, W (a + 7 + 3 * q + 2) = some (.inl (0, 8, .inl F)) ∧ ∀ i, i < cP C q → F i = J (cT C q i : Int))) ∧ ∀ q, q < a → W q = V q
theorem CpI_Hc {W : Wd} (h : CpI V a C (cR C) W) : Hc W a (fun q => a + 7 + 3 * q) C := by
  obtain ⟨m, f, ⟨c0, c1, c2, c3, c4, c5, c6⟩, g2, g3, g4, g5, g6, hm, ht, _⟩ := h
  exact ⟨⟨0, c0⟩, ⟨m, c1, hm⟩, ⟨_, c2, g2⟩, ⟨_, c3, g3⟩, ⟨_, c4, g4⟩, ⟨_, c5, g5⟩, ⟨_, c6, g6⟩, fun r hr => ht r hr⟩
theorem X_cp133 (h : Hc V c th C) (hlt : ∀ q, Ft c th (cR C) q → q < a) {W : Wd} (hW : CpI V a C 0 W) (k : Wd → Nat → Option (Nat × Wd × Nat)) : ∃ W', fX1_copy_133 N c a k 7 (J 0) W (a + 7) = k W' (a + 7 + 3 * cR C) ∧ CpI V a C (cR C) W' := by
  have hR := cR_le C
  have key := lp_ex (fun n r (s : Wd) => fX1_copy_133 N c a k n (J (r : Int)) s (a + 7 + 3 * r)) (fun s => k s (a + 7 + 3 * cR C)) (cR C) (fun r s => CpI V a C r s) ?_ ?_ 7 W (by omega) hW
  · exact key
  · intro n r W hr hI
    obtain ⟨m, f, hC, g2, g3, g4, g5, g6, hm, ht, hV⟩ := hI
    have hx := Hc_lo (W := W) h hlt hV
    have hft : ∀ d, d ≤ 2 → th r + d < a := fun d hd => hlt _ (Or.inr ⟨r, d, hr, hd, rfl⟩)
    have hfc : ∀ d, d ≤ 6 → c + d < a := fun d hd => hlt _ (Or.inl ⟨d, hd, rfl⟩)
    have hat := hc_at hx (z := (r : Int)) (by omega)
    rw [Int.toNat_natCast] at hat
    have hkk := kc_in _ (cK_le C r)
    have ecopy := X_copyD (N := N) (V := W) (a := a + 7 + 3 * r) (t := th r) (k := cK C r) (r := r) (cK_le C r) (by have := hft 0 (by omega); omega) (ht_0 hx hr)
    obtain ⟨c0, c1, c2, c3, c4, c5, c6⟩ := hC
    have hWT : ∀ q, ¬ (a + 7 + 3 * r ≤ q ∧ q ≤ a + 7 + 3 * r + 2) → ∀ n F G, wT W (a + 7 + 3 * r) (kc (cK C r)) r n F G q = W q := fun q hq n F G => wT_o _ _ _ _ _ _ _ hq
    have e1 : wT W (a + 7 + 3 * r) (kc (cK C r)) r (J 1) (fun _ => 0) (upd (fun _ => 0) 0 (J (r : Int))) (a + 1) = some (.inl (5, 6, .inr (.inr (.inr (.inr m))))) := by rw [hWT _ (by omega)]; exact c1
    have esR : sR 5 famT (wT W (a + 7 + 3 * r) (kc (cK C r)) r (J 1) (fun _ => 0) (upd (fun _ => 0) 0 (J (r : Int)))) (a + 1) (J (r : Int)) (a + 7 + 3 * r) = some (wup (wT W (a + 7 + 3 * r) (kc (cK C r)) r (J 1) (fun _ => 0) (upd (fun _ => 0) 0 (J (r : Int)))) (a + 1) (.inl (5, 6, .inr (.inr (.inr (.inr (va_up m r (some (a + 7 + 3 * r)))))))) ) := by
      unfold sR
      rw [e1]
      simp only [true_and]
      rw [if_pos (ix_ok (show 0 ≤ (r : Int) ∧ (r : Int) < (6 : Nat) by omega) (by decide)), ckC_of (wT_0 W (a + 7 + 3 * r) (kc (cK C r)) r _ _ _) hkk, Option.bind_some, J_nn (by omega), Int.toNat_natCast]
    have ecm : ∀ n F G, wup (wT W (a + 7 + 3 * r) (kc (cK C r)) r n F G) (a + 1) (.inl (5, 6, .inr (.inr (.inr (.inr (va_up m r (some (a + 7 + 3 * r)))))))) = wT (wup W (a + 1) (.inl (5, 6, .inr (.inr (.inr (.inr (va_up m r (some (a + 7 + 3 * r))))))))) (a + 7 + 3 * r) (kc (cK C r)) r n F G := by
      intro n F G
      funext q
      by_cases q1 : q = a + 1
      · rw [q1, wup_s, wT_o _ _ _ _ _ _ _ (by omega), wup_s]
      · rw [wup_o _ _ q1]
        unfold wT
        rw [wup_o _ _ q1]
    generalize hUU : wup W (a + 1) (.inl (5, 6, .inr (.inr (.inr (.inr (va_up m r (some (a + 7 + 3 * r)))))))) = U at *
    have hU : ∀ q, q ≠ a + 1 → U q = W q := fun q hq => by rw [← hUU]; exact wup_o _ _ hq
    have hU1 : U (a + 1) = some (.inl (5, 6, .inr (.inr (.inr (.inr (va_up m r (some (a + 7 + 3 * r)))))))) := by rw [← hUU]; exact wup_s _ _ _
    have hUx : Hc U c th C := Hc_lo (a := a) hx hlt (fun q hq => hU q (by omega))
    have hTx : ∀ n F G, Hc (wT U (a + 7 + 3 * r) (kc (cK C r)) r n F G) c th C := fun n F G => Hc_lo (a := a) hUx hlt (fun q hq => wT_o _ _ _ _ _ _ _ (by omega))
    obtain ⟨F, G, _, hF⟩ := Hc_thr hUx hr
    have ⟨t0, ⟨F1, t1, t1'⟩, ⟨G1, t2, t2'⟩⟩ := hUx.2.2.2.2.2.2.2 r hr
    have ebe := X_beG (N := N) (V := U) (a := a + 7 + 3 * r) (t := th r) (k := kc (cK C r)) (k' := kc (cK C r)) (r := r) (m' := J 1) (F' := fun _ => 0) (G' := upd (fun _ => 0) 0 (J (r : Int))) hkk hkk t0 t1 t2 (fun d e hd he => by have := hft d hd; omega)
    have c0U : ∀ n F G, wT U (a + 7 + 3 * r) (kc (cK C r)) r n F G a = some (.inr (1, cFs a C)) := fun n F G => by rw [wT_o _ _ _ _ _ _ _ (by omega), hU _ (by omega)]; exact c0
    have g7 : ∀ n F G, gR (wT U (a + 7 + 3 * r) (kc (cK C r)) r n F G) [1] a 7 = some (a + 1) := fun n F G => gR_of (c0U n F G) (by decide) rfl
    have g7W : gR W [1] a 7 = some (a + 1) := gR_of c0 (by decide) rfl
    have gat : ∀ n F G, aR 5 (wT U (a + 7 + 3 * r) (kc (cK C r)) r n F G) (a + 1) (J (r : Int)) = some (a + 7 + 3 * r) := fun n F G => by
      have e : wT U (a + 7 + 3 * r) (kc (cK C r)) r n F G (a + 1) = some (.inl (5, 6, .inr (.inr (.inr (.inr (va_up m r (some (a + 7 + 3 * r)))))))) := by rw [wT_o _ _ _ _ _ _ _ (by omega)]; exact hU1
      exact aR_of e (by omega) (by decide) (by rw [Int.toNat_natCast]; exact va_up_self _ _ _)
    have hat2 : ∀ n F G, aR 5 (wT U (a + 7 + 3 * r) (kc (cK C r)) r n F G) (c + 1) (J (r : Int)) = some (th r) := fun n F G => by
      have := hc_at (hTx n F G) (z := (r : Int)) (by omega)
      rwa [Int.toNat_natCast] at this
    refine ⟨wT U (a + 7 + 3 * r) (kc (cK C r)) r (J (cP C r : Int)) (cp8 F1 (fun _ => 0)) (cp8 G1 (upd (fun _ => 0) 0 (J (r : Int)))), ?_, ?_⟩
    · show fX1_copy_133 N c a k (n + 1) (J (r : Int)) W (a + 7 + 3 * r) = _
      rw [fX1_copy_133, hc_0 hx, Option.bind_some, if_neg (by rw [J_le (by omega)]; omega), g7W, Option.bind_some, hc_7 hx, Option.bind_some, hat, Option.bind_some, ht_k hx hr, Option.bind_some, ecopy, Option.bind_some]
      simp only
      rw [esR, Option.bind_some, ecm, g7, Option.bind_some, gat, Option.bind_some, hc_7 (hTx _ _ _), Option.bind_some, hat2, Option.bind_some, ckC_of (wT_0 U (a + 7 + 3 * r) (kc (cK C r)) r _ _ _) hkk, Option.bind_some, ebe, Option.bind_some, Option.bind_some, jn_1, J_add, castS, show a + 7 + 3 * r + 3 = a + 7 + 3 * (r + 1) by omega]
    · refine ⟨va_up m r (some (a + 7 + 3 * r)), f, ⟨c0U _ _ _, ?_, ?_, ?_, ?_, ?_, ?_⟩, g2, g3, g4, g5, g6, fun q hq => ?_, fun q hq => ?_, fun q hq => ?_⟩
      · rw [wT_o _ _ _ _ _ _ _ (by omega)]; exact hU1
      · rw [wT_o _ _ _ _ _ _ _ (by omega), hU _ (by omega)]; exact c2
      · rw [wT_o _ _ _ _ _ _ _ (by omega), hU _ (by omega)]; exact c3
      · rw [wT_o _ _ _ _ _ _ _ (by omega), hU _ (by omega)]; exact c4
      · rw [wT_o _ _ _ _ _ _ _ (by omega), hU _ (by omega)]; exact c5
      · rw [wT_o _ _ _ _ _ _ _ (by omega), hU _ (by omega)]; exact c6
      · by_cases hqr : q = r
        · rw [hqr]; exact va_up_self _ _ _
        · rw [va_up_ne _ _ hqr]; exact hm q (by omega)
      · by_cases hqr : q = r
        · rw [hqr]
          have hP := cP_bd C r
          refine ⟨wT_0 _ _ _ _ _ _ _, ⟨_, wT_1 _ _ _ _ _ _ _, fun i hi => ?_⟩, ⟨_, wT_2 _ _ _ _ _ _ _, fun i hi => ?_⟩⟩
          · unfold cp8; rw [if_pos (by omega)]; exact t1' i hi
          · unfold cp8; rw [if_pos (by omega)]; exact t2' i hi
        · rw [wT_o _ _ _ _ _ _ _ (by omega), wT_o _ _ _ _ _ _ _ (by omega), wT_o _ _ _ _ _ _ _ (by omega), hU _ (by omega), hU _ (by omega), hU _ (by omega)]
          exact ht q (by omega)
      · rw [wT_o _ _ _ _ _ _ _ (by omega), hU _ (by omega)]; exact hV q hq
  · intro n W hI
    have hx := Hc_lo (W := W) h hlt hI.choose_spec.choose_spec.2.2.2.2.2.2.2.2
    show fX1_copy_133 N c a k (n + 1) (J (cR C : Int)) W (a + 7 + 3 * cR C) = _
    rw [fX1_copy_133, hc_0 hx, Option.bind_some, if_pos (by rw [J_le (by omega)]; omega)]
theorem X_copy (h : Hc V c th C) (hlt : ∀ q, Ft c th (cR C) q → q < a) : ∃ W, fX1_copy N V a c = some (a, W, a + 7 + 3 * cR C) ∧ Hc W a (fun q => a + 7 + 3 * q) C ∧ ∀ q, q < a → W q = V q := by
  have hR := cR_le C
  have hfc : ∀ d, d ≤ 6 → c + d < a := fun d hd => hlt _ (Or.inl ⟨d, hd, rfl⟩)
  obtain ⟨W0, p0, d0, f0⟩ := X1_init (N := N) (V := wup V a (.inr (1, newX1))) (a := a) (wup_s _ _ _)
  have l0 : ∀ q, q < a → W0 q = V q := fun q hq => by rw [f0 q (by omega), wup_o _ _ (by omega)]
  have x0 := Hc_lo (W := W0) h hlt l0
  obtain ⟨W1, p1, d1, f1⟩ := Cn_put d0 (k := 0) (.int (J (cR C : Int))) (show 0 < 13 by decide)
  have l1 : ∀ q, q < a → W1 q = V q := fun q hq => by rw [f1 q (by omega)]; exact l0 q hq
  have x1 := Hc_lo (W := W1) h hlt l1
  obtain ⟨W2, p2, d2, f2⟩ := Cn_put d1 (k := 1) (.int (J (cX C : Int))) (show 1 < 13 by decide)
  have l2 : ∀ q, q < a → W2 q = V q := fun q hq => by rw [f2 q (by omega)]; exact l1 q hq
  have x2 := Hc_lo (W := W2) h hlt l2
  obtain ⟨W3, p3, d3, f3⟩ := Cn_put d2 (k := 2) (.int (J (cN C : Int))) (show 2 < 13 by decide)
  have l3 : ∀ q, q < a → W3 q = V q := fun q hq => by rw [f3 q (by omega)]; exact l2 q hq
  have x3 := Hc_lo (W := W3) h hlt l3
  obtain ⟨W4, p4, d4, f4⟩ := Cn_put d3 (k := 3) (.int (J (cL C : Int))) (show 3 < 13 by decide)
  have l4 : ∀ q, q < a → W4 q = V q := fun q hq => by rw [f4 q (by omega)]; exact l3 q hq
  have x4 := Hc_lo (W := W4) h hlt l4
  obtain ⟨W5, p5, d5, f5⟩ := Cn_put d4 (k := 4) (.int (J (cG C : Int))) (show 4 < 13 by decide)
  have l5 : ∀ q, q < a → W5 q = V q := fun q hq => by rw [f5 q (by omega)]; exact l4 q hq
  have x5 := Hc_lo (W := W5) h hlt l5
  obtain ⟨W6, p6, d6, f6⟩ := Cn_put d5 (k := 5) (.int (J (cO C : Int))) (show 5 < 13 by decide)
  have l6 : ∀ q, q < a → W6 q = V q := fun q hq => by rw [f6 q (by omega)]; exact l5 q hq
  have x6 := Hc_lo (W := W6) h hlt l6
  obtain ⟨s2, y2, z2⟩ := x6.2.2.1
  obtain ⟨W7, u7, p7, d7, v7, w7, f7⟩ := Cn_cp d6 (j := 2) (a0 := c + 2) (by omega) (g := s2) y2
  have l7 : ∀ q, q < a → W7 q = V q := fun q hq => by rw [f7 q (by omega)]; exact l6 q hq
  have x7 := Hc_lo (W := W7) h hlt l7
  obtain ⟨s3, y3, z3⟩ := x7.2.2.2.1
  obtain ⟨W8, u8, p8, d8, v8, w8, f8⟩ := Cn_cp d7 (j := 3) (a0 := c + 3) (by omega) (g := s3) y3
  have l8 : ∀ q, q < a → W8 q = V q := fun q hq => by rw [f8 q (by omega)]; exact l7 q hq
  have x8 := Hc_lo (W := W8) h hlt l8
  obtain ⟨s4, y4, z4⟩ := x8.2.2.2.2.1
  obtain ⟨W9, u9, p9, d9, v9, w9, f9⟩ := Cn_cp d8 (j := 4) (a0 := c + 4) (by omega) (g := s4) y4
  have l9 : ∀ q, q < a → W9 q = V q := fun q hq => by rw [f9 q (by omega)]; exact l8 q hq
  have x9 := Hc_lo (W := W9) h hlt l9
  obtain ⟨s5, y5, z5⟩ := x9.2.2.2.2.2.1
  obtain ⟨W10, u10, p10, d10, v10, w10, f10⟩ := Cn_cp d9 (j := 5) (a0 := c + 5) (by omega) (g := s5) y5
  have l10 : ∀ q, q < a → W10 q = V q := fun q hq => by rw [f10 q (by omega)]; exact l9 q hq
  have x10 := Hc_lo (W := W10) h hlt l10
  obtain ⟨s6, y6, z6⟩ := x10.2.2.2.2.2.2.1
  obtain ⟨W11, u11, p11, d11, v11, w11, f11⟩ := Cn_cp d10 (j := 6) (a0 := c + 6) (by omega) (g := s6) y6
  have l11 : ∀ q, q < a → W11 q = V q := fun q hq => by rw [f11 q (by omega)]; exact l10 q hq
  have x11 := Hc_lo (W := W11) h hlt l11
  have hX := cX_le C
  have hNn := cN_le C
  have hI : CpI V a C 0 W11 := by
    refine ⟨_, u11, d11, fun k hk => ?_, fun k hk => ?_, fun k hk => ?_, fun k hk => ?_, fun k hk => ?_, fun q hq => absurd hq (Nat.not_lt_zero q), fun q hq => absurd hq (Nat.not_lt_zero q), l11⟩
    · rw [w11 2 (by decide), w10 2 (by decide), w9 2 (by decide), w8 2 (by decide), v7 k (by show k < 6; omega)]; exact z2 k hk
    · rw [w11 3 (by decide), w10 3 (by decide), w9 3 (by decide), v8 k (by show k < 6; omega)]; exact z3 k hk
    · rw [w11 4 (by decide), w10 4 (by decide), v9 k (by show k < 8; omega)]; exact z4 k hk
    · rw [w11 5 (by decide), v10 k (by show k < 8; omega)]; exact z5 k hk
    · rw [v11 k (by show k < 8; omega)]; exact z6 k hk
  obtain ⟨W, e, hW⟩ := X_cp133 (N := N) h hlt hI (fun w44 y45 => some (a, w44, y45))
  refine ⟨W, ?_, CpI_Hc hW, hW.choose_spec.choose_spec.2.2.2.2.2.2.2.2⟩
  unfold fX1_copy
  rw [Option.bind_some, p0, Option.bind_some]
  simp only [jn_0, jn_1, jn_2, jn_3, jn_4, jn_5, jn_6, jn_8, jn_9, jn_10, jn_11, jn_12, jn_16, jn_20, jn_24, jn_30, jn_31, jn_32, jn_36, jn_48, jn_57, jn_59, jn_60, jn_63, jn_72, jn_73, jn_96, jn_97, jn_100, jn_122, jn_144, jn_200, jn_240, jn_288, jn_512, jn_840, jn_1200, jn_1600, jn_5040, jn_5390, jn_5400, jn_9999, jn_18688, jn_32400, jn_99999, jn_100000, jn_1000000, jn_858993459, jn_1431655765, jn_252645135, jl_0, jl_1, jl_2, jl_3, jl_8, jl_9, jl_10, jl_20, jl_27, jl_47, jl_96, jl_99, jl_100, jl_200, jl_555, jl_2000, jl_10000, jl_12345, jl_65536, jl_99999, jl_131638, jl_240023, jl_298288, jl_383153, jl_1306021, jl_1960084, jl_4147840, jl_8740238, jl_9872299, jl_175252482, jl_291595537, jl_1103515245, jl_2000000000, jl_2147483648, jl_4721686497, jl_7873079139, J_add, J_sub, J_mul, J_neg, JL_add, JL_sub, JL_mul, JL_neg, J_long, JL_int, ↓remI_fold, ↓remL_fold, Int.reduceAdd, Int.reduceSub, Int.reduceMul, Int.reduceNeg, Int.reduceToNat]
  rw [hc_0 x0, Option.bind_some, p1, Option.bind_some, hc_1 x1, Option.bind_some, p2, Option.bind_some, hc_2 x2, Option.bind_some, p3, Option.bind_some, hc_3 x3, Option.bind_some, p4, Option.bind_some, hc_4 x4, Option.bind_some, p5, Option.bind_some, hc_5 x5, Option.bind_some, p6, Option.bind_some]
  rw [hc_8 x6, Option.bind_some, gR_of d6.1 (cs := [1]) (by decide) (show _ = some (Value.ref (a + 2)) from rfl), Option.bind_some, (show cpI 0 W6 (c + 2) (J 0) (a + 2) (J 0) (J 6) = some W7 from p7), Option.bind_some, hc_9 x7, Option.bind_some, gR_of d7.1 (cs := [1]) (by decide) (show _ = some (Value.ref (a + 3)) from rfl), Option.bind_some, (show cpI 0 W7 (c + 3) (J 0) (a + 3) (J 0) (J 6) = some W8 from p8), Option.bind_some, hc_10 x8, Option.bind_some, gR_of d8.1 (cs := [1]) (by decide) (show _ = some (Value.ref (a + 4)) from rfl), Option.bind_some, (show cpI 0 W8 (c + 4) (J 0) (a + 4) (J 0) (J 8) = some W9 from p9), Option.bind_some, hc_11 x9, Option.bind_some, gR_of d9.1 (cs := [1]) (by decide) (show _ = some (Value.ref (a + 5)) from rfl), Option.bind_some, (show cpI 0 W9 (c + 5) (J 0) (a + 5) (J 0) (J 8) = some W10 from p10), Option.bind_some, hc_12 x10, Option.bind_some, gR_of d10.1 (cs := [1]) (by decide) (show _ = some (Value.ref (a + 6)) from rfl), Option.bind_some, (show cpI 0 W10 (c + 6) (J 0) (a + 6) (J 0) (J 8) = some W11 from p11), Option.bind_some]
  exact e
end
