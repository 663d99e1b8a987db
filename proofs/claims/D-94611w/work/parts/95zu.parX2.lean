/-! the component: crossings, letters -/
set_option maxRecDepth 100000
theorem st_set {W : Wd} {b m z : Nat} {f : Nat → Int32} (x : Int32) (h : W b = some (.inl (0, m, .inl f))) (hz : z < m) (hm : m ≤ 60) : ∃ W', sI 0 W b (J (z : Int)) x = some W' ∧ W' b = some (.inl (0, m, .inl (upd f z x))) ∧ ∀ q, q ≠ b → W' q = W q := by
  have e := sI_of x h (z := (z : Int)) (by omega) (by omega)
  rw [Int.toNat_natCast, nar_0] at e
  exact ⟨_, e, wup_s _ _ _, fun _ hq => wup_o _ _ hq⟩
theorem ar_up {W : Wd} {b m z xx : Nat} {f : Nat → Int32} {P P' : Nat → Nat} (c : W b = some (.inl (0, m, .inl (upd f z (J (xx : Int)))))) (h : ∀ k, k < z → f k = J (P k : Int)) (hP : ∀ k, P' k = if k = z then xx else P k) : ∃ f, W b = some (.inl (0, m, .inl f)) ∧ ∀ k, k < z + 1 → f k = J (P' k : Int) := by
  refine ⟨_, c, fun k hk => ?_⟩
  rw [hP]
  by_cases hkk : k = z
  · rw [hkk, upd_s, if_pos rfl]
  · rw [upd_o _ _ hkk, if_neg hkk]; exact h k (by omega)
/-- the arrays of a city -/
def CaX (W : Wd) (c : Nat) (D : Cy) : Prop :=
  (∃ f, W (c + 2) = some (.inl (0, 6, .inl f)) ∧ ∀ k, k < cX D → f k = J (cLo D k)) ∧
  (∃ f, W (c + 3) = some (.inl (0, 6, .inl f)) ∧ ∀ k, k < cX D → f k = J (cHi D k)) ∧
  (∃ f, W (c + 4) = some (.inl (0, 8, .inl f)) ∧ ∀ k, k < cN D → f k = J (cF D k)) ∧
  (∃ f, W (c + 5) = some (.inl (0, 8, .inl f)) ∧ ∀ k, k < cN D → f k = J (cA D k)) ∧
  (∃ f, W (c + 6) = some (.inl (0, 8, .inl f)) ∧ ∀ k, k < cN D → f k = J (cD D k))
section
variable {N o a n q : Nat} {V W : Wd} {T : Tx} {ad : Nat → Nat} {D : Cy} {g : Bool} {th : Nat → Nat}
theorem PcX_mk {D' : Cy} {g' : Bool} {W' : Wd} (h : PcX ad T o a V D g th q W n) (hw : ∀ x, ¬ (a + 1 ≤ x ∧ x ≤ a + 7 ∧ x ≠ a + 2) → W' x = W x) (hw2 : W' (a + 2) = W (a + 2)) (hc : W' (a + 1) = some (.inr (1, [.int (J (cR D' : Int)), .int (J (cX D' : Int)), .int (J (cN D' : Int)), .int (J (cL D' : Int)), .int (J (cG D' : Int)), .int (J (cO D' : Int)), .int (Bp (g' = true)), .ref (a + 1 + 1), .ref (a + 1 + 2), .ref (a + 1 + 3), .ref (a + 1 + 4), .ref (a + 1 + 5), .ref (a + 1 + 6)]))) (ha : CaX W' (a + 1) D') (hR : cR D' = cR D) (hK : ∀ r, cK D' r = cK D r) (hP : ∀ r, cP D' r = cP D r) (hH : ∀ r i, cH D' r i = cH D r i) (hT : ∀ r i, cT D' r i = cT D r i) : PcX ad T o a V D' g' th q W' n := by
  obtain ⟨h1, h2, h3, h4, h5, h6, h7⟩ := h
  obtain ⟨b1, b2, b3, b4, b5⟩ := ha
  obtain ⟨_, a1, a2, a3, a4, a5, a6, a7⟩ := h2
  refine ⟨⟨h1.1, ?_⟩, ⟨⟨_, hc⟩, ?_, b1, b2, b3, b4, b5, fun r hr => ?_⟩, hc, by rw [hR]; exact h4, by rw [hR]; exact h5, h6, fun x hx => (hw x (by omega)).trans (h7 x hx)⟩
  · obtain ⟨v, e1, e2⟩ := h1.2
    exact ⟨v, by rw [hw _ (by omega)]; exact e1, e2⟩
  · rw [hR]
    obtain ⟨f, f1, f2⟩ := a1
    exact ⟨f, hw2.trans f1, f2⟩
  · rw [hR] at hr
    have hth := h4 r hr
    rw [hw _ (by omega), hw _ (by omega), hw _ (by omega), hK, hP]
    obtain ⟨t1, ⟨F, t2, t3⟩, ⟨G, t4, t5⟩⟩ := a7 r hr
    exact ⟨t1, ⟨F, t2, fun i hi => by rw [hH]; exact t3 i hi⟩, ⟨G, t4, fun i hi => by rw [hT]; exact t5 i hi⟩⟩
theorem PcX_g (h : PcX ad T o a V D g th q W n) {k x : Nat} (hk : ([.int (J (cR D : Int)), .int (J (cX D : Int)), .int (J (cN D : Int)), .int (J (cL D : Int)), .int (J (cG D : Int)), .int (J (cO D : Int)), .int (Bp (g = true)), .ref (a + 1 + 1), .ref (a + 1 + 2), .ref (a + 1 + 3), .ref (a + 1 + 4), .ref (a + 1 + 5), .ref (a + 1 + 6)] : List Value)[k]? = some (.ref x)) : gR W [1] (a + 1) k = some x := gR_of h.2.2.1 (by decide) hk
theorem PcX_i (h : PcX ad T o a V D g th q W n) {k : Nat} {x : Int32} (hk : ([.int (J (cR D : Int)), .int (J (cX D : Int)), .int (J (cN D : Int)), .int (J (cL D : Int)), .int (J (cG D : Int)), .int (J (cO D : Int)), .int (Bp (g = true)), .ref (a + 1 + 1), .ref (a + 1 + 2), .ref (a + 1 + 3), .ref (a + 1 + 4), .ref (a + 1 + 5), .ref (a + 1 + 6)] : List Value)[k]? = some (.int x)) : gI W [1] (a + 1) k = some x := gI_of h.2.2.1 (by decide) hk
theorem mn_J {x y : Int} (h : (0 ≤ x ∧ x ≤ 100) ∧ 0 ≤ y ∧ y ≤ 100) (W : Wd) : fJ0_min N W (J x) (J y) = some (J ((min x.toNat y.toNat : Nat) : Int)) := by
  rw [X_min (by omega)]
  by_cases hh : y < x
  · rw [if_pos hh, show ((min x.toNat y.toNat : Nat) : Int) = y by omega]
  · rw [if_neg hh, show ((min x.toNat y.toNat : Nat) : Int) = x by omega]
theorem mx_J {x y : Int} (h : (0 ≤ x ∧ x ≤ 100) ∧ 0 ≤ y ∧ y ≤ 100) (W : Wd) : fJ0_max N W (J x) (J y) = some (J ((max x.toNat y.toNat : Nat) : Int)) := by
  unfold fJ0_max
  by_cases hh : x < y
  · rw [if_pos (by rw [J_lt (by omega)]; exact hh), show ((max x.toNat y.toNat : Nat) : Int) = y by omega]
  · rw [if_neg (by rw [J_lt (by omega)]; exact hh), show ((max x.toNat y.toNat : Nat) : Int) = x by omega]
theorem X6_cross (had : ∀ i j, i < 5 → j < 5 → ad i = ad j → i = j) (hT : TpX V o T) (ho : o + 8 < a) (hN : 1000000 ≤ N) (h : PcX ad T o a V D g th q W n) (hX : cX D < 6) : CxG (fun D' q' W' n' => PcX ad T o a V D' g th q' W' n' ∧ n ≤ n') V a (aCross T D q) (fX6_cross ad N W n a) := by
  have h8 := h.2.2.2.2.2.1
  have han : a < n := by omega
  have ha : a ≠ o ∧ a ≠ o + 8 := by omega
  have hR := cR_le D
  unfold fX6_cross aCross
  refine bndV (X6_roof (N := N) had (PcX_T h hT ho) ha hN h.1 han hR (PcX_i h (k := 0) rfl)) han h.2.2.2.2.2.2 (fun x q1 W1 hx hr1 ho1 => ?_)
  have hx1 := aNum_ok hx
  have hp1 := PcX_on h hr1 ho1
  simp only
  refine bndV (X6_other (N := N) had (PcX_T hp1 hT ho) ha hN hp1.1 han hR (PcX_i hp1 (k := 0) rfl) (by omega)) han hp1.2.2.2.2.2.2 (fun y q2 W2 hy hr2 ho2 => ?_)
  have hy1 := aOther_ok hy
  have hp2 := PcX_on hp1 hr2 ho2
  simp only
  obtain ⟨⟨_, _, ⟨f2, a2, b2⟩, ⟨f3, a3, b3⟩, a4, a5, a6, _⟩⟩ := And.intro hp2.2.1 trivial
  obtain ⟨W3, p3, c3, g3⟩ := st_set (z := cX D) (J ((min x.toNat y.toNat : Nat) : Int)) a2 (by omega) (by decide)
  obtain ⟨W4, p4, c4, g4⟩ := st_set (z := cX D) (J ((max x.toNat y.toNat : Nat) : Int)) ((g3 _ (by omega)).trans a3) (by omega) (by decide)
  have e4 : W4 (a + 1) = W2 (a + 1) := by rw [g4 _ (by omega), g3 _ (by omega)]
  obtain ⟨W5, p5, c5, g5⟩ := st_put (k := 1) (.int (J ((cX D + 1 : Nat) : Int))) (e4.trans hp2.2.2.1) (cs := [1]) (by decide) (show 1 < 13 by decide)
  have gu : ∀ W', W' a = W2 a → gR W' [6] a 1 = some (a + 1) := fun W' hw => by
    have := gu_1 hp2
    unfold gR fld at this ⊢
    rw [hw]; exact this
  have gi : ∀ W', W' (a + 1) = W2 (a + 1) → gI W' [1] (a + 1) 1 = some (J (cX D : Int)) := fun W' hw => gI_of (hw.trans hp2.2.2.1) (by decide) rfl
  have gr : ∀ W' k x, W' (a + 1) = W2 (a + 1) → ([.int (J (cR D : Int)), .int (J (cX D : Int)), .int (J (cN D : Int)), .int (J (cL D : Int)), .int (J (cG D : Int)), .int (J (cO D : Int)), .int (Bp (g = true)), .ref (a + 1 + 1), .ref (a + 1 + 2), .ref (a + 1 + 3), .ref (a + 1 + 4), .ref (a + 1 + 5), .ref (a + 1 + 6)] : List Value)[k]? = some (.ref x) → gR W' [1] (a + 1) k = some x := fun W' k x hw hk => gR_of (hw.trans hp2.2.2.1) (by decide) hk
  have e3 : W3 (a + 1) = W2 (a + 1) := g3 _ (by omega)
  have e3a : W3 a = W2 a := g3 _ (by omega)
  have e4a : W4 a = W2 a := by rw [g4 _ (by omega)]; exact e3a
  rw [gu _ rfl, Option.bind_some, gr _ 8 (a + 1 + 2) rfl rfl, Option.bind_some, Option.bind_some, gi _ rfl, Option.bind_some, mn_J (by omega), Option.bind_some, p3, Option.bind_some, gu _ e3a, Option.bind_some, gr _ 9 (a + 1 + 3) e3 rfl, Option.bind_some, Option.bind_some, gi _ e3, Option.bind_some, mx_J (by omega), Option.bind_some, p4, Option.bind_some, gu _ e4a, Option.bind_some, gi _ e4, Option.bind_some, jn_1, J_add, castS, p5, Option.bind_some]
  refine ⟨W5, n, rfl, ?_, Nat.le_refl _⟩
  have hlo := fun k => cCr_Lo (D := D) (lo := min x.toNat y.toNat) (hi := max x.toNat y.toNat) (by omega) k
  have hhi := fun k => cCr_Hi (D := D) (lo := min x.toNat y.toNat) (hi := max x.toNat y.toNat) (by omega) k
  refine PcX_mk hp2 (fun x hx => ?_) ?_ ?_ ⟨?_, ?_, ?_, ?_, ?_⟩ rfl (fun _ => rfl) (fun _ => rfl) (fun _ _ => rfl) (fun _ _ => rfl)
  · rw [g5 _ (by omega), g4 _ (by omega), g3 _ (by omega)]
  · rw [g5 _ (by omega), g4 _ (by omega), g3 _ (by omega)]
  · rw [c5, cCr_X hX]; rfl
  · rw [cCr_X hX]
    exact ar_up (by rw [g5 _ (by omega), g4 _ (by omega)]; exact c3) b2 hlo
  · rw [cCr_X hX]
    exact ar_up (by rw [g5 _ (by omega)]; exact c4) b3 hhi
  · rw [g5 _ (by omega), g4 _ (by omega), g3 _ (by omega)]; exact a4
  · rw [g5 _ (by omega), g4 _ (by omega), g3 _ (by omega)]; exact a5
  · rw [g5 _ (by omega), g4 _ (by omega), g3 _ (by omega)]; exact a6
theorem X6_letter (had : ∀ i j, i < 5 → j < 5 → ad i = ad j → i = j) (hT : TpX V o T) (ho : o + 8 < a) (hN : 1000000 ≤ N) (h : PcX ad T o a V D g th q W n) (hX : cN D < 8) : CxG (fun D' q' W' n' => PcX ad T o a V D' g th q' W' n' ∧ n ≤ n') V a (aLetter T D q) (fX6_letter ad N W n a) := by
  have h8 := h.2.2.2.2.2.1
  have han : a < n := by omega
  have ha : a ≠ o ∧ a ≠ o + 8 := by omega
  have hR := cR_le D
  unfold fX6_letter aLetter
  refine bndV (X6_roof (N := N) had (PcX_T h hT ho) ha hN h.1 han hR (PcX_i h (k := 0) rfl)) han h.2.2.2.2.2.2 (fun x q1 W1 hx hr1 ho1 => ?_)
  have hx1 := aNum_ok hx
  have hp1 := PcX_on h hr1 ho1
  simp only
  refine bndV (X6_told (N := N) had (PcX_T hp1 hT ho) ha (by omega) hN hp1.1 han (i := 7) (by decide) (lo := 0) (hi' := 9999) (by omega)) han hp1.2.2.2.2.2.2 (fun b qb Wb hb hrb hob => ?_)
  have hb1 := aTold_ok hb
  have hpb := PcX_on hp1 hrb hob
  simp only
  refine bndU (X6_needs (N := N) had (PcX_T hpb hT ho) ha hN hpb.1 han (i := 6) (by decide)) han hpb.2.2.2.2.2.2 (fun qn Wn hn hrn hon => ?_)
  have hpn := PcX_on hpb hrn hon
  simp only
  rw [gu_1 hpn, Option.bind_some, PcX_g hpn (k := 12) rfl, Option.bind_some, Option.bind_some, PcX_i hpn (k := 2) rfl, Option.bind_some]
  refine bndV (X6_other (N := N) had (PcX_T hpn hT ho) ha hN hpn.1 han hR (PcX_i hpn (k := 0) rfl) (by omega)) han hpn.2.2.2.2.2.2 (fun y q2 W2 hy hr2 ho2 => ?_)
  have hy1 := aOther_ok hy
  have hp2 := PcX_on hpn hr2 ho2
  simp only
  obtain ⟨⟨_, _, a2, a3, ⟨f4, a4, b4⟩, ⟨f5, a5, b5⟩, ⟨f6, a6, b6⟩, _⟩⟩ := And.intro hp2.2.1 trivial
  obtain ⟨W3, p3, c3, g3⟩ := st_set (z := cN D) (J ((y.toNat : Nat) : Int)) a6 (by omega) (by decide)
  obtain ⟨W4, p4, c4, g4⟩ := st_set (z := cN D) (J ((x.toNat : Nat) : Int)) ((g3 _ (by omega)).trans a4) (by omega) (by decide)
  obtain ⟨W5, p5, c5, g5⟩ := st_set (z := cN D) (J ((b.toNat : Nat) : Int)) ((g4 _ (by omega)).trans ((g3 _ (by omega)).trans a5)) (by omega) (by decide)
  have e3 : W3 (a + 1) = W2 (a + 1) := g3 _ (by omega)
  have e4 : W4 (a + 1) = W2 (a + 1) := by rw [g4 _ (by omega)]; exact e3
  have e5 : W5 (a + 1) = W2 (a + 1) := by rw [g5 _ (by omega)]; exact e4
  obtain ⟨W6, p6, c6, g6⟩ := st_put (k := 2) (.int (J ((cN D + 1 : Nat) : Int))) (e5.trans hp2.2.2.1) (cs := [1]) (by decide) (show 2 < 13 by decide)
  have gu : ∀ W', W' a = W2 a → gR W' [6] a 1 = some (a + 1) := fun W' hw => by
    have := gu_1 hp2
    unfold gR fld at this ⊢
    rw [hw]; exact this
  have gi : ∀ W', W' (a + 1) = W2 (a + 1) → gI W' [1] (a + 1) 2 = some (J (cN D : Int)) := fun W' hw => gI_of (hw.trans hp2.2.2.1) (by decide) rfl
  have gr : ∀ W' k x, W' (a + 1) = W2 (a + 1) → ([.int (J (cR D : Int)), .int (J (cX D : Int)), .int (J (cN D : Int)), .int (J (cL D : Int)), .int (J (cG D : Int)), .int (J (cO D : Int)), .int (Bp (g = true)), .ref (a + 1 + 1), .ref (a + 1 + 2), .ref (a + 1 + 3), .ref (a + 1 + 4), .ref (a + 1 + 5), .ref (a + 1 + 6)] : List Value)[k]? = some (.ref x) → gR W' [1] (a + 1) k = some x := fun W' k x hw hk => gR_of (hw.trans hp2.2.2.1) (by decide) hk
  have e3a : W3 a = W2 a := g3 _ (by omega)
  have e4a : W4 a = W2 a := by rw [g4 _ (by omega)]; exact e3a
  have e5a : W5 a = W2 a := by rw [g5 _ (by omega)]; exact e4a
  have ex : J x = J ((x.toNat : Nat) : Int) := by congr 1; omega
  have ey : J y = J ((y.toNat : Nat) : Int) := by congr 1; omega
  have eb : J b = J ((b.toNat : Nat) : Int) := by congr 1; omega
  rw [ex, ey, eb, p3, Option.bind_some, gu _ e3a, Option.bind_some, gr _ 10 (a + 1 + 4) e3 rfl, Option.bind_some, Option.bind_some, gi _ e3, Option.bind_some, p4, Option.bind_some, gu _ e4a, Option.bind_some, gr _ 11 (a + 1 + 5) e4 rfl, Option.bind_some, Option.bind_some, gi _ e4, Option.bind_some, p5, Option.bind_some, gu _ e5a, Option.bind_some, gi _ e5, Option.bind_some, jn_1, J_add, castS, p6, Option.bind_some]
  refine ⟨W6, n, rfl, ?_, Nat.le_refl _⟩
  have hF := fun k => cLe_F (D := D) (f := x.toNat) (a := b.toNat) (t := y.toNat) (by omega) k
  have hA := fun k => cLe_A (D := D) (f := x.toNat) (a := b.toNat) (t := y.toNat) (by omega) k
  have hD := fun k => cLe_D (D := D) (f := x.toNat) (a := b.toNat) (t := y.toNat) (by omega) k
  refine PcX_mk hp2 (fun x hx => ?_) ?_ ?_ ⟨?_, ?_, ?_, ?_, ?_⟩ rfl (fun _ => rfl) (fun _ => rfl) (fun _ _ => rfl) (fun _ _ => rfl)
  · rw [g6 _ (by omega), g5 _ (by omega), g4 _ (by omega), g3 _ (by omega)]
  · rw [g6 _ (by omega), g5 _ (by omega), g4 _ (by omega), g3 _ (by omega)]
  · rw [c6, cLe_N hX]; rfl
  · rw [g6 _ (by omega), g5 _ (by omega), g4 _ (by omega), g3 _ (by omega)]; exact a2
  · rw [g6 _ (by omega), g5 _ (by omega), g4 _ (by omega), g3 _ (by omega)]; exact a3
  · rw [cLe_N hX]
    exact ar_up (by rw [g6 _ (by omega), g5 _ (by omega)]; exact c4) b4 hF
  · rw [cLe_N hX]
    exact ar_up (by rw [g6 _ (by omega)]; exact c5) b5 hA
  · rw [cLe_N hX]
    exact ar_up (by rw [g6 _ (by omega), g5 _ (by omega), g4 _ (by omega)]; exact c3) b6 hD
end
