/-! the component: lines of a city -/
set_option maxRecDepth 100000
/-- the Reader at q, its city so far, its throwers -/
def PcX (ad : Nat → Nat) (T : Tx) (o a : Nat) (V : Wd) (D : Cy) (g : Bool) (th : Nat → Nat) (q : Nat) (W : Wd) (n : Nat) : Prop := RdA ad T o a q W ∧ Hc W (a + 1) th D ∧ W (a + 1) = some (.inr (1, [.int (J (cR D : Int)), .int (J (cX D : Int)), .int (J (cN D : Int)), .int (J (cL D : Int)), .int (J (cG D : Int)), .int (J (cO D : Int)), .int (Bp (g = true)), .ref (a + 1 + 1), .ref (a + 1 + 2), .ref (a + 1 + 3), .ref (a + 1 + 4), .ref (a + 1 + 5), .ref (a + 1 + 6)])) ∧
  (∀ r, r < cR D → a + 8 ≤ th r ∧ th r + 2 < n) ∧ (∀ r r' d e, r < cR D → r' < cR D → r ≠ r' → d ≤ 2 → e ≤ 2 → th r + d ≠ th r' + e) ∧ a + 8 ≤ n ∧ ∀ x, x < a → W x = V x
/-- what a step answers -/
def CxG {α : Type} (P : α → Nat → Wd → Nat → Prop) (V : Wd) (a : Nat) (r : Pr α) (x : Option ((Wd × Nat) ⊕ Tw)) : Prop := match r with
  | .inl (y, q') => ∃ W' n', x = some (.inl (W', n')) ∧ P y q' W' n'
  | .inr (k, p) => ∃ W' b n', x = some (.inr (b, W', n')) ∧ FtA W' b k p ∧ (∀ z, z < a → W' z = V z) ∧ a ≤ b ∧ a ≤ n'
section
variable {N o a n q : Nat} {V W : Wd} {T : Tx} {ad : Nat → Nat} {D : Cy} {g : Bool} {th : Nat → Nat} {α : Type} {P : α → Nat → Wd → Nat → Prop}
theorem bndV {r : Pr Int} {x : Option ((Int32 × Wd × Nat) ⊕ Tw)} {f : Int → Nat → Pr α} {F : Int32 × Wd × Nat → Option ((Wd × Nat) ⊕ Tw)} (h : CxV ad T o a n W r x) (hn : a < n) (hV : ∀ z, z < a → W z = V z) (hk : ∀ y q' W', r = .inl (y, q') → RdA ad T o a q' W' → OnA a n W W' → CxG P V a (f y q') (F (J y, W', n))) : CxG P V a (bnd r f) (x.bind fun x => thr x F) := by
  unfold CxV at h
  cases r with
  | inr e =>
    obtain ⟨k, p⟩ := e
    obtain ⟨W', e1, h1, h2⟩ := h
    exact ⟨W', n, n + 1, by rw [e1]; rfl, h1, fun z hz => (h2 z (by omega) (by omega)).trans (hV z hz), by omega⟩
  | inl y =>
    obtain ⟨y, q'⟩ := y
    obtain ⟨W', e1, h1, h2⟩ := h
    rw [e1]
    exact hk y q' W' rfl h1 h2
theorem bndU {r : Pr Unit} {x : Option ((Wd × Nat) ⊕ Tw)} {f : Unit → Nat → Pr α} {F : Wd × Nat → Option ((Wd × Nat) ⊕ Tw)} (h : CxU ad T o a n W r x) (hn : a < n) (hV : ∀ z, z < a → W z = V z) (hk : ∀ q' W', r = .inl ((), q') → RdA ad T o a q' W' → OnA a n W W' → CxG P V a (f () q') (F (W', n))) : CxG P V a (bnd r f) (x.bind fun x => thr x F) := by
  unfold CxU at h
  cases r with
  | inr e =>
    obtain ⟨k, p⟩ := e
    obtain ⟨W', e1, h1, h2⟩ := h
    exact ⟨W', n, n + 1, by rw [e1]; rfl, h1, fun z hz => (h2 z (by omega) (by omega)).trans (hV z hz), by omega⟩
  | inl y =>
    obtain ⟨y, q'⟩ := y
    obtain ⟨W', e1, h1, h2⟩ := h
    rw [e1]
    exact hk q' W' rfl h1 h2
theorem bndG {β : Type} {Q : β → Nat → Wd → Nat → Prop} {r : Pr α} {x : Option ((Wd × Nat) ⊕ Tw)} {f : α → Nat → Pr β} {F : Wd × Nat → Option ((Wd × Nat) ⊕ Tw)} (h : CxG P V a r x) (hk : ∀ y q' W' n', r = .inl (y, q') → P y q' W' n' → CxG Q V a (f y q') (F (W', n'))) : CxG Q V a (bnd r f) (x.bind fun x => thr x F) := by
  unfold CxG at h
  cases r with
  | inr e =>
    obtain ⟨k, p⟩ := e
    obtain ⟨W', b, n', e1, h1, h2, h3⟩ := h
    exact ⟨W', b, n', by rw [e1]; rfl, h1, h2, h3⟩
  | inl y =>
    obtain ⟨y, q'⟩ := y
    obtain ⟨W', n', e1, h1⟩ := h
    rw [e1]
    exact hk y q' W' n' rfl h1
/-- a read token leaves the city be -/
theorem PcX_on {q' : Nat} {W' : Wd} (h : PcX ad T o a V D g th q W n) (hr : RdA ad T o a q' W') (hw : OnA a n W W') : PcX ad T o a V D g th q' W' n := by
  obtain ⟨h1, h2, h3, h4, h5, h6, h7⟩ := h
  refine ⟨hr, Hc_fr h2 (fun x hx => hw x ?_ ?_), by rw [hw _ (by omega) (by omega)]; exact h3, h4, h5, h6, fun x hx => (hw x (by omega) (by omega)).trans (h7 x hx)⟩
  · rcases hx with ⟨d, hd, e⟩ | ⟨r, d, hr, hd, e⟩
    · omega
    · have := h4 r hr; omega
  · rcases hx with ⟨d, hd, e⟩ | ⟨r, d, hr, hd, e⟩
    · omega
    · have := h4 r hr; omega
theorem PcX_T (h : PcX ad T o a V D g th q W n) (hT : TpX V o T) (ho : o + 8 < a) : TpX W o T := by
  obtain ⟨t1, t2, t3⟩ := hT
  have hw := h.2.2.2.2.2.2
  refine ⟨?_, by rw [hw (o + 8) ho]; exact t2, t3⟩
  unfold gR fld at t1 ⊢
  rw [hw o (by omega)]; exact t1
theorem aNum_ok {lo hi y : Int} {q q' : Nat} (h : aNum T lo hi q = .inl (y, q')) : (lo ≤ y ∧ y ≤ hi) ∧ q' = nx T q ∧ kd T q = 2 := by
  unfold aNum at h
  by_cases h1 : kd T q = 2
  · rw [if_pos h1] at h
    by_cases h2 : lo ≤ vl T q ∧ vl T q ≤ hi
    · rw [if_pos h2] at h
      injection h with h
      injection h with e1 e2
      exact ⟨e1 ▸ h2, e2.symm, h1⟩
    · rw [if_neg h2] at h; cases h
  · rw [if_neg h1] at h; cases h
theorem aOther_ok {R : Nat} {r y : Int} {q q' : Nat} (h : aOther T R r q = .inl (y, q')) : (0 ≤ y ∧ y ≤ (R : Int) - 1) ∧ q' = nx T q ∧ y ≠ r := by
  unfold aOther at h
  by_cases h1 : kd T q = 2 ∧ vl T q = r
  · rw [if_pos h1] at h; cases h
  · rw [if_neg h1] at h
    have hh := aNum_ok h
    refine ⟨hh.1, hh.2.1, fun e => h1 ⟨hh.2.2, ?_⟩⟩
    unfold aNum at h
    rw [if_pos hh.2.2] at h
    by_cases h2 : 0 ≤ vl T q ∧ vl T q ≤ (R : Int) - 1
    · rw [if_pos h2] at h
      injection h with h
      injection h with e1 e2
      rw [e1, e]
    · rw [if_neg h2] at h; cases h
theorem aTold_ok {i : Nat} {lo hi y : Int} {q q' : Nat} (h : aTold T i lo hi q = .inl (y, q')) : lo ≤ y ∧ y ≤ hi := by
  unfold aTold aNeeds at h
  by_cases h1 : isW T i q = true
  · rw [if_pos h1] at h
    exact (aNum_ok h).1
  · rw [if_neg h1] at h; cases h
theorem gu_1 (h : PcX ad T o a V D g th q W n) : gR W [6] a 1 = some (a + 1) := by
  obtain ⟨_, v, hh, _⟩ := h.1
  exact gR_of hh (by decide) rfl
/-- the city's cell with another number -/
theorem Cy_put {k : Nat} (x : Int32) (h : PcX ad T o a V D g th q W n) (hk : k ≤ 6) : ∃ W', pF W [1] (a + 1) k (.int x) = some W' ∧ W' (a + 1) = some (.inr (1, ([.int (J (cR D : Int)), .int (J (cX D : Int)), .int (J (cN D : Int)), .int (J (cL D : Int)), .int (J (cG D : Int)), .int (J (cO D : Int)), .int (Bp (g = true)), .ref (a + 1 + 1), .ref (a + 1 + 2), .ref (a + 1 + 3), .ref (a + 1 + 4), .ref (a + 1 + 5), .ref (a + 1 + 6)] : List Value).set k (.int x))) ∧ ∀ z, z ≠ a + 1 → W' z = W z := by
  exact st_put (.int x) h.2.2.1 (by decide) (show k < 13 by omega)
theorem X6_gusts (had : ∀ i j, i < 5 → j < 5 → ad i = ad j → i = j) (hT : TpX V o T) (ho : o + 8 < a) (hN : 1000000 ≤ N) (h : PcX ad T o a V D g th q W n) : CxG (fun D' q' W' n' => PcX ad T o a V D' true th q' W' n' ∧ n ≤ n') V a (aGusts T D q) (fX6_gusts ad N W n a) := by
  have h8 := h.2.2.2.2.2.1
  have han : a < n := by omega
  have ha : a ≠ o ∧ a ≠ o + 8 := by omega
  obtain ⟨W1, p1, c1, f1⟩ := Cy_put (k := 6) (J 1) h (by omega)
  unfold fX6_gusts aGusts
  rw [gu_1 h, Option.bind_some, jn_1, p1, Option.bind_some]
  have hH1 : ∀ W', (∀ z, z ≠ a + 1 → W' z = W z) → W' (a + 1) = W1 (a + 1) → PcX ad T o a V D true th q W' n := by
    intro W' hw hc
    obtain ⟨h1, h2, h3, h4, h5, h6, h7⟩ := h
    refine ⟨⟨h1.1, ?_⟩, ?_, by rw [hc, c1]; rfl, h4, h5, h6, fun x hx => (hw x (by omega)).trans (h7 x hx)⟩
    · obtain ⟨v, e1, e2⟩ := h1.2
      exact ⟨v, by rw [hw _ (by omega)]; exact e1, e2⟩
    · obtain ⟨_, a1, a2, a3, a4, a5, a6, a7⟩ := h2
      refine ⟨⟨Bp (true = true), by rw [hc, c1]; rfl⟩, ?_, ?_, ?_, ?_, ?_, ?_, fun r hr => ?_⟩
      · rw [hw _ (by omega)]; exact a1
      · rw [hw _ (by omega)]; exact a2
      · rw [hw _ (by omega)]; exact a3
      · rw [hw _ (by omega)]; exact a4
      · rw [hw _ (by omega)]; exact a5
      · rw [hw _ (by omega)]; exact a6
      · have hth := h4 r hr
        rw [hw _ (by omega), hw _ (by omega), hw _ (by omega)]
        exact a7 r hr
  have hp1 := hH1 W1 f1 rfl
  rw [gu_1 hp1, Option.bind_some]
  refine bndV (X6_told (N := N) had (PcX_T hp1 hT ho) ha (by omega) hN hp1.1 han (i := 8) (by decide) (lo := 1) (hi' := 9) (by omega)) han hp1.2.2.2.2.2.2 (fun y q1 W2 hy hr2 ho2 => ?_)
  have hp2 := PcX_on hp1 hr2 ho2
  have hy1 := aTold_ok hy
  obtain ⟨W3, p3, c3, f3⟩ := Cy_put (k := 4) (J y) hp2 (by omega)
  simp only
  rw [p3, Option.bind_some]
  have hrd3 : RdA ad T o a q1 W3 := ⟨hr2.1, by obtain ⟨v, e1, e2⟩ := hr2.2; exact ⟨v, by rw [f3 _ (by omega)]; exact e1, e2⟩⟩
  have hT3 : TpX W3 o T := by
    have t := PcX_T hp2 hT ho
    refine ⟨?_, by rw [f3 _ (by omega)]; exact t.2.1, t.2.2⟩
    have t1 := t.1
    unfold gR fld at t1 ⊢
    rw [f3 _ (by omega)]; exact t1
  have g3 : gR W3 [6] a 1 = some (a + 1) := by
    obtain ⟨_, v, hh, _⟩ := hrd3
    exact gR_of hh (by decide) rfl
  rw [g3, Option.bind_some]
  refine bndV (X6_told (N := N) had hT3 ha (by omega) hN hrd3 han (i := 9) (by decide) (lo := 0) (hi' := 100) (by omega)) han (fun z hz => (f3 z (by omega)).trans (hp2.2.2.2.2.2.2 z hz)) (fun z q2 W4 hz hr4 ho4 => ?_)
  have hz1 := aTold_ok hz
  have c4 : W4 (a + 1) = W3 (a + 1) := ho4 _ (by omega) (by omega)
  obtain ⟨W5, p5, c5, f5⟩ := st_put (k := 5) (.int (J z)) (c4.trans c3) (cs := [1]) (by decide) (show 5 < 13 by decide)
  simp only
  rw [p5, Option.bind_some]
  refine ⟨W5, n, rfl, ?_, Nat.le_refl _⟩
  have hw : ∀ x, x ≠ a → x ≠ a + 1 → x < n → W5 x = W x := fun x h1 h2 h3 => by rw [f5 x h2, ho4 x h1 h3, f3 x h2, ho2 x h1 h3, f1 x h2]
  obtain ⟨h1, h2, h3, h4, h5, h6, h7⟩ := h
  have eG : cG (cGu D y.toNat z.toNat) = y.toNat := cGu_G (by omega)
  have eO : cO (cGu D y.toNat z.toNat) = z.toNat := cGu_O (by omega)
  have ecell : W5 (a + 1) = some (.inr (1, [.int (J (cR (cGu D y.toNat z.toNat) : Int)), .int (J (cX (cGu D y.toNat z.toNat) : Int)), .int (J (cN (cGu D y.toNat z.toNat) : Int)), .int (J (cL (cGu D y.toNat z.toNat) : Int)), .int (J (cG (cGu D y.toNat z.toNat) : Int)), .int (J (cO (cGu D y.toNat z.toNat) : Int)), .int (Bp (true = true)), .ref (a + 1 + 1), .ref (a + 1 + 2), .ref (a + 1 + 3), .ref (a + 1 + 4), .ref (a + 1 + 5), .ref (a + 1 + 6)])) := by
    rw [c5, eG, eO, show ((y.toNat : Nat) : Int) = y by omega, show ((z.toNat : Nat) : Int) = z by omega]; rfl
  refine ⟨⟨hr4.1, ?_⟩, ?_, ecell, h4, h5, h6, fun x hx => (hw x (by omega) (by omega) (by omega)).trans (h7 x hx)⟩
  · obtain ⟨v, e1, e2⟩ := hr4.2
    exact ⟨v, by rw [f5 _ (by omega)]; exact e1, e2⟩
  · obtain ⟨_, a1, a2, a3, a4, a5, a6, a7⟩ := h2
    refine ⟨⟨_, ecell⟩, ?_, ?_, ?_, ?_, ?_, ?_, fun r hr => ?_⟩
    · rw [hw _ (by omega) (by omega) (by omega)]; exact a1
    · rw [hw _ (by omega) (by omega) (by omega)]; exact a2
    · rw [hw _ (by omega) (by omega) (by omega)]; exact a3
    · rw [hw _ (by omega) (by omega) (by omega)]; exact a4
    · rw [hw _ (by omega) (by omega) (by omega)]; exact a5
    · rw [hw _ (by omega) (by omega) (by omega)]; exact a6
    · have hth := h4 r hr
      rw [hw _ (by omega) (by omega) (by omega), hw _ (by omega) (by omega) (by omega), hw _ (by omega) (by omega) (by omega)]
      exact a7 r hr
end
