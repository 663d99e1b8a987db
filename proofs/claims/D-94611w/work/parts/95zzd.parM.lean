/-! the reference: the city that is being read -/
set_option maxRecDepth 100000
/-- what reading a city keeps -/
def FrD (S S' : MS) : Prop := (∀ a, a ≤ 5 ∨ 16 ≤ a → ma S' a = ma S a) ∧ (∀ a i, 6 ≤ a → a ≤ 15 → i < 4 * bdS.getD a 0 → ma S' a i = ma S a i) ∧ (∀ a, mb S' a = mb S a) ∧ mi S' 6 = mi S 6 ∧ mi S' 14 = mi S 14 ∧ mi S' 15 = mi S 15
theorem FrD_r (S : MS) : FrD S S := ⟨fun _ _ => rfl, fun _ _ _ _ _ => rfl, fun _ => rfl, rfl, rfl, rfl⟩
theorem FrD_t {S T U : MS} (h : FrD S T) (h' : FrD T U) : FrD S U := ⟨fun a ha => (h'.1 a ha).trans (h.1 a ha), fun a i h1 h2 h3 => (h'.2.1 a i h1 h2 h3).trans (h.2.1 a i h1 h2 h3), fun a => (h'.2.2.1 a).trans (h.2.2.1 a), h'.2.2.2.1.trans h.2.2.2.1, h'.2.2.2.2.1.trans h.2.2.2.2.1, h'.2.2.2.2.2.trans h.2.2.2.2.2⟩
theorem FrN_D {S S' : MS} (h : FrN S S') : FrD S S' := ⟨fun a _ => h.1 a, fun a i _ _ _ => by rw [h.1 a], h.2.1, h.2.2 6 (by decide) (by decide) (by decide) (by decide) (by decide) (by decide), h.2.2 14 (by decide) (by decide) (by decide) (by decide) (by decide) (by decide), h.2.2 15 (by decide) (by decide) (by decide) (by decide) (by decide) (by decide)⟩
theorem FrD_A (S : MS) (a i : Nat) (x : Int32) (ha : 6 ≤ a ∧ a ≤ 15) (hi : 4 * bdS.getD a 0 ≤ i) : FrD S (mSA S a i x) := by
  refine ⟨fun b hb => by rw [ma_A, if_neg (by omega)], fun b j h1 h2 h3 => ?_, fun _ => rfl, rfl, rfl, rfl⟩
  rw [ma_A]
  by_cases e : b = a
  · rw [if_pos e, e, upd_o _ _ (by subst e; omega)]
  · rw [if_neg e]
theorem FrD_26 (S : MS) (x : Int32) : FrD S (mSI S 26 x) := ⟨fun _ _ => rfl, fun _ _ _ _ _ => rfl, fun _ => rfl, rfl, rfl, rfl⟩
theorem TpM_D {S S' : MS} {T : Tx} (h : TpM S T) (hf : FrD S S') : TpM S' T := ⟨by rw [hf.2.2.2.1]; exact h.1, h.2.1, fun i hi => by rw [hf.1 5 (by omega)]; exact h.2.2 i hi⟩
theorem Gd_A {S : MS} {T : Tx} {q : Nat} (h : Gd S T q) (a i : Nat) (x : Int32) : Gd (mSA S a i x) T q := h
theorem Bd_A {S : MS} {k p : Nat} (h : Bd S k p) (a i : Nat) (x : Int32) : Bd (mSA S a i x) k p := h
theorem Gd_26 {S : MS} {T : Tx} {q : Nat} (h : Gd S T q) (x : Int32) : Gd (mSI S 26 x) T q := h
def RdM (S : MS) (D : Cy) (g : Bool) : Prop := ma S 6 4 = J (cL D) ∧ ma S 7 4 = J (cR D) ∧
  (∀ r, r < 6 → ma S 8 (24 + r) = J (cK D r) ∧ ma S 9 (24 + r) = J (cP D r) ∧ ∀ i, i < cP D r → ma S 10 (8 * (24 + r) + i) = J (cH D r i) ∧ ma S 11 (8 * (24 + r) + i) = J (cT D r i)) ∧
  ma S 12 8 = J (cX D) ∧ ma S 12 9 = J (cN D) ∧
  (∀ k, k < cX D → ma S 13 (2 * (24 + k)) = J (cLo D k) ∧ ma S 13 (2 * (24 + k) + 1) = J (cHi D k)) ∧
  (∀ k, k < cN D → ma S 14 (3 * (32 + k)) = J (cF D k) ∧ ma S 14 (3 * (32 + k) + 1) = J (cA D k) ∧ ma S 14 (3 * (32 + k) + 2) = J (cD D k)) ∧
  ma S 15 8 = J (cG D) ∧ ma S 15 9 = J (cO D) ∧ mi S 26 = Bp (g = true)
theorem RdM_N {S S' : MS} {D : Cy} {g : Bool} (h : RdM S D g) (hf : FrN S S') : RdM S' D g := by
  unfold RdM at h ⊢
  rw [hf.1 6, hf.1 7, hf.1 8, hf.1 9, hf.1 10, hf.1 11, hf.1 12, hf.1 13, hf.1 14, hf.1 15, hf.2.2 26 (by decide) (by decide) (by decide) (by decide) (by decide) (by decide)]
  exact h
theorem RdM_eq {S S' : MS} {D : Cy} {g : Bool} (h : RdM S D g) (hf : ∀ a i, ma S' a i = ma S a i) (h26 : mi S' 26 = mi S 26) : RdM S' D g := by
  have hf' : ∀ a, ma S' a = ma S a := fun a => funext (hf a)
  unfold RdM at h ⊢
  rw [hf' 6, hf' 7, hf' 8, hf' 9, hf' 10, hf' 11, hf' 12, hf' 13, hf' 14, hf' 15, h26]
  exact h
theorem RdM_Gd {S : MS} {D : Cy} {g : Bool} (h : RdM S D g) : GdM S 4 D := by
  have hR := cR_le D
  obtain ⟨h1, h2, h3, h4, h5, h6, h7, h8, h9, _⟩ := h
  exact ⟨h1, h2, fun r hr => h3 r (by omega), h4, h5, h6, h7, fun _ => ⟨h8, h9⟩⟩
/-- what a line answers, in the reference -/
def CmC (T : Tx) (o : Nat) (w : Wd) (S0 : MS) (b : Bool) (r : Pr Cy) (x : Option Wd) : Prop := match r with
  | .inl (D, q') => ∃ S', x = some (emM o S' w) ∧ Gd S' T q' ∧ RdM S' D b ∧ FrD S0 S'
  | .inr (k, p) => ∃ S', x = some (emM o S' w) ∧ Bd S' k p ∧ FrD S0 S'
def CmG (T : Tx) (o : Nat) (w : Wd) (S0 : MS) (r : Pr (Cy × Bool)) (x : Option Wd) : Prop := match r with
  | .inl ((D, b), q') => ∃ S', x = some (emM o S' w) ∧ Gd S' T q' ∧ RdM S' D b ∧ FrD S0 S'
  | .inr (k, p) => ∃ S', x = some (emM o S' w) ∧ Bd S' k p ∧ FrD S0 S'
section
variable {N o q : Nat} {S S0 : MS} {w : Wd} {T : Tx} {D : Cy} {g b : Bool}
theorem CmC_wi {r : Pr Cy} {x : Option Wd} (h : CmC T o w S0 b r x) : CmG T o w S0 (wiG r b) x := by
  cases r with
  | inl y => exact h
  | inr e => exact h
theorem mbV {r : Pr Int} {x : Option (Int32 × Wd)} {f : Int → Nat → Pr Cy} {F : Int32 × Wd → Option Wd} (h : CmV T o w S r x) (hk : ∀ y q' S', r = .inl (y, q') → Gd S' T q' → FrN S S' → CmC T o w S0 b (f y q') (F (J y, emM o S' w))) (hb : ∀ k p S' y, Bd S' k p → FrN S S' → ∃ S'', F (y, emM o S' w) = some (emM o S'' w) ∧ Bd S'' k p ∧ FrD S0 S'') : CmC T o w S0 b (bnd r f) (x.bind F) := by
  unfold CmV at h
  cases r with
  | inl y =>
    obtain ⟨y, q'⟩ := y
    obtain ⟨S', e1, h1, h2⟩ := h
    rw [e1]
    exact hk y q' S' rfl h1 h2
  | inr e =>
    obtain ⟨k, p⟩ := e
    obtain ⟨S', y, e1, h1, h2⟩ := h
    rw [e1]
    exact hb k p S' y h1 h2
theorem mbU {r : Pr Unit} {x : Option Wd} {f : Unit → Nat → Pr Cy} {F : Wd → Option Wd} (h : CmU T o w S r x) (hk : ∀ q' S', r = .inl ((), q') → Gd S' T q' → FrN S S' → CmC T o w S0 b (f () q') (F (emM o S' w))) (hb : ∀ k p S', Bd S' k p → FrN S S' → ∃ S'', F (emM o S' w) = some (emM o S'' w) ∧ Bd S'' k p ∧ FrD S0 S'') : CmC T o w S0 b (bnd r f) (x.bind F) := by
  unfold CmU at h
  cases r with
  | inl y =>
    obtain ⟨y, q'⟩ := y
    obtain ⟨S', e1, h1, h2⟩ := h
    rw [e1]
    exact hk q' S' rfl h1 h2
  | inr e =>
    obtain ⟨k, p⟩ := e
    obtain ⟨S', e1, h1, h2⟩ := h
    rw [e1]
    exact hb k p S' h1 h2
theorem Bd_ne {k p : Nat} (h : Bd S k p) : ¬ mi S 12 = (0 : Int32) := by
  rw [h.1, show (0 : Int32) = J 0 from rfl, J_eq (by have := h.2.2; omega)]
  have := h.2.2
  omega
theorem M_line22 (hT : TpM S T) (hN : 1000000 ≤ N) (h : Gd S T q) (hr : RdM S D g) : CmG T o w S (wiG (aGusts T D (nx T q)) true) (fX5_line_22 N (emM o S w) o) := by
  refine CmC_wi ?_
  unfold fX5_line_22 aGusts
  obtain ⟨S1, e1, h1, f1⟩ := M_nextG (N := N) (o := o) (w := w) hT hN h
  have f1 := FrL_N f1
  rw [mg_12, Option.bind_some, h.1, if_pos (show J 0 = (0 : Int32) from rfl), e1, Option.bind_some, mp_26, Option.bind_some, mg_25, Option.bind_some, show (1 : Int32) = J 1 from rfl, show (9 : Int32) = J 9 from rfl, show (131638 : Int64) = JL (wK 8) from rfl, show (298288 : Int64) = JL (wK 9) from rfl, show (0 : Int32) = J 0 from rfl, show (100 : Int32) = J 100 from rfl, show (8 : Int32) = J 8 from rfl]
  have F1 : FrD S (mSI S1 26 (J 1)) := FrD_t (FrN_D f1) (FrD_26 _ _)
  refine mbV (M_toldG (N := N) (o := o) (w := w) (S := mSI S1 26 (J 1)) (TpM_D hT F1) hN (Gd_26 h1 _) (i := 8) (by decide) (lo := 1) (hi' := 9) (by omega)) (fun y q2 S2 hy h2 f2 => ?_) (fun k p S2 y h2 f2 => ?_)
  · have hy1 := aTold_ok hy
    simp only
    rw [mw_15 o S2 w (J y) (by omega), Option.bind_some, mg_25, Option.bind_some]
    have F3 : FrD S (mSA S2 15 8 (J y)) := FrD_t F1 (FrD_t (FrN_D f2) (FrD_A _ _ _ _ (by decide) (by decide)))
    refine mbV (M_toldG (N := N) (o := o) (w := w) (S := mSA S2 15 8 (J y)) (TpM_D hT F3) hN (Gd_A h2 _ _ _) (i := 9) (by decide) (lo := 0) (hi' := 100) (by omega)) (fun z q4 S4 hz h4 f4 => ?_) (fun k p S4 z h4 f4 => ?_)
    · have hz1 := aTold_ok hz
      simp only
      rw [mw_15 o S4 w (J z) (by omega), Option.bind_some]
      refine ⟨_, rfl, Gd_A h4 _ _ _, ?_, FrD_t F3 (FrD_t (FrN_D f4) (FrD_A _ _ _ _ (by decide) (by decide)))⟩
      have r2 := RdM_N hr f1
      have eG : cG (cGu D y.toNat z.toNat) = y.toNat := cGu_G (by omega)
      have eO : cO (cGu D y.toNat z.toNat) = z.toNat := cGu_O (by omega)
      have r4 : RdM (mSA (mSA (mSI S1 26 (J 1)) 15 8 (J y)) 15 9 (J z)) (cGu D y.toNat z.toNat) true := by
        obtain ⟨a1, a2, a3, a4, a5, a6, a7, a8, a9, a10⟩ := r2
        refine ⟨a1, a2, a3, a4, a5, a6, a7, ?_, ?_, rfl⟩
        · rw [eG, show ((y.toNat : Nat) : Int) = y by omega]; rfl
        · rw [eO, show ((z.toNat : Nat) : Int) = z by omega]; rfl
      have f5 : ∀ a i, ma (mSA S4 15 9 (J z)) a i = ma (mSA (mSA (mSI S1 26 (J 1)) 15 8 (J y)) 15 9 (J z)) a i := by
        intro a i
        rw [ma_A, ma_A, f4.1, ma_A, f4.1, ma_A, ma_A, ma_A, f2.1, f2.1]
      have f6 : mi (mSA S4 15 9 (J z)) 26 = J 1 := by
        rw [mi_A, f4.2.2 26 (by decide) (by decide) (by decide) (by decide) (by decide) (by decide), mi_A, f2.2.2 26 (by decide) (by decide) (by decide) (by decide) (by decide) (by decide)]; rfl
      exact RdM_eq r4 f5 f6
    · simp only
      rw [mw_15 o S4 w z (by omega), Option.bind_some]
      exact ⟨_, rfl, Bd_A h4 _ _ _, FrD_t F3 (FrD_t (FrN_D f4) (FrD_A _ _ _ _ (by decide) (by decide)))⟩
  · simp only
    rw [mw_15 o S2 w y (by omega), Option.bind_some, mg_25, Option.bind_some, M_toldB (Bd_A h2 _ _ _), Option.bind_some]
    simp only
    rw [mw_15 o (mSA S2 15 _ y) w _ (by omega), Option.bind_some]
    exact ⟨_, rfl, Bd_A (Bd_A h2 _ _ _) _ _ _, FrD_t (FrD_t F1 (FrD_t (FrN_D f2) (FrD_A _ _ _ _ (by decide) (by decide)))) (FrD_A _ _ _ _ (by decide) (by decide))⟩
end
