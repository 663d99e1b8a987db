/-! the reference: the city that was read -/
set_option maxRecDepth 100000
def FrY (S S' : MS) : Prop := (∀ a, a = 1 ∨ a = 2 ∨ a = 5 ∨ a = 16 → ma S' a = ma S a) ∧ (∀ a i, 6 ≤ a → a ≤ 15 → bdS.getD a 0 ≤ i → i < 4 * bdS.getD a 0 → ma S' a i = ma S a i) ∧ mb S' 3 = mb S 3
theorem FrD_Y {S S' : MS} (h : FrD S S') : FrY S S' := ⟨fun a ha => h.1 a (by omega), fun a i h1 h2 _ h3 => h.2.1 a i h1 h2 h3, h.2.2.1 3⟩
theorem FrC_Y {S S' : MS} (h : FrC S S') : FrY S S' := ⟨h.1, h.2.1, h.2.2.1⟩
theorem FrY_t {S T U : MS} (h : FrY S T) (h' : FrY T U) : FrY S U := ⟨fun a ha => (h'.1 a ha).trans (h.1 a ha), fun a i h1 h2 h3 h4 => (h'.2.1 a i h1 h2 h3 h4).trans (h.2.1 a i h1 h2 h3 h4), h'.2.2.trans h.2.2⟩
theorem FrY_I (S : MS) (k : Nat) (x : Int32) : FrY S (mSI S k x) := ⟨fun _ _ => rfl, fun _ _ _ _ _ _ => rfl, rfl⟩
theorem FrY_r (S : MS) : FrY S S := ⟨fun _ _ => rfl, fun _ _ _ _ _ _ => rfl, rfl⟩
theorem GdM_D {S S' : MS} {n : Nat} {C : Cy} (hn : n ≤ 3) (h : FrD S S') (hG : GdM S n C) : GdM S' n C := by
  have hR := cR_le C
  have hX : cX C ≤ 6 := by unfold cX; omega
  have hN : cN C ≤ 8 := by unfold cN; omega
  have f : ∀ a i, 6 ≤ a → a ≤ 15 → i < 4 * bdS.getD a 0 → ma S' a i = ma S a i := h.2.1
  obtain ⟨h1, h2, h3, h4, h5, h6, h7, h8⟩ := hG
  refine ⟨(f 6 n (by decide) (by decide) (by show n < 4; omega)).trans h1, (f 7 n (by decide) (by decide) (by show n < 4; omega)).trans h2, fun r hr => ?_, (f 12 (2 * n) (by decide) (by decide) (by show 2 * n < 8; omega)).trans h4, (f 12 (2 * n + 1) (by decide) (by decide) (by show 2 * n + 1 < 8; omega)).trans h5, fun k hk => ?_, fun k hk => ?_, fun h0 => ?_⟩
  · obtain ⟨b1, b2, b3⟩ := h3 r hr
    have hP := cP_bd C r
    refine ⟨(f 8 _ (by decide) (by decide) (by show 6 * n + r < 24; omega)).trans b1, (f 9 _ (by decide) (by decide) (by show 6 * n + r < 24; omega)).trans b2, fun i hi => ?_⟩
    exact ⟨(f 10 _ (by decide) (by decide) (by show 8 * (6 * n + r) + i < 192; omega)).trans (b3 i hi).1, (f 11 _ (by decide) (by decide) (by show 8 * (6 * n + r) + i < 192; omega)).trans (b3 i hi).2⟩
  · obtain ⟨b1, b2⟩ := h6 k hk
    exact ⟨(f 13 _ (by decide) (by decide) (by show 2 * (6 * n + k) < 48; omega)).trans b1, (f 13 _ (by decide) (by decide) (by show 2 * (6 * n + k) + 1 < 48; omega)).trans b2⟩
  · obtain ⟨b1, b2, b3⟩ := h7 k hk
    exact ⟨(f 14 _ (by decide) (by decide) (by show 3 * (8 * n + k) < 96; omega)).trans b1, (f 14 _ (by decide) (by decide) (by show 3 * (8 * n + k) + 1 < 96; omega)).trans b2, (f 14 _ (by decide) (by decide) (by show 3 * (8 * n + k) + 2 < 96; omega)).trans b3⟩
  · obtain ⟨b1, b2⟩ := h8 h0
    exact ⟨(f 15 _ (by decide) (by decide) (by show 2 * n < 8; omega)).trans b1, (f 15 _ (by decide) (by decide) (by show 2 * n + 1 < 8; omega)).trans b2⟩
/-- what end answers, in the reference -/
def CtyM (o : Nat) (w : Wd) (S : MS) (r : Pr (Cy × Bool)) (x : Option (Int32 × Wd)) : Prop := match r with
  | .inl ((D, _), _) => ∃ S', x = some (J (cL D : Int), emM o S' w) ∧ GdM S' 0 D ∧ mi S' 6 = J 0 ∧ mi S' 14 = J 0 ∧ mi S' 15 = J (-1) ∧ FrY S S'
  | .inr (k, p) => ∃ S', x = some (J (-4), emM o S' w) ∧ (∀ C, GdM S 0 C → GdM S' 0 C) ∧ mi S' 6 = J 0 ∧ mi S' 14 = J (k : Int) ∧ mi S' 15 = J (p : Int) ∧ FrY S S'
section
variable {N o q : Nat} {S S0 : MS} {w : Wd} {T : Tx} {D : Cy} {g b : Bool}
theorem M_city (hN : 1000000 ≤ N) (hT : TpM S T) : CtyM o w S (aRead T 268 D0 false (sk T 0)) (fX5_city N (emM o S w) o) := by
  have hn := hT.2.1
  have f0 : FrD S (mSI S 0 (J 0)) := ⟨fun _ _ => rfl, fun _ _ _ _ _ => rfl, fun _ => rfl, rfl, rfl, rfl⟩
  obtain ⟨S1, e1, r1, f1⟩ := M_clears (N := N) (o := o) (w := w) (S := mSI S 0 (J 0)) hN
  have F1 := FrD_t f0 f1
  obtain ⟨S2, e2, g2, f2⟩ := M_begins (N := N) (o := o) (w := w) (TpM_D hT F1) hN
  have F2 := FrD_t F1 (FrN_D f2)
  have key := M_city_13 (N := N) (o := o) (w := w) (S0 := S) (T := T) hN hn (fun w18 => fX5_city_87 N w18 o) 268 N D0 false (sk T 0) S2 (LI_0.2 (sk_le hn (Nat.zero_le _)).2) (TpM_D hT F2) g2 (RdM_N r1 f2) F2 (by omega) (by omega)
  unfold fX5_city
  rw [show (0 : Int32) = J 0 from rfl, mp_0, Option.bind_some, e1, Option.bind_some, e2, Option.bind_some]
  unfold RcM at key
  unfold CtyM
  cases hr : aRead T 268 D0 false (sk T 0) with
  | inl e =>
    obtain ⟨⟨D, b⟩, q'⟩ := e
    rw [hr] at key
    obtain ⟨S3, e3, g3, r3, f3⟩ := key
    refine ⟨mCC (mSI (mSI (mSI S3 6 (J 0)) 14 (J 0)) 15 (J (-1))) 4 0, ?_, mCC_t (RdM_Gd r3 : GdM (mSI (mSI (mSI S3 6 (J 0)) 14 (J 0)) 15 (J (-1))) 4 D), rfl, rfl, rfl, FrY_t (FrD_Y f3) (FrY_t (FrY_t (FrY_t (FrY_I _ _ _) (FrY_I _ _ _)) (FrY_I _ _ _)) (FrC_Y (mCC_C0 _ 4)))⟩
    refine Eq.trans e3 ?_
    show fX5_city_87 N (emM o S3 w) o = _
    have hG := mCC_t (t := 0) (RdM_Gd r3 : GdM (mSI (mSI (mSI S3 6 (J 0)) 14 (J 0)) 15 (J (-1))) 4 D)
    unfold fX5_city_87 fX5_isOver
    rw [show (0 : Int32) = J 0 from rfl, show (-1 : Int32) = J (-1) from rfl, mp_6, Option.bind_some, mg_12, Option.bind_some, show mi (mSI S3 6 (J 0)) 12 = J 0 from g3.1, mp_14, Option.bind_some, mg_12, Option.bind_some, if_pos (show mi (mSI (mSI S3 6 (J 0)) 14 (J 0)) 12 = J 0 from g3.1), mp_15, Option.bind_some, Option.bind_some, mg_12, Option.bind_some, if_pos (show mi (mSI (mSI (mSI S3 6 (J 0)) 14 (J 0)) 15 (J (-1))) 12 = J 0 from g3.1)]
    have ec := M_copyCity (N := N) (o := o) (S := mSI (mSI (mSI S3 6 (J 0)) 14 (J 0)) 15 (J (-1))) (w := w) (f := 4) (t := 0) hN (by omega) (by omega) (by omega)
    refine Eq.trans (congrArg (fun z => Option.bind z _) ec) ?_
    rw [Option.bind_some, mg_16, Option.bind_some, mr_6 o _ w (by omega), Option.bind_some, show (0 : Int).toNat = 0 from rfl, hG.1]
  | inr e =>
    obtain ⟨k, p⟩ := e
    rw [hr] at key
    obtain ⟨S3, e3, b3, f3⟩ := key
    refine ⟨mSI (mSI (mSI S3 6 (J 0)) 14 (J (k : Int))) 15 (J (p : Int)), ?_, fun C hC => (GdM_D (by decide) f3 hC : GdM S3 0 C), rfl, rfl, rfl, FrY_t (FrD_Y f3) (FrY_t (FrY_t (FrY_I _ _ _) (FrY_I _ _ _)) (FrY_I _ _ _))⟩
    refine Eq.trans e3 ?_
    show fX5_city_87 N (emM o S3 w) o = _
    have hne := Bd_ne b3
    unfold fX5_city_87 fX5_isOver
    rw [show (0 : Int32) = J 0 from rfl] at hne
    rw [show (0 : Int32) = J 0 from rfl, show (-1 : Int32) = J (-1) from rfl, mp_6, Option.bind_some, mg_12, Option.bind_some, show mi (mSI S3 6 (J 0)) 12 = J (k : Int) from b3.1, mp_14, Option.bind_some, mg_12, Option.bind_some, if_neg (show ¬ mi (mSI (mSI S3 6 (J 0)) 14 (J (k : Int))) 12 = J 0 from hne), mg_13, Option.bind_some, show mi (mSI (mSI S3 6 (J 0)) 14 (J (k : Int))) 13 = J (p : Int) from b3.2.1, mp_15, Option.bind_some, Option.bind_some, mg_12, Option.bind_some, if_neg (show ¬ mi (mSI (mSI (mSI S3 6 (J 0)) 14 (J (k : Int))) 15 (J (p : Int))) 12 = J 0 from hne)]; rfl
end
