/-! the reference: words, numbers -/
set_option maxRecDepth 100000
/-- what reading keeps -/
def FrN (S S' : MS) : Prop := (∀ a, ma S' a = ma S a) ∧ (∀ a, mb S' a = mb S a) ∧ ∀ k, k ≠ 7 → k ≠ 8 → k ≠ 9 → k ≠ 10 → k ≠ 12 → k ≠ 13 → mi S' k = mi S k
theorem FrN_r (S : MS) : FrN S S := ⟨fun _ => rfl, fun _ => rfl, fun _ _ _ _ _ _ _ => rfl⟩
theorem FrN_t {S T U : MS} (h : FrN S T) (h' : FrN T U) : FrN S U := ⟨fun a => (h'.1 a).trans (h.1 a), fun a => (h'.2.1 a).trans (h.2.1 a), fun k h1 h2 h3 h4 h5 h6 => (h'.2.2 k h1 h2 h3 h4 h5 h6).trans (h.2.2 k h1 h2 h3 h4 h5 h6)⟩
theorem FrL_N {S S' : MS} (h : FrL S S') : FrN S S' := ⟨h.1, h.2.1, fun k h1 h2 h3 h4 _ _ => h.2.2 k h1 h2 h3 h4⟩
theorem TpM_N {S S' : MS} {T : Tx} (h : TpM S T) (hf : FrN S S') : TpM S' T := ⟨by rw [hf.2.2 6 (by decide) (by decide) (by decide) (by decide) (by decide) (by decide)]; exact h.1, h.2.1, fun i hi => by rw [hf.1]; exact h.2.2 i hi⟩
/-- all is well so far, the token begins at q -/
def Gd (S : MS) (T : Tx) (q : Nat) : Prop := mi S 12 = J 0 ∧ LxM S T q
/-- something was wrong -/
def Bd (S : MS) (k p : Nat) : Prop := mi S 12 = J (k : Int) ∧ mi S 13 = J (p : Int) ∧ 1 ≤ k ∧ k ≤ 3
section
variable {N o q : Nat} {S : MS} {w : Wd} {T : Tx}
theorem M_isG (hn : T.2 ≤ 1600) (h : Gd S T q) {i : Nat} (hi : i < 15) : fX5_is N (emM o S w) o (JL (wK i)) = some (Bp (isW T i q = true)) := by
  obtain ⟨h12, hq, l7, l9, l8, l10, l11⟩ := h
  have hk4 := kd_le T q
  unfold fX5_is
  rw [mg_12, Option.bind_some, h12, if_pos (show J 0 = (0 : Int32) from rfl), mg_8, Option.bind_some, l8]
  by_cases hk : kd T q = 1
  case neg => rw [if_neg (show ¬ J (kd T q : Int) = (1 : Int32) by rw [jn_1, J_eq (by omega)]; omega), Bp_f (fun hh => hk (isW_t.1 hh).1.1)]; rfl
  have hwc := wc_bd hn q
  have hK := wK_pos ⟨i, hi⟩
  have hiff := isW_wc hn hi hk
  rw [if_pos (show J (kd T q : Int) = (1 : Int32) by rw [hk]; rfl), mg_11, Option.bind_some, l11 hk]
  have h27 : (27 : Int) ^ 12 = 150094635296999121 := by decide
  rw [h27] at hwc
  have hc : (lg_cmp (JL (wc T q)) (JL (wK i)) = J 0) = (wc T q = wK i) := cmp_eq0 (by
    have h1 := hK.1
    have h2 := hK.2
    simp only at h1 h2
    generalize wK i = z at *
    generalize wc T q = y at *
    omega)
  by_cases hw : wc T q = wK i
  · rw [if_pos (show lg_cmp (JL (wc T q)) (JL (wK i)) = (0 : Int32) from hc.mpr hw), Bp_t (hiff.2 hw)]; rfl
  · rw [if_neg (show ¬ lg_cmp (JL (wc T q)) (JL (wK i)) = (0 : Int32) from fun e => hw (hc.mp e)), Bp_f (fun e => hw (hiff.1 e))]; rfl
theorem M_isBd {k p : Nat} (h : Bd S k p) (x : Int64) : fX5_is N (emM o S w) o x = some (J 0) := by
  unfold fX5_is
  rw [mg_12, Option.bind_some, h.1, if_neg (show ¬ J (k : Int) = (0 : Int32) by rw [jn_0, J_eq (by have := h.2.2; omega)]; have := h.2.2; omega)]; rfl
theorem M_nextG (hT : TpM S T) (hN : 1000000 ≤ N) (h : Gd S T q) : ∃ S', fX5_next N (emM o S w) o = some (emM o S' w) ∧ Gd S' T (nx T q) ∧ FrL S S' := by
  obtain ⟨h12, hq, l7, _⟩ := h
  obtain ⟨S', e, h1, h2⟩ := M_next (N := N) (o := o) (w := w) hT hN (en_le hT.2.1 hq).2 l7
  exact ⟨S', e, ⟨by rw [h2.2.2 12 (by decide) (by decide) (by decide) (by decide)]; exact h12, h1⟩, h2⟩
theorem M_takesG (hT : TpM S T) (hN : 1000000 ≤ N) (h : Gd S T q) {i : Nat} (hi : i < 15) : ∃ S', fX5_takes N (emM o S w) o (JL (wK i)) = some (Bp (isW T i q = true), emM o S' w) ∧ Gd S' T (if isW T i q = true then nx T q else q) ∧ FrL S S' := by
  unfold fX5_takes
  rw [M_isG hT.2.1 h hi, Option.bind_some]
  by_cases hw : isW T i q = true
  · obtain ⟨S', e, h1, h2⟩ := M_nextG (N := N) (o := o) (w := w) hT hN h
    refine ⟨S', ?_, by rw [if_pos hw]; exact h1, h2⟩
    rw [Bp_t hw, if_neg (show ¬ J 1 = (0 : Int32) by decide), e, Option.bind_some]; rfl
  · refine ⟨S, ?_, by rw [if_neg hw]; exact h, FrL_r S⟩
    rw [Bp_f hw, if_pos (show J 0 = (0 : Int32) from rfl)]; rfl
theorem M_takesB {k p : Nat} (h : Bd S k p) (x : Int64) : fX5_takes N (emM o S w) o x = some (J 0, emM o S w) := by
  unfold fX5_takes
  rw [M_isBd h, Option.bind_some, if_pos (show J 0 = (0 : Int32) from rfl)]; rfl
theorem M_failsG (h : Gd S T q) {k : Nat} (hk : 1 ≤ k ∧ k ≤ 3) : ∃ S', fX5_fails N (emM o S w) o (J (k : Int)) = some (emM o S' w) ∧ Bd S' k q ∧ FrN S S' := by
  obtain ⟨h12, hq, l7, l9, _⟩ := h
  refine ⟨mSI (mSI S 12 (J (k : Int))) 13 (J (q : Int)), ?_, ⟨rfl, rfl, hk⟩, ⟨fun _ => rfl, fun _ => rfl, fun j h1 h2 h3 h4 h5 h6 => by rw [mi_I, if_neg h6, mi_I, if_neg h5]⟩⟩
  unfold fX5_fails
  rw [mg_12, Option.bind_some, h12, if_pos (show J 0 = (0 : Int32) from rfl), mp_12, Option.bind_some, mg_9, Option.bind_some, show mi (mSI S 12 (J (k : Int))) 9 = J (q : Int) from l9, mp_13, Option.bind_some]
theorem M_failsB {k p : Nat} (h : Bd S k p) (x : Int32) : fX5_fails N (emM o S w) o x = some (emM o S w) := by
  unfold fX5_fails
  rw [mg_12, Option.bind_some, h.1, if_neg (show ¬ J (k : Int) = (0 : Int32) by rw [jn_0, J_eq (by have := h.2.2; omega)]; have := h.2.2; omega)]
/-- what a step answers -/
def CmV (T : Tx) (o : Nat) (w : Wd) (S : MS) (r : Pr Int) (x : Option (Int32 × Wd)) : Prop := match r with
  | .inl (y, q') => ∃ S', x = some (J y, emM o S' w) ∧ Gd S' T q' ∧ FrN S S'
  | .inr (k, p) => ∃ S' y, x = some (y, emM o S' w) ∧ Bd S' k p ∧ FrN S S'
def CmU (T : Tx) (o : Nat) (w : Wd) (S : MS) (r : Pr Unit) (x : Option Wd) : Prop := match r with
  | .inl (_, q') => ∃ S', x = some (emM o S' w) ∧ Gd S' T q' ∧ FrN S S'
  | .inr (k, p) => ∃ S', x = some (emM o S' w) ∧ Bd S' k p ∧ FrN S S'
theorem M_asksG (hT : TpM S T) (hN : 1000000 ≤ N) (h : Gd S T q) {i : Nat} (hi : i < 15) : CmU T o w S (aNeeds T i q) (fX5_asks N (emM o S w) o (JL (wK i))) := by
  obtain ⟨S', e, h1, h2⟩ := M_takesG (N := N) (o := o) (w := w) hT hN h hi
  unfold fX5_asks aNeeds
  rw [e, Option.bind_some]
  by_cases hw : isW T i q = true
  · rw [if_pos hw] at h1 ⊢
    refine ⟨S', ?_, h1, FrL_N h2⟩
    rw [Bp_t hw]
    exact if_neg (show ¬ J 1 = (0 : Int32) by decide)
  · rw [if_neg hw] at h1 ⊢
    obtain ⟨S'', e3, h3, h4⟩ := M_failsG (N := N) (o := o) (w := w) h1 (k := 1) (by omega)
    refine ⟨S'', ?_, h3, FrN_t (FrL_N h2) h4⟩
    rw [Bp_f hw]
    refine Eq.trans (if_pos (show J 0 = (0 : Int32) from rfl)) ?_
    have e4 : fX5_fails N (emM o S' w) o (1 : Int32) = some (emM o S'' w) := e3
    simp only
    rw [e4, Option.bind_some]
theorem M_asksB {k p : Nat} (h : Bd S k p) (x : Int64) : fX5_asks N (emM o S w) o x = some (emM o S w) := by
  unfold fX5_asks
  rw [M_takesB h, Option.bind_some]
  refine Eq.trans (if_pos (show J 0 = (0 : Int32) from rfl)) ?_
  simp only
  rw [M_failsB h, Option.bind_some]
theorem M_numG (hT : TpM S T) (hN : 1000000 ≤ N) (h : Gd S T q) {lo hi : Int} (hb : (-2147483648 ≤ lo ∧ lo ≤ 2147483647) ∧ -2147483648 ≤ hi ∧ hi ≤ 99998) : CmV T o w S (aNum T lo hi q) (fX5_number N (emM o S w) o (J lo) (J hi)) := by
  have hn := hT.2.1
  have hk4 := kd_le T q
  have hv9 := vl_bd hn q
  unfold fX5_number aNum
  rw [mg_12, Option.bind_some, h.1, if_pos (show J 0 = (0 : Int32) from rfl), mg_8, Option.bind_some, h.2.2.2.2.1]
  by_cases hk : kd T q = 2
  case neg =>
    rw [if_neg hk, if_neg (show ¬ J (kd T q : Int) = (2 : Int32) by rw [jn_2, J_eq (by omega)]; omega)]
    obtain ⟨S', e3, h3, h4⟩ := M_failsG (N := N) (o := o) (w := w) h (k := 1) (by omega)
    have e4 : fX5_fails N (emM o S w) o (1 : Int32) = some (emM o S' w) := e3
    exact ⟨S', _, by rw [e4, Option.bind_some], h3, h4⟩
  obtain ⟨v, e10, hv, hv2⟩ := h.2.2.2.2.2.1 hk
  have e1 : fX5_in N (emM o S w) (JL v) (JL lo) (JL hi) = some (Bp (lo ≤ v ∧ v ≤ hi)) := M_in (by omega)
  rw [if_pos hk, if_pos (show J (kd T q : Int) = (2 : Int32) by rw [hk]; rfl), mg_10, Option.bind_some, e10, J_long (by omega), J_long hb.1, J_long (by omega), e1, Option.bind_some, Option.bind_some]
  by_cases h1 : lo ≤ vl T q ∧ vl T q ≤ hi
  · have hve : v = vl T q := by omega
    rw [if_pos h1, Bp_t (by omega), if_neg (show ¬ J 1 = (0 : Int32) by decide)]
    obtain ⟨S', e, h2, h3⟩ := M_nextG (N := N) (o := o) (w := w) hT hN h
    exact ⟨S', by rw [e, Option.bind_some, hve], h2, FrL_N h3⟩
  · rw [if_neg h1, Bp_f (by omega), if_pos (show J 0 = (0 : Int32) from rfl)]
    obtain ⟨S', e3, h3, h4⟩ := M_failsG (N := N) (o := o) (w := w) h (k := 2) (by omega)
    have e4 : fX5_fails N (emM o S w) o (2 : Int32) = some (emM o S' w) := e3
    exact ⟨S', _, by rw [e4, Option.bind_some], h3, h4⟩
theorem M_numB {k p : Nat} (h : Bd S k p) (x y : Int32) : fX5_number N (emM o S w) o x y = some (x, emM o S w) := by
  unfold fX5_number
  rw [mg_12, Option.bind_some, h.1, if_neg (show ¬ J (k : Int) = (0 : Int32) by rw [jn_0, J_eq (by have := h.2.2; omega)]; have := h.2.2; omega)]
theorem M_toldG (hT : TpM S T) (hN : 1000000 ≤ N) (h : Gd S T q) {i : Nat} (hi : i < 15) {lo hi' : Int} (hb : (-2147483648 ≤ lo ∧ lo ≤ 2147483647) ∧ -2147483648 ≤ hi' ∧ hi' ≤ 99998) : CmV T o w S (aTold T i lo hi' q) (fX5_number_2 N (emM o S w) o (JL (wK i)) (J lo) (J hi')) := by
  have ha := M_asksG (N := N) (o := o) (w := w) hT hN h hi
  unfold fX5_number_2 aTold
  unfold CmU at ha
  cases hr : aNeeds T i q with
  | inr e =>
    obtain ⟨k, p⟩ := e
    rw [hr] at ha
    obtain ⟨S', e, h1, h2⟩ := ha
    exact ⟨S', _, by rw [e, Option.bind_some, M_numB h1, Option.bind_some], h1, h2⟩
  | inl y =>
    obtain ⟨u, q'⟩ := y
    rw [hr] at ha
    obtain ⟨S', e, h1, h2⟩ := ha
    have hnu := M_numG (N := N) (o := o) (w := w) (TpM_N hT h2) hN h1 hb
    rw [e, Option.bind_some]
    show CmV T o w S (aNum T lo hi' q') _
    unfold CmV at hnu ⊢
    cases hr2 : aNum T lo hi' q' with
    | inr e2 =>
      obtain ⟨k, p⟩ := e2
      rw [hr2] at hnu
      obtain ⟨S'', y, e3, h3, h4⟩ := hnu
      exact ⟨S'', y, by rw [e3]; rfl, h3, FrN_t h2 h4⟩
    | inl y2 =>
      obtain ⟨z, q''⟩ := y2
      rw [hr2] at hnu
      obtain ⟨S'', e3, h3, h4⟩ := hnu
      exact ⟨S'', by rw [e3]; rfl, h3, FrN_t h2 h4⟩
theorem M_toldB {k p : Nat} (h : Bd S k p) (x : Int64) (y z : Int32) : fX5_number_2 N (emM o S w) o x y z = some (y, emM o S w) := by
  unfold fX5_number_2
  rw [M_asksB h, Option.bind_some, M_numB h, Option.bind_some]
theorem M_roofG (hT : TpM S T) (hN : 1000000 ≤ N) (h : Gd S T q) {R : Nat} (hR : R ≤ 6) (h4 : ma S 7 4 = J (R : Int)) : CmV T o w S (aNum T 0 ((R : Int) - 1) q) (fX5_roof N (emM o S w) o) := by
  have hnu := M_numG (N := N) (o := o) (w := w) hT hN h (lo := 0) (hi := (R : Int) - 1) (by omega)
  unfold fX5_roof
  rw [mg_17, Option.bind_some, show (4 : Int32) = J 4 from rfl, mr_7 o S w (by omega), Option.bind_some, show (4 : Int).toNat = 4 from rfl, h4, jn_0, jn_1, J_sub]
  unfold CmV at hnu ⊢
  cases hr2 : aNum T 0 ((R : Int) - 1) q with
  | inr e2 =>
    obtain ⟨k, p⟩ := e2
    rw [hr2] at hnu
    obtain ⟨S'', y, e3, h3, h4⟩ := hnu
    exact ⟨S'', y, by rw [e3]; rfl, h3, h4⟩
  | inl y2 =>
    obtain ⟨z, q''⟩ := y2
    rw [hr2] at hnu
    obtain ⟨S'', e3, h3, h4⟩ := hnu
    exact ⟨S'', by rw [e3]; rfl, h3, h4⟩
theorem M_roofB {k p : Nat} (h : Bd S k p) : fX5_roof N (emM o S w) o = some (J 0, emM o S w) := by
  unfold fX5_roof
  rw [mg_17, Option.bind_some, show (4 : Int32) = J 4 from rfl, mr_7 o S w (by omega), Option.bind_some, M_numB h, Option.bind_some]; rfl
theorem M_otherG (hT : TpM S T) (hN : 1000000 ≤ N) (h : Gd S T q) {R : Nat} (hR : R ≤ 6) (h4 : ma S 7 4 = J (R : Int)) {r : Int} (hr : 0 ≤ r ∧ r ≤ 5) : CmV T o w S (aOther T R r q) (fX5_other N (emM o S w) o (J r)) := by
  have hn := hT.2.1
  have hk4 := kd_le T q
  have hv9 := vl_bd hn q
  have hro := M_roofG (N := N) (o := o) (w := w) hT hN h hR h4
  have hro2 : CmV T o w S (aNum T 0 ((R : Int) - 1) q) ((fX5_roof N (emM o S w) o).bind fun x => some (x.1, x.2)) := by
    unfold CmV at hro ⊢
    cases hr2 : aNum T 0 ((R : Int) - 1) q with
    | inr e2 =>
      obtain ⟨k, p⟩ := e2
      rw [hr2] at hro
      obtain ⟨S'', y, e3, h3, h4⟩ := hro
      exact ⟨S'', y, by rw [e3]; rfl, h3, h4⟩
    | inl y2 =>
      obtain ⟨z, q''⟩ := y2
      rw [hr2] at hro
      obtain ⟨S'', e3, h3, h4⟩ := hro
      exact ⟨S'', by rw [e3]; rfl, h3, h4⟩
  unfold fX5_other aOther
  rw [mg_12, Option.bind_some, h.1, if_pos (show J 0 = (0 : Int32) from rfl), mg_8, Option.bind_some, h.2.2.2.2.1]
  by_cases hk : kd T q = 2
  case neg =>
    rw [if_neg (show ¬ (kd T q = 2 ∧ vl T q = r) from fun e => hk e.1), if_neg (show ¬ J (kd T q : Int) = (2 : Int32) by rw [jn_2, J_eq (by omega)]; omega)]
    exact hro2
  obtain ⟨v, e10, hv, hv2⟩ := h.2.2.2.2.2.1 hk
  rw [if_pos (show J (kd T q : Int) = (2 : Int32) by rw [hk]; rfl), mg_10, Option.bind_some, e10]
  by_cases he : vl T q = r
  · have hve : v = r := by omega
    rw [if_pos (show kd T q = 2 ∧ vl T q = r from ⟨hk, he⟩), if_pos (show J v = J r by rw [hve])]
    obtain ⟨S', e3, h3, h4⟩ := M_failsG (N := N) (o := o) (w := w) h (k := 2) (by omega)
    have e4 : fX5_fails N (emM o S w) o (2 : Int32) = some (emM o S' w) := e3
    exact ⟨S', J 0, by rw [e4, Option.bind_some, M_roofB h3, Option.bind_some], h3, h4⟩
  · have hve : v ≠ r := by omega
    rw [if_neg (show ¬ (kd T q = 2 ∧ vl T q = r) from fun e => he e.2), if_neg (show ¬ J v = J r by rw [J_eq (by omega)]; exact hve)]
    exact hro2
theorem M_otherB {k p : Nat} (h : Bd S k p) (x : Int32) : fX5_other N (emM o S w) o x = some (J 0, emM o S w) := by
  unfold fX5_other
  rw [mg_12, Option.bind_some, h.1, if_neg (show ¬ J (k : Int) = (0 : Int32) by rw [jn_0, J_eq (by have := h.2.2; omega)]; have := h.2.2; omega), M_roofB h, Option.bind_some]
end
