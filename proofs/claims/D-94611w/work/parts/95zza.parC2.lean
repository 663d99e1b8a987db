/-! what a line takes, what it leaves -/
set_option maxRecDepth 100000
def Mo {α : Type} (T : Tx) (q : Nat) (r : Pr α) : Prop := ∀ y q', r = .inl (y, q') → q ≤ q' ∧ q' ≤ T.2
section
variable {T : Tx} {q : Nat}
theorem Mo_bnd {α β : Type} {r : Pr α} {f : α → Nat → Pr β} (h : Mo T q r) (hf : ∀ y q', r = .inl (y, q') → q' ≤ T.2 → Mo T q' (f y q')) : Mo T q (bnd r f) := by
  intro z q' e
  obtain ⟨a, q1, e1, e2⟩ := bnd_ok e
  have h1 := h a q1 e1
  have h2 := hf a q1 e1 h1.2 z q' e2
  omega
theorem Mo_r {α : Type} (hq : q ≤ T.2) (y : α) : Mo T q (.inl (y, q)) := by
  intro z q' e
  injection e with e
  injection e with e1 e2
  omega
theorem Mo_e {α : Type} (k p : Nat) : Mo (α := α) T q (.inr (k, p)) := by
  intro z q' e; cases e
theorem Mo_n {α : Type} (hn : T.2 ≤ 1600) (hq : q ≤ T.2) (y : α) : Mo T q (.inl (y, nx T q)) := by
  intro z q' e
  injection e with e
  injection e with e1 e2
  have := nx_le hn hq
  omega
theorem Mo_num (hn : T.2 ≤ 1600) (hq : q ≤ T.2) (lo hi : Int) : Mo T q (aNum T lo hi q) := by
  unfold aNum
  split
  · split
    · exact Mo_n hn hq _
    · exact Mo_e _ _
  · exact Mo_e _ _
theorem Mo_needs (hn : T.2 ≤ 1600) (hq : q ≤ T.2) (i : Nat) : Mo T q (aNeeds T i q) := by
  unfold aNeeds
  split
  · exact Mo_n hn hq _
  · exact Mo_e _ _
theorem Mo_told (hn : T.2 ≤ 1600) (hq : q ≤ T.2) (i : Nat) (lo hi : Int) : Mo T q (aTold T i lo hi q) := Mo_bnd (Mo_needs hn hq i) (fun _ _ _ h => Mo_num hn h lo hi)
theorem Mo_other (hn : T.2 ≤ 1600) (hq : q ≤ T.2) (R : Nat) (r : Int) : Mo T q (aOther T R r q) := by
  unfold aOther
  split
  · exact Mo_e _ _
  · exact Mo_num hn hq _ _
theorem Mo_kind (hn : T.2 ≤ 1600) (hq : q ≤ T.2) : Mo T q (aKind T q) := by
  unfold aKind
  (repeat' split)
  all_goals first
    | exact Mo_n hn hq _
    | exact Mo_e _ _
theorem Mo_rw (hn : T.2 ≤ 1600) (R r : Nat) : ∀ (m : Nat) (s : Rw) (q : Nat), q ≤ T.2 → Mo T q (aRw T R r m s q) := by
  intro m
  induction m with
  | zero => intro s q hq; exact Mo_e _ _
  | succ m ih =>
    intro s q hq
    rw [aRw]
    split
    · exact Mo_e _ _
    · refine Mo_bnd (Mo_num hn hq _ _) (fun x q1 _ h1 => Mo_bnd ?_ (fun y q2 _ h2 => ?_))
      · split
        · split
          · exact Mo_e _ _
          · intro z q' e
            have a1 := nx_le hn h1
            have a2 := Mo_num hn a1.2 _ _ z q' e
            omega
        · exact Mo_r h1 _
      · split
        · exact ih _ _ h2
        · exact Mo_r h2 _
theorem Mo_thr (hn : T.2 ≤ 1600) (hq : q ≤ T.2) (D : Cy) : Mo T q (aThr T D q) := Mo_bnd (Mo_num hn hq _ _) (fun _ _ _ h => Mo_bnd (Mo_kind hn h) (fun _ _ _ h => Mo_r h _))
theorem Mo_row (hn : T.2 ≤ 1600) (hq : q ≤ T.2) (D : Cy) : Mo T q (aRow T D q) := Mo_bnd (Mo_num hn hq _ _) (fun _ _ _ h => Mo_bnd (Mo_rw hn _ _ _ _ _ h) (fun _ _ _ h => Mo_r h _))
theorem Mo_cross (hn : T.2 ≤ 1600) (hq : q ≤ T.2) (D : Cy) : Mo T q (aCross T D q) := Mo_bnd (Mo_num hn hq _ _) (fun _ _ _ h => Mo_bnd (Mo_other hn h _ _) (fun _ _ _ h => Mo_r h _))
theorem Mo_letter (hn : T.2 ≤ 1600) (hq : q ≤ T.2) (D : Cy) : Mo T q (aLetter T D q) := Mo_bnd (Mo_num hn hq _ _) (fun _ _ _ h => Mo_bnd (Mo_told hn h _ _ _) (fun _ _ _ h => Mo_bnd (Mo_needs hn h _) (fun _ _ _ h => Mo_bnd (Mo_other hn h _ _) (fun _ _ _ h => Mo_r h _))))
theorem Mo_gusts (hn : T.2 ≤ 1600) (hq : q ≤ T.2) (D : Cy) : Mo T q (aGusts T D q) := Mo_bnd (Mo_told hn hq _ _ _) (fun _ _ _ h => Mo_bnd (Mo_told hn h _ _ _) (fun _ _ _ h => Mo_r h _))
theorem wl_5 : ∀ i : Fin 15, i.1 = 0 ∨ 10 ≤ i.1 → 5 ≤ wl i.1 := by decide +kernel
theorem isW_5 (hn : T.2 ≤ 1600) (hq : q ≤ T.2) {i : Nat} (hi : i < 15) (hi2 : i = 0 ∨ 10 ≤ i) (h : isW T i q = true) : q + 5 ≤ nx T q ∧ nx T q ≤ T.2 := by
  have h5 : 5 ≤ wl i := wl_5 ⟨i, hi⟩ hi2
  have hh := isW_t.1 h
  have e1 := en_le hn hq
  have e2 := sk_le hn e1.2
  have e3 : en T q = q + ru T (isB 97 122) q := by unfold en; rw [if_neg (by omega), if_pos hh.1.1]
  generalize wl i = w at *
  unfold nx
  omega
/-- a city that a line may change -/
def InD (D : Cy) : Prop := OkC D ∧ 1 ≤ cR D
theorem Ok_rf {R : Nat} (h : 1 ≤ R ∧ R ≤ 6) : InD (cRf D0 R) ∧ cL (cRf D0 R) = 0 := by
  have eR := cRf_R (D := D0) h.2
  refine ⟨⟨⟨fun r i hr hi => ?_, fun k hk => ?_, fun h0 => ?_⟩, by omega⟩, rfl⟩
  · have hi' : i < 1 := hi
    have hi0 : i = 0 := by omega
    rw [hi0, D0_T (by omega)]
    exact ⟨hr, fun _ => rfl⟩
  · have hk' : k < 0 := hk
    omega
  · omega
theorem In_kd {D : Cy} {r k : Nat} (h : InD D) : InD (cKd D r k) := h
theorem In_cr {D : Cy} {lo hi : Nat} (h : InD D) : InD (cCr D lo hi) := h
theorem In_gu {D : Cy} {x y : Nat} (h : InD D) : InD (cGu D x y) := ⟨⟨h.1.1, h.1.2.1, fun h0 => by
  have h1 : 1 ≤ cR (cGu D x y) := h.2
  omega⟩, h.2⟩
theorem In_le {D : Cy} {f a t : Nat} (h : InD D) (hN : cN D < 8) (hb : f < cR D ∧ a ≤ 99999 ∧ t < cR D ∧ f ≠ t) : InD (cLe D f a t) := by
  have hR := cR_le D
  refine ⟨⟨h.1.1, fun k hk => ?_, h.1.2.2⟩, h.2⟩
  rw [cLe_N hN] at hk
  rw [cLe_F (by omega), cLe_D (by omega)]
  by_cases e : k = cN D
  · rw [if_pos e, if_pos e]; exact ⟨hb.1, hb.2.2.1, hb.2.2.2⟩
  · rw [if_neg e, if_neg e]; exact h.1.2.1 k (by omega)
theorem wi_ok {α β : Type} {x : Pr α} {b b' : β} {y : α} {q' : Nat} (h : wiG x b = .inl ((y, b'), q')) : x = .inl (y, q') ∧ b = b' := by
  obtain ⟨a, q1, e1, e2⟩ := bnd_ok h
  injection e2 with e2
  injection e2 with e2 e3
  injection e2 with e2 e4
  subst e2 e3 e4
  exact ⟨e1, rfl⟩
theorem ret_ok {α : Type} {a y : α} {q q' : Nat} (h : (.inl (a, q) : Pr α) = .inl (y, q')) : a = y ∧ q = q' := by
  injection h with h
  injection h with h1 h2
  exact ⟨h1, h2⟩
theorem aLine_ok {D D' : Cy} {g g' : Bool} {q' : Nat} (hn : T.2 ≤ 1600) (hq : q ≤ T.2) (hI : InD D) (h : aLine T D g q = .inl ((D', g'), q')) : (q + 5 ≤ q' ∧ q' ≤ T.2) ∧ InD D' ∧ cL D' = cL D := by
  have hR := cR_le D
  unfold aLine at h
  by_cases w0 : isW T 10 q = true
  · rw [if_pos w0] at h
    have h5 := isW_5 hn hq (i := 10) (by decide) (Or.inr (by decide)) w0
    have h := (wi_ok h).1
    have hm := Mo_thr hn h5.2 D _ _ h
    obtain ⟨x, q1, e1, h⟩ := bnd_ok h
    obtain ⟨k, q2, e2, h⟩ := bnd_ok h
    obtain ⟨h, _⟩ := ret_ok h
    exact ⟨by omega, by rw [← h]; exact In_kd hI, by rw [← h]; rfl⟩
  rw [if_neg w0] at h
  by_cases w1 : isW T 11 q = true
  · rw [if_pos w1] at h
    have h5 := isW_5 hn hq (i := 11) (by decide) (Or.inr (by decide)) w1
    have h := (wi_ok h).1
    have hm := Mo_row hn h5.2 D _ _ h
    obtain ⟨x, q1, e1, h⟩ := bnd_ok h
    obtain ⟨s, q2, e2, h⟩ := bnd_ok h
    obtain ⟨h, _⟩ := ret_ok h
    have hx := aNum_ok e1
    obtain ⟨s1, sb⟩ := aRw_ok (T := T) (R := cR D) (r := x.toNat) (by omega) 9 (0, fun _ => 0, fun _ => 0) q1 (by decide) (fun i hi => absurd hi (Nat.not_lt_zero i)) _ _ e2
    exact ⟨by omega, by rw [← h]; exact ⟨cRow_Ok hI.1 s1 (fun i hi => sb i hi), hI.2⟩, by rw [← h]; rfl⟩
  rw [if_neg w1] at h
  by_cases w2 : isW T 12 q = true
  · rw [if_pos w2] at h
    have h5 := isW_5 hn hq (i := 12) (by decide) (Or.inr (by decide)) w2
    by_cases h6 : cX D = 6
    · rw [if_pos h6] at h; cases h
    rw [if_neg h6] at h
    have h := (wi_ok h).1
    have hm := Mo_cross hn h5.2 D _ _ h
    obtain ⟨x, q1, e1, h⟩ := bnd_ok h
    obtain ⟨k, q2, e2, h⟩ := bnd_ok h
    obtain ⟨h, _⟩ := ret_ok h
    exact ⟨by omega, by rw [← h]; exact In_cr hI, by rw [← h]; rfl⟩
  rw [if_neg w2] at h
  by_cases w3 : isW T 13 q = true
  · rw [if_pos w3] at h
    have h5 := isW_5 hn hq (i := 13) (by decide) (Or.inr (by decide)) w3
    by_cases h6 : cN D = 8
    · rw [if_pos h6] at h; cases h
    rw [if_neg h6] at h
    have hN : cN D ≤ 8 := by unfold cN; omega
    have h := (wi_ok h).1
    have hm := Mo_letter hn h5.2 D _ _ h
    obtain ⟨x, q1, e1, h⟩ := bnd_ok h
    obtain ⟨b, q2, e2, h⟩ := bnd_ok h
    obtain ⟨u, q3, e3, h⟩ := bnd_ok h
    obtain ⟨y, q4, e4, h⟩ := bnd_ok h
    obtain ⟨h, _⟩ := ret_ok h
    have hx := aNum_ok e1
    have hb := aTold_ok e2
    have hy := aOther_ok e4
    exact ⟨by omega, by rw [← h]; exact In_le hI (by omega) (by omega), by rw [← h]; rfl⟩
  rw [if_neg w3] at h
  by_cases w4 : isW T 14 q = true
  · rw [if_pos w4] at h
    have h5 := isW_5 hn hq (i := 14) (by decide) (Or.inr (by decide)) w4
    by_cases h6 : g = true
    · rw [if_pos h6] at h; cases h
    rw [if_neg h6] at h
    have h := (wi_ok h).1
    have hm := Mo_gusts hn h5.2 D _ _ h
    obtain ⟨x, q1, e1, h⟩ := bnd_ok h
    obtain ⟨k, q2, e2, h⟩ := bnd_ok h
    obtain ⟨h, _⟩ := ret_ok h
    exact ⟨by omega, by rw [← h]; exact In_gu hI, by rw [← h]; rfl⟩
  · rw [if_neg w4] at h; cases h
theorem aFirst_ok {D' : Cy} {q' : Nat} (hn : T.2 ≤ 1600) (hq : q ≤ T.2) (h : aFirst T D0 q = .inl (D', q')) : (q + 5 ≤ q' ∧ q' ≤ T.2) ∧ InD D' ∧ cL D' = 0 := by
  obtain ⟨x, q1, e1, h⟩ := bnd_ok h
  have hx := aTold_ok e1
  obtain ⟨u, q2, e2, e3⟩ := bnd_ok e1
  obtain ⟨h, h'⟩ := ret_ok h
  have hR := Ok_rf (R := x.toNat) (by omega)
  have w0 : isW T 0 q = true ∧ q2 = nx T q := by
    unfold aNeeds at e2
    by_cases hw : isW T 0 q = true
    · rw [if_pos hw] at e2
      exact ⟨hw, (ret_ok e2).2.symm⟩
    · rw [if_neg hw] at e2; cases e2
  have h5 := isW_5 hn hq (i := 0) (by decide) (Or.inl rfl) w0.1
  have h6 := Mo_num hn (q := q2) (by omega) _ _ _ _ e3
  exact ⟨by omega, by rw [← h]; exact hR.1, by rw [← h]; exact hR.2⟩
/-- the state between two lines -/
def LI (T : Tx) (D : Cy) (q : Nat) : Prop := q ≤ T.2 ∧ 6 * cL D ≤ q ∧ (cL D = 0 → D = D0) ∧ (cL D ≠ 0 → InD D)
theorem LI_ln {D D' : Cy} {g g' : Bool} {q' : Nat} (hn : T.2 ≤ 1600) (hI : LI T D q) (h : (if cL D = 0 then wiG (aFirst T D q) g else aLine T D g q) = .inl ((D', g'), q')) : (q + 5 ≤ q' ∧ q' ≤ T.2) ∧ InD D' ∧ cL D' = cL D := by
  obtain ⟨hq, hL, h0, h1⟩ := hI
  by_cases h2 : cL D = 0
  · rw [if_pos h2] at h
    have h := (wi_ok h).1
    rw [h0 h2] at h
    have := aFirst_ok hn hq h
    rw [h2]; exact this
  · rw [if_neg h2] at h
    exact aLine_ok hn hq (h1 h2) h
theorem kd3_nx (hn : T.2 ≤ 1600) (h : kd T q = 3) : q + 1 ≤ nx T q ∧ nx T q ≤ T.2 := by
  have hlt := kd_lt (T := T) (q := q) (by omega)
  have e1 := en_le hn (q := q) (by omega)
  have e2 := sk_le hn e1.2
  have e3 : en T q = q + 1 := by unfold en; rw [if_neg (by omega), if_neg (by omega), if_neg (by omega)]
  unfold nx
  omega
theorem LI_st {D D' : Cy} {g g' : Bool} {q' : Nat} (hn : T.2 ≤ 1600) (hI : LI T D q) (h : (if cL D = 0 then wiG (aFirst T D q) g else aLine T D g q) = .inl ((D', g'), q')) (h3 : kd T q' = 3) : q + 6 ≤ nx T q' ∧ LI T (cLn D') (nx T q') ∧ cL (cLn D') = cL D' + 1 := by
  have hl := LI_ln hn hI h
  have hx := kd3_nx hn h3
  obtain ⟨hq, hL, _, _⟩ := hI
  have eL : cL (cLn D') = cL D' + 1 := cLn_L (by omega)
  exact ⟨by omega, ⟨hx.2, by omega, fun h => by omega, fun _ => hl.2.1⟩, eL⟩
end
