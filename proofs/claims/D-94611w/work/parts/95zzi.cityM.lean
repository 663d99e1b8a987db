/-! the reference: feeding ends, the city is read -/
set_option maxRecDepth 100000
section
variable {N o q : Nat} {S S0 : MS} {w : Wd} {T : Tx} {D : Cy} {g b : Bool}
/-- the rows before r are empty -/
def ClI (S0 : MS) (r : Nat) (S : MS) : Prop := FrD S0 S ∧ ma S 6 4 = J 0 ∧ ma S 7 4 = J 0 ∧ ∀ x, x < r → ma S 8 (24 + x) = J 0 ∧ ma S 9 (24 + x) = J 1 ∧ ma S 10 (8 * (24 + x)) = J 0 ∧ ma S 11 (8 * (24 + x)) = J (x : Int)
theorem M_cl16 (hN : 1000000 ≤ N) (h : ClI S0 0 S) (k : Wd → Option Wd) : ∃ S', fX5_clears_16 N o k N (J 0) (emM o S w) = k (emM o S' w) ∧ ClI S0 6 S' := by
  have key := lp_ex (fun m r (s : MS) => fX5_clears_16 N o k m (J (r : Int)) (emM o s w)) (fun s => k (emM o s w)) 6 (fun r s => ClI S0 r s) ?_ ?_ N S (by omega) h
  · exact key
  · intro m r S hr hI
    obtain ⟨h1, h2, h3, h4⟩ := hI
    refine ⟨mSA (mSA (mSA (mSA S 8 (24 + r) (J 0)) 9 (24 + r) (J 1)) 10 (8 * (24 + r) + 0) (J 0)) 11 (8 * (24 + r) + 0) (J (r : Int)), ?_, FrD_t h1 (FrD_t (FrD_t (FrD_t (FrD_A _ _ _ _ (by decide) (by show 24 ≤ 24 + r; omega)) (Fr_9 _)) (Fr_10 10 (Or.inl rfl) _)) (Fr_10 11 (Or.inr rfl) _)), h2, h3, fun x hx => ?_⟩
    · show fX5_clears_16 N o k (m + 1) (J (r : Int)) (emM o S w) = _
      have e1 : (24 : Int32) + J (r : Int) = J ((24 + r : Nat) : Int) := by rw [show (24 : Int32) = J 24 from rfl, J_add]; congr 1
      have e2 : (8 : Int32) * J ((24 + r : Nat) : Int) = J ((8 * (24 + r) + 0 : Nat) : Int) := by rw [show (8 : Int32) = J 8 from rfl, J_mul]; congr 1
      rw [fX5_clears_16, if_neg (by rw [show (6 : Int32) = J 6 from rfl, J_le (by omega)]; omega), e1, Option.bind_some, mg_18, Option.bind_some, mw_8 o S w _ (by omega), Option.bind_some, mg_19, Option.bind_some, mw_9 o _ w _ (by omega), Option.bind_some, mg_20, Option.bind_some, e2, mw_10 o _ w _ (by omega), Option.bind_some, mg_21, Option.bind_some, mw_11 o _ w _ (by omega), Option.bind_some, jn_1, J_add, castS, Option.bind_some, Int.toNat_natCast, Int.toNat_natCast]; rfl
    · by_cases e : x = r
      · subst e
        refine ⟨?_, ?_, ?_, ?_⟩
        · rw [ma_A, if_neg (by decide), ma_A, if_neg (by decide), ma_A, if_neg (by decide), ma_A, if_pos rfl, upd_s]
        · rw [ma_A, if_neg (by decide), ma_A, if_neg (by decide), ma_A, if_pos rfl, upd_s]
        · rw [ma_A, if_neg (by decide), ma_A, if_pos rfl]; exact upd_s _ _ _
        · rw [ma_A, if_pos rfl]; exact upd_s _ _ _
      · obtain ⟨b1, b2, b3, b4⟩ := h4 x (by omega)
        refine ⟨?_, ?_, ?_, ?_⟩
        · rw [ma_A, if_neg (by decide), ma_A, if_neg (by decide), ma_A, if_neg (by decide), ma_A, if_pos rfl, upd_o _ _ (by omega)]; exact b1
        · rw [ma_A, if_neg (by decide), ma_A, if_neg (by decide), ma_A, if_pos rfl, upd_o _ _ (by omega)]; exact b2
        · rw [ma_A, if_neg (by decide), ma_A, if_pos rfl, upd_o _ _ (by omega)]; exact b3
        · rw [ma_A, if_pos rfl, upd_o _ _ (by omega)]; exact b4
  · intro m S hI
    show fX5_clears_16 N o k (m + 1) (J (6 : Int)) (emM o S w) = _
    rw [fX5_clears_16, if_pos (by decide)]
theorem M_clears (hN : 1000000 ≤ N) : ∃ S', fX5_clears N (emM o S w) o = some (emM o S' w) ∧ RdM S' D0 false ∧ FrD S S' := by
  unfold fX5_clears
  rw [mg_16, Option.bind_some, show (4 : Int32) = J 4 from rfl, show (0 : Int32) = J 0 from rfl, mw_6 o S w _ (by omega), Option.bind_some, mg_17, Option.bind_some, mw_7 o _ w _ (by omega), Option.bind_some]
  obtain ⟨S', e, h1, h2, h3, h4⟩ := M_cl16 (N := N) (o := o) (w := w) (S0 := S) (S := mSA (mSA S 6 4 (J 0)) 7 4 (J 0)) hN ⟨FrD_t (FrD_A _ _ _ _ (by decide) (by decide)) (FrD_A _ _ _ _ (by decide) (by decide)), rfl, rfl, fun x hx => absurd hx (Nat.not_lt_zero x)⟩ (fun w15 =>
      (gR w15 [5] o 22).bind fun x16 =>
      (sI 0 w15 x16 (8 : Int32) (J 0)).bind fun w17 =>
      (gR w17 [5] o 22).bind fun x18 =>
      (sI 0 w17 x18 (9 : Int32) (J 0)).bind fun w19 =>
      (gR w19 [5] o 25).bind fun x20 =>
      (sI 0 w19 x20 (8 : Int32) (9 : Int32)).bind fun w21 =>
      (gR w21 [5] o 25).bind fun x22 =>
      (sI 0 w21 x22 (9 : Int32) (J 0)).bind fun w23 =>
      (pF w23 [5] o 26 (.int (J 0))).bind fun w24 =>
      some w24)
  refine ⟨mSI (mSA (mSA (mSA (mSA S' 12 8 (J 0)) 12 9 (J 0)) 15 8 (J 9)) 15 9 (J 0)) 26 (J 0), ?_, ⟨h2, h3, fun r hr => ?_, rfl, rfl, fun k hk => ?_, fun k hk => ?_, rfl, rfl, rfl⟩, FrD_t h1 (FrD_t (FrD_t (FrD_t (FrD_t (FrD_A _ _ _ _ (by decide) (by decide)) (FrD_A _ _ _ _ (by decide) (by decide))) (FrD_A _ _ _ _ (by decide) (by decide))) (FrD_A _ _ _ _ (by decide) (by decide))) (FrD_26 _ _))⟩
  · refine Eq.trans e ?_
    rw [mg_22, Option.bind_some, show (8 : Int32) = J 8 from rfl, show (9 : Int32) = J 9 from rfl, mw_12 o _ w _ (by omega), Option.bind_some, mg_22, Option.bind_some, mw_12 o _ w _ (by omega), Option.bind_some, mg_25, Option.bind_some, mw_15 o _ w _ (by omega), Option.bind_some, mg_25, Option.bind_some, mw_15 o _ w _ (by omega), Option.bind_some, mp_26, Option.bind_some]; rfl
  · obtain ⟨b1, b2, b3, b4⟩ := h4 r hr
    refine ⟨b1, b2, fun i hi => ?_⟩
    have hi' : i < 1 := hi
    have hi0 : i = 0 := by omega
    subst hi0
    refine ⟨b3, ?_⟩
    have eT : cT D0 r 0 = r := by
      show (8 * r + 0) / 8 % 6 = r
      omega
    rw [eT]; exact b4
  · exact absurd hk (Nat.not_lt_zero k)
  · exact absurd hk (Nat.not_lt_zero k)
theorem M_begins (hT : TpM S T) (hN : 1000000 ≤ N) : ∃ S', fX5_begins N (emM o S w) o = some (emM o S' w) ∧ Gd S' T (sk T 0) ∧ FrN S S' := by
  unfold fX5_begins
  have f1 : FrN S (mSI (mSI (mSI S 12 (J 0)) 13 (J (-1))) 7 (J 0)) := ⟨fun _ => rfl, fun _ => rfl, fun k h1 h2 h3 h4 h5 h6 => by rw [mi_I, if_neg h1, mi_I, if_neg h6, mi_I, if_neg h5]⟩
  rw [show (0 : Int32) = J 0 from rfl, show (-1 : Int32) = J (-1) from rfl, mp_12, Option.bind_some, mp_13, Option.bind_some, mp_7, Option.bind_some]
  obtain ⟨S', e, h1, h2⟩ := M_next (N := N) (o := o) (w := w) (S := mSI (mSI (mSI S 12 (J 0)) 13 (J (-1))) 7 (J 0)) (TpM_N hT f1) hN (p := 0) (by omega) rfl
  rw [e, Option.bind_some]
  exact ⟨S', rfl, ⟨by rw [h2.2.2 12 (by decide) (by decide) (by decide) (by decide)]; rfl, h1⟩, FrN_t f1 (FrL_N h2)⟩
theorem bnd_as {α β γ : Type} (r : Pr α) (f : α → Nat → Pr β) (h : β → Nat → Pr γ) : bnd (bnd r f) h = bnd r fun a q => bnd (f a q) h := by cases r <;> rfl
theorem RdM_rf (h : RdM S D0 g) {R : Nat} (hR : R ≤ 6) : RdM (mSA S 7 4 (J (R : Int))) (cRf D0 R) g := by
  obtain ⟨a1, a2, a3, a4, a5, a6, a7, a8, a9, a10⟩ := h
  exact ⟨a1, by rw [cRf_R hR]; rfl, a3, a4, a5, a6, a7, a8, a9, a10⟩
theorem M_first (hT : TpM S T) (hN : 1000000 ≤ N) (h : Gd S T q) (hr : RdM S D0 g) : CmG T o w S (wiG (aFirst T D0 q) g) ((fX5_asks N (emM o S w) o (9872299 : Int64)).bind fun w14 =>
          (gR w14 [5] o 17).bind fun x15 =>
          (fX5_number N w14 o (1 : Int32) (6 : Int32)).bind fun x16 =>
          sI 0 x16.2 x15 (4 : Int32) x16.1) := by
  refine CmC_wi ?_
  unfold aFirst aTold
  rw [bnd_as, show (9872299 : Int64) = JL (wK 0) from rfl, show (1 : Int32) = J 1 from rfl, show (6 : Int32) = J 6 from rfl, show (4 : Int32) = J 4 from rfl]
  refine mbU (M_asksG (N := N) (o := o) (w := w) hT hN h (i := 0) (by decide)) (fun q1 S1 hy h1 f1 => ?_) (fun k p S1 h1 f1 => ?_)
  · rw [mg_17, Option.bind_some]
    refine mbV (M_numG (N := N) (o := o) (w := w) (TpM_N hT f1) hN h1 (lo := 1) (hi := 6) (by omega)) (fun x q2 S2 hx h2 f2 => ?_) (fun k p S2 y h2 f2 => ?_)
    · have hx1 := aNum_ok hx
      have F2 := FrN_t f1 f2
      simp only
      rw [mw_7 o S2 w _ (by omega)]
      have hh := RdM_rf (RdM_N hr F2) (R := x.toNat) (by omega)
      rw [show ((x.toNat : Nat) : Int) = x by omega] at hh
      exact ⟨_, rfl, Gd_A h2 _ _ _, hh, FrD_t (FrN_D F2) (FrD_A _ _ _ _ (by decide) (by decide))⟩
    · simp only
      rw [mw_7 o S2 w _ (by omega)]
      exact ⟨_, rfl, Bd_A h2 _ _ _, FrD_t (FrN_D (FrN_t f1 f2)) (FrD_A _ _ _ _ (by decide) (by decide))⟩
  · rw [mg_17, Option.bind_some, M_numB h1, Option.bind_some]
    simp only
    rw [mw_7 o S1 w _ (by omega)]
    exact ⟨_, rfl, Bd_A h1 _ _ _, FrD_t (FrN_D f1) (FrD_A _ _ _ _ (by decide) (by decide))⟩
/-- a loop's answer -/
def RcM (T : Tx) (o : Nat) (w : Wd) (S0 : MS) (k87 : Wd → Option (Int32 × Wd)) (r : Pr (Cy × Bool)) (x : Option (Int32 × Wd)) : Prop := match r with
  | .inl ((D, b), q') => ∃ S', x = k87 (emM o S' w) ∧ Gd S' T q' ∧ RdM S' D b ∧ FrD S0 S'
  | .inr (k, p) => ∃ S', x = k87 (emM o S' w) ∧ Bd S' k p ∧ FrD S0 S'
theorem RdM_ln (h : RdM S D g) (hL : cL D < 1999) : RdM (mSA S 6 4 (J ((cL D + 1 : Nat) : Int))) (cLn D) g := by
  obtain ⟨a1, a2, a3, a4, a5, a6, a7, a8, a9, a10⟩ := h
  exact ⟨by rw [cLn_L hL]; rfl, a2, a3, a4, a5, a6, a7, a8, a9, a10⟩
theorem Fr_6 (x : Int32) : FrD S (mSA S 6 4 x) := FrD_A _ _ _ _ (by decide) (by decide)
theorem M_74B {k p : Nat} (h : Bd S k p) {f : Nat} {k87 : Wd → Option (Int32 × Wd)} (hF : FrD S0 S) : ∃ S', fX5_city_74 N (emM o S w) o (fX5_city_13 N o k87 (f + 1)) k87 = k87 (emM o S' w) ∧ Bd S' k p ∧ FrD S0 S' := by
  unfold fX5_city_74
  rw [mg_16, Option.bind_some, show (4 : Int32) = J 4 from rfl, mr_6 o S w (by omega), Option.bind_some, mw_6 o S w _ (by omega), Option.bind_some, fX5_city_13, M_isGoodB (Bd_A h _ _ _), Option.bind_some, if_pos (show J 0 = (0 : Int32) from rfl)]
  exact ⟨_, rfl, Bd_A h _ _ _, FrD_t hF (Fr_6 _)⟩
theorem M_city_13 (hN : 1000000 ≤ N) (hn : T.2 ≤ 1600) (k87 : Wd → Option (Int32 × Wd)) : ∀ (m f : Nat) (D : Cy) (g : Bool) (q : Nat) (S : MS), LI T D q → TpM S T → Gd S T q → RdM S D g → FrD S0 S → T.2 < q + 6 * m → m + 1 ≤ f → RcM T o w S0 k87 (aRead T m D g q) (fX5_city_13 N o k87 f (emM o S w)) := by
  have t1 : ¬ J 1 = (0 : Int32) := by decide
  have t0 : J 0 = (0 : Int32) := rfl
  intro m
  induction m with
  | zero => intro f D g q S hI _ _ _ _ h1 _; have := hI.1; omega
  | succ m ih =>
    intro f D g q S hI hT h hr hF hm hf
    obtain ⟨f', ef⟩ : ∃ f', f = f' + 2 := ⟨f - 2, by omega⟩
    subst ef
    have hk4 := kd_le T q
    rw [fX5_city_13, aRead, M_isGood h.1, Option.bind_some, if_neg t1, mg_8, Option.bind_some, h.2.2.2.2.1]
    by_cases h0 : kd T q = 0
    · rw [if_pos h0, if_pos (show J (kd T q : Int) = (0 : Int32) by rw [h0]; rfl)]
      exact ⟨S, rfl, h, hr, hF⟩
    rw [if_neg h0, if_neg (show ¬ J (kd T q : Int) = (0 : Int32) by rw [show (0 : Int32) = J 0 from rfl, J_eq (by omega)]; omega), mg_16, Option.bind_some, show (4 : Int32) = J 4 from rfl, mr_6 o S w (by omega), Option.bind_some, show (4 : Int).toNat = 4 from rfl, hr.1]
    have hL2 : cL D < 1000 := by
      have h61 := hI.2.1
      have h62 := hI.1
      omega
    have main : ∀ x, CmG T o w S (if cL D = 0 then wiG (aFirst T D q) g else aLine T D g q) x → RcM T o w S0 k87 (bnd (aStep T D g q) fun s q => aRead T m s.1 s.2 q) (x.bind fun w8 => fX5_city_63 N w8 o (fX5_city_13 N o k87 (f' + 1)) k87) := by
      intro x hx
      unfold CmG at hx
      unfold aStep
      cases hl : (if cL D = 0 then wiG (aFirst T D q) g else aLine T D g q) with
      | inr e =>
        obtain ⟨k, p⟩ := e
        rw [hl] at hx
        obtain ⟨S', e1, h1, h2⟩ := hx
        rw [e1, Option.bind_some]
        unfold fX5_city_63
        rw [M_isGoodB h1, Option.bind_some, if_pos t0]
        exact M_74B h1 (FrD_t hF h2)
      | inl e =>
        obtain ⟨⟨D1, g1⟩, q1⟩ := e
        rw [hl] at hx
        obtain ⟨S1, e1, h1, r1, f1⟩ := hx
        have hk41 := kd_le T q1
        have F1 := FrD_t hF f1
        have hT1 := TpM_D hT f1
        rw [e1, Option.bind_some]
        simp only [bnd]
        unfold fX5_city_63 fX5_ends fX5_ends_13
        rw [M_isGood h1.1, Option.bind_some, if_neg t1, mg_8, Option.bind_some, h1.2.2.2.2.1]
        by_cases h3 : kd T q1 = 3
        · rw [if_pos h3, if_pos (show J (kd T q1 : Int) = (3 : Int32) by rw [h3]; rfl), mg_12, Option.bind_some, h1.1, if_pos t0]
          have hst := LI_st hn hI hl h3
          have hln := LI_ln hn hI hl
          obtain ⟨S2, e2, h2, f2⟩ := M_nextG (N := N) (o := o) (w := w) hT1 hN h1
          have f2 := FrL_N f2
          have r2 := RdM_N r1 f2
          have r3 := RdM_ln r2 (by omega)
          rw [e2, Option.bind_some, Option.bind_some]
          unfold fX5_city_74
          rw [mg_16, Option.bind_some, show (4 : Int32) = J 4 from rfl, mr_6 o S2 w (by omega), Option.bind_some, show (4 : Int).toNat = 4 from rfl, r2.1, jn_1, J_add, castS, mw_6 o S2 w _ (by omega), Option.bind_some]
          exact ih (f' + 1) (cLn D1) g1 (nx T q1) _ hst.2.1 (TpM_D (TpM_N hT1 f2) (Fr_6 _)) (Gd_A h2 _ _ _) r3 (FrD_t F1 (FrD_t (FrN_D f2) (Fr_6 _))) (by omega) (by omega)
        · rw [if_neg h3, if_neg (show ¬ J (kd T q1 : Int) = (3 : Int32) by rw [show (3 : Int32) = J 3 from rfl, J_eq (by omega)]; omega)]
          obtain ⟨S3, e3, h3', f3⟩ := M_failsG (N := N) (o := o) (w := w) h1 (k := 1) (by omega)
          rw [show fX5_fails N (emM o S1 w) o (1 : Int32) = some (emM o S3 w) from e3, Option.bind_some, mg_12, Option.bind_some, if_neg (Bd_ne h3'), Option.bind_some]
          exact M_74B h3' (FrD_t F1 (FrN_D f3))
    by_cases hc : cL D = 0
    · rw [if_pos (show J (cL D : Int) = (0 : Int32) by rw [hc]; rfl)]
      have hD := hI.2.2.1 hc
      have hm := main _ (by
        rw [if_pos hc]
        subst hD
        exact M_first hT hN h hr)
      simp only [Option.bind_assoc] at hm
      exact hm
    · rw [if_neg (show ¬ J (cL D : Int) = (0 : Int32) by rw [show (0 : Int32) = J 0 from rfl, J_eq (by omega)]; omega)]
      refine main _ ?_
      rw [if_neg hc]
      exact M_line hT hN h hr
end
