/-! the reference: a line -/
set_option maxRecDepth 100000
theorem wK_inj : ∀ i j : Fin 15, wK i.1 = wK j.1 → i.1 = j.1 := by decide +kernel
theorem isW_ne {T : Tx} (hn : T.2 ≤ 1600) {i j q : Nat} (hi : i < 15) (hj : j < 15) (h : isW T i q = true) (h' : isW T j q = true) : i = j := by
  have hk := (isW_t.1 h).1.1
  have e1 := (isW_wc hn hi hk).1 h
  have e2 := (isW_wc hn hj hk).1 h'
  exact wK_inj ⟨i, hi⟩ ⟨j, hj⟩ (e1.symm.trans e2)
section
variable {N o q : Nat} {S S0 : MS} {w : Wd} {T : Tx} {D : Cy} {g b : Bool}
theorem RdM_row {r : Nat} {s : Rw} (h : RoM S D g r s) (hr : r < 6) (hR : cR D ≤ 6) (h8 : 1 ≤ s.1 ∧ s.1 ≤ 8) (hb : RwB (cR D) r s) : RdM (mSA S 9 (24 + r) (J (s.1 : Int))) (cRow D r s.1 s.2.1 s.2.2) g := by
  obtain ⟨U, ⟨a1, a2, a3, a4, a5, a6, a7, a8, a9, a10⟩, h2, h3, h4⟩ := h
  have hc : ∀ a i, ¬ ((a = 10 ∨ a = 11) ∧ 8 * (24 + r) ≤ i ∧ i < 8 * (24 + r) + 8) → a ≠ 9 → ma (mSA S 9 (24 + r) (J (s.1 : Int))) a i = ma U a i := fun a i h1 h9 => by rw [ma_A, if_neg h9]; exact h2 a i h1
  refine ⟨(hc 6 4 (by omega) (by decide)).trans a1, (hc 7 4 (by omega) (by decide)).trans a2, fun x hx => ?_, (hc 12 8 (by omega) (by decide)).trans a4, (hc 12 9 (by omega) (by decide)).trans a5, fun k hk => ?_, fun k hk => ?_, (hc 15 8 (by omega) (by decide)).trans a8, (hc 15 9 (by omega) (by decide)).trans a9, h3.trans a10⟩
  · have hP := cP_bd D x
    obtain ⟨b1, b2, b3⟩ := a3 x hx
    rw [cRow_K, cRow_P h8]
    refine ⟨(hc 8 (24 + x) (by omega) (by decide)).trans b1, ?_, fun i hi => ?_⟩
    · rw [ma_A, if_pos rfl]
      by_cases e : x = r
      · rw [if_pos e, e, upd_s]
      · rw [if_neg e, upd_o _ _ (by omega), h2 _ _ (by omega)]; exact b2
    · by_cases e : x = r
      · subst e
        rw [if_pos rfl] at hi
        have hbi := hb i hi
        rw [cRow_H (by omega) hbi.1, cRow_T (by omega) (by omega), if_pos rfl, if_pos rfl]
        exact h4 i hi
      · rw [if_neg e] at hi
        rw [cRow_Hq (by omega) e, cRow_Tq (by omega) e, hc 10 _ (by omega) (by decide), hc 11 _ (by omega) (by decide)]
        exact b3 i hi
  · rw [cRow_Lo, cRow_Hi, hc 13 _ (by omega) (by decide), hc 13 _ (by omega) (by decide)]
    exact a6 k hk
  · rw [cRow_F, cRow_A, cRow_D, hc 14 _ (by omega) (by decide), hc 14 _ (by omega) (by decide), hc 14 _ (by omega) (by decide)]
    exact a7 k hk
theorem RoM_0 {r : Nat} (h : RdM S D g) : RoM S D g r (0, fun _ => 0, fun _ => 0) := ⟨S, h, fun _ _ _ => rfl, rfl, fun i hi => absurd hi (Nat.not_lt_zero i)⟩
theorem M_throws (hT : TpM S T) (hN : 1000000 ≤ N) {r : Nat} (h : Gd S T q) (hr : RdM S D g) (hrr : r < cR D) (hF : FrD S0 S) : CmC T o w S0 g (bnd (aRw T (cR D) r 9 (0, fun _ => 0, fun _ => 0) q) fun s q => .inl (cRow D r s.1 s.2.1 s.2.2, q)) (fX5_throwsLine N (emM o S w) o (J (r : Int))) := by
  have hR := cR_le D
  have hn := hT.2.1
  unfold fX5_throwsLine
  rw [Option.bind_some, show (24 : Int32) + J (r : Int) = J ((24 + r : Nat) : Int) by rw [show (24 : Int32) = J 24 from rfl, J_add]; congr 1]
  have key := M_row_7 (N := N) (o := o) (w := w) (T := T) (D := D) (g := g) (S0 := S0) hN hrr (k32 := fun w16 =>
      (gI w16 [5] o 10).bind fun x17 =>
      (fX5_in N w16 x17.toInt64 (0 : Int64) (9 : Int64)).bind fun x18 =>
      if x18 = 0 then
        (fX5_fails N w16 o (2 : Int32)).bind fun w19 =>
        some w19
      else
        (fX5_fails N w16 o (3 : Int32)).bind fun w20 =>
        some w20) (fun q S hk hg => ?_) 9 (0, fun _ => 0, fun _ => 0) q S N (by omega) rfl (by decide) (fun e => absurd rfl e) hT h (RoM_0 hr) hF
  · unfold RoQ at key
    cases hrw : aRw T (cR D) r 9 (0, fun _ => 0, fun _ => 0) q with
    | inr e =>
      obtain ⟨k, p⟩ := e
      rw [hrw] at key
      exact key
    | inl e =>
      obtain ⟨s', q'⟩ := e
      rw [hrw] at key
      obtain ⟨S', e1, h1, h2, h3⟩ := key
      obtain ⟨s1, sb⟩ := aRw_ok hrr 9 (0, fun _ => 0, fun _ => 0) q (by decide) (fun i hi => absurd hi (Nat.not_lt_zero i)) s' q' hrw
      exact ⟨_, e1, Gd_A h1 _ _ _, RdM_row h2 (by omega) hR s1 sb, FrD_t h3 (Fr_9 _)⟩
  · have hv9 := vl_bd hn q
    obtain ⟨v, e10, hv, hv2⟩ := hg.2.2.2.2.2.1 hk
    rw [mg_10, Option.bind_some, e10, J_long (by omega), jl_0, show (9 : Int64) = JL 9 from rfl, M_in (by omega), Option.bind_some]
    by_cases hb : 0 ≤ vl T q ∧ vl T q ≤ 9
    · rw [if_pos hb, Bp_t (by omega), if_neg (show ¬ J 1 = (0 : Int32) by decide)]
      obtain ⟨S3, e3, h3, f3⟩ := M_failsG (N := N) (o := o) (w := w) hg (k := 3) (by omega)
      rw [show fX5_fails N (emM o S w) o (3 : Int32) = some (emM o S3 w) from e3, Option.bind_some]
      exact ⟨S3, rfl, h3, FrN_D f3⟩
    · rw [if_neg hb, Bp_f (by omega), if_pos (show J 0 = (0 : Int32) from rfl)]
      obtain ⟨S3, e3, h3, f3⟩ := M_failsG (N := N) (o := o) (w := w) hg (k := 2) (by omega)
      rw [show fX5_fails N (emM o S w) o (2 : Int32) = some (emM o S3 w) from e3, Option.bind_some]
      exact ⟨S3, rfl, h3, FrN_D f3⟩
def mRw (N : Nat) (w : Wd) (o : Nat) : Option Wd :=
          (fX5_asks N w o (291595537 : Int64)).bind fun w6 =>
          (fX5_roof N w6 o).bind fun x7 =>
          (fX5_isGood N x7.2 o).bind fun x8 =>
          if x8 = 0 then
            some x7.2
          else
            (fX5_throwsLine N x7.2 o x7.1).bind fun w9 =>
            some w9
theorem M_rw (hT : TpM S T) (hN : 1000000 ≤ N) (h : Gd S T q) (hr : RdM S D g) : CmG T o w S (if isW T 11 q = true then wiG (aRow T D (nx T q)) g else .inr (1, q)) (mRw N (emM o S w) o) := by
  have hR := cR_le D
  have t1 : ¬ J 1 = (0 : Int32) := by decide
  have t0 : J 0 = (0 : Int32) := rfl
  have badEnd : ∀ (S' : MS) (k p : Nat) (y : Int32), Bd S' k p → FrD S S' → ∃ S'', ((fX5_isGood N (emM o S' w) o).bind fun x8 => if x8 = 0 then some (emM o S' w) else (fX5_throwsLine N (emM o S' w) o y).bind fun w9 => some w9) = some (emM o S'' w) ∧ Bd S'' k p ∧ FrD S S'' := by
    intro S' k p y hb hF
    exact ⟨S', by rw [M_isGoodB hb, Option.bind_some, if_pos t0], hb, hF⟩
  have ha := M_asksG (N := N) (o := o) (w := w) hT hN h (i := 11) (by decide)
  unfold mRw
  rw [show (291595537 : Int64) = JL (wK 11) from rfl]
  unfold aNeeds CmU at ha
  by_cases w11 : isW T 11 q = true
  · rw [if_pos w11] at ha ⊢
    obtain ⟨S1, e1, h1, f1⟩ := ha
    refine CmC_wi ?_
    unfold aRow
    rw [e1, Option.bind_some]
    refine mbV (M_roofG (N := N) (o := o) (w := w) (TpM_N hT f1) hN h1 hR (RdM_N hr f1).2.1) (fun x q2 S2 hx h2 f2 => ?_) (fun k p S2 y h2 f2 => ?_)
    · have hx1 := aNum_ok hx
      obtain ⟨r, er⟩ : ∃ r : Nat, x = (r : Int) := ⟨x.toNat, by omega⟩
      subst er
      have F2 := FrN_t f1 f2
      simp only
      rw [M_isGood h2.1, Option.bind_some, if_neg t1, Int.toNat_natCast]
      have := M_throws (N := N) (o := o) (w := w) (S0 := S) (r := r) (TpM_N hT F2) hN h2 (RdM_N hr F2) (by omega) (FrN_D F2)
      rw [show ((fX5_throwsLine N (emM o S2 w) o (J (r : Int))).bind fun w9 => some w9) = fX5_throwsLine N (emM o S2 w) o (J (r : Int)) from by cases fX5_throwsLine N (emM o S2 w) o (J (r : Int)) <;> rfl]
      exact this
    · exact badEnd S2 k p y h2 (FrN_D (FrN_t f1 f2))
  · rw [if_neg w11] at ha ⊢
    obtain ⟨S1, e1, h1, f1⟩ := ha
    rw [e1, Option.bind_some, M_roofB h1, Option.bind_some]
    exact badEnd S1 1 q (J 0) h1 (FrN_D f1)
theorem M_127B {k p : Nat} (h : Bd S k p) (x y : Int32) : fX5_line_127 N (emM o S w) o x y = some (emM o S w) := by
  unfold fX5_line_127
  rw [mg_12, Option.bind_some, if_neg (Bd_ne h)]
theorem M_122 (h : Gd S T q) (x y : Int32) : CmG T o w S (.inr (3, q)) (fX5_line_122 N (emM o S w) o x y) := by
  obtain ⟨S3, e3, h3, f3⟩ := M_failsG (N := N) (o := o) (w := w) h (k := 3) (by omega)
  unfold fX5_line_122
  rw [show fX5_fails N (emM o S w) o (3 : Int32) = some (emM o S3 w) from e3, Option.bind_some, M_127B h3]
  exact ⟨S3, rfl, h3, FrN_D f3⟩
theorem M_line (hT : TpM S T) (hN : 1000000 ≤ N) (h : Gd S T q) (hr : RdM S D g) : CmG T o w S (aLine T D g q) (fX5_line N (emM o S w) o) := by
  have hn := hT.2.1
  have t1 : ¬ J 1 = (0 : Int32) := by decide
  have t0 : J 0 = (0 : Int32) := rfl
  have ne : ∀ {i j : Nat}, i < 15 → j < 15 → i ≠ j → isW T i q = true → ¬ isW T j q = true := fun hi hj hne h1 h2 => hne (isW_ne hn hi hj h1 h2)
  unfold fX5_line aLine
  rw [show (4147840 : Int64) = JL (wK 14) from rfl, show (1960084 : Int64) = JL (wK 12) from rfl, show (175252482 : Int64) = JL (wK 13) from rfl, M_isG hn h (i := 14) (by decide), Option.bind_some]
  by_cases w14 : isW T 14 q = true
  · rw [Bp_t w14, if_neg t1, if_neg (ne (by decide) (by decide) (by decide) w14 : ¬ isW T 10 q = true), if_neg (ne (by decide) (by decide) (by decide) w14 : ¬ isW T 11 q = true), if_neg (ne (by decide) (by decide) (by decide) w14 : ¬ isW T 12 q = true), if_neg (ne (by decide) (by decide) (by decide) w14 : ¬ isW T 13 q = true), if_pos w14, mg_26, Option.bind_some, hr.2.2.2.2.2.2.2.2.2]
    by_cases hg : g = true
    · rw [Bp_t hg, if_neg t1, if_pos hg]
      obtain ⟨S3, e3, h3, f3⟩ := M_failsG (N := N) (o := o) (w := w) h (k := 2) (by omega)
      rw [show fX5_fails N (emM o S w) o (2 : Int32) = some (emM o S3 w) from e3, Option.bind_some]
      unfold fX5_line_22
      rw [mg_12, Option.bind_some, if_neg (Bd_ne h3)]
      exact ⟨S3, rfl, h3, FrN_D f3⟩
    · rw [Bp_f hg, if_pos t0, if_neg hg]
      exact M_line22 hT hN h hr
  rw [Bp_f w14, if_pos t0, M_isG hn h (i := 12) (by decide), Option.bind_some, M_isG hn h (i := 13) (by decide), Option.bind_some]
  by_cases w12 : isW T 12 q = true
  · have n13 : ¬ isW T 13 q = true := ne (by decide) (by decide) (by decide) w12
    rw [Bp_t w12, Bp_f n13, if_neg t1, if_neg (ne (by decide) (by decide) (by decide) w12 : ¬ isW T 10 q = true), if_neg (ne (by decide) (by decide) (by decide) w12 : ¬ isW T 11 q = true), if_pos w12, mg_22, Option.bind_some, show (8 : Int32) = J 8 from rfl, mr_12 o S w (by omega), Option.bind_some, show (8 : Int).toNat = 8 from rfl, hr.2.2.2.1]
    have hX : cX D ≤ 6 := by unfold cX; omega
    by_cases h6 : cX D = 6
    · rw [if_pos h6, if_pos (show J (cX D : Int) = (6 : Int32) by rw [h6]; rfl)]
      exact M_122 h _ _
    · rw [if_neg h6, if_neg (show ¬ J (cX D : Int) = (6 : Int32) by rw [show (6 : Int32) = J 6 from rfl, J_eq (by omega)]; omega)]
      unfold fX5_line_106 fX5_line_127
      rw [if_pos t0, mg_12, Option.bind_some, h.1, if_pos t0, if_neg t1]
      exact M_lineC hT hN h hr (by omega)
  rw [Bp_f w12, if_pos t0]
  unfold fX5_line_106
  by_cases w13 : isW T 13 q = true
  · rw [Bp_t w13, if_neg t1, if_neg (ne (by decide) (by decide) (by decide) w13 : ¬ isW T 10 q = true), if_neg (ne (by decide) (by decide) (by decide) w13 : ¬ isW T 11 q = true), if_neg w12, if_pos w13, mg_22, Option.bind_some, show (9 : Int32) = J 9 from rfl, mr_12 o S w (by omega), Option.bind_some, show (9 : Int).toNat = 9 from rfl, hr.2.2.2.2.1]
    have hX : cN D ≤ 8 := by unfold cN; omega
    by_cases h6 : cN D = 8
    · rw [if_pos h6, if_pos (show J (cN D : Int) = (8 : Int32) by rw [h6]; rfl)]
      exact M_122 h _ _
    · rw [if_neg h6, if_neg (show ¬ J (cN D : Int) = (8 : Int32) by rw [show (8 : Int32) = J 8 from rfl, J_eq (by omega)]; omega)]
      unfold fX5_line_127
      rw [mg_12, Option.bind_some, h.1, if_pos t0, if_pos t0, if_neg t1]
      exact M_lineL hT hN h hr (by omega)
  rw [Bp_f w13, if_pos t0, if_neg w12, if_neg w13, if_neg w14]
  unfold fX5_line_127
  rw [mg_12, Option.bind_some, h.1, if_pos t0, if_pos t0, if_pos t0, show (7873079139 : Int64) = JL (wK 10) from rfl]
  obtain ⟨S2, e2, h2, f2⟩ := M_takesG (N := N) (o := o) (w := w) hT hN h (i := 10) (by decide)
  have f2 := FrL_N f2
  have lift : ∀ r x, CmG T o w S2 r x → CmG T o w S r x := by
    intro r x hc
    cases r with
    | inl y =>
      obtain ⟨⟨D', b'⟩, q'⟩ := y
      obtain ⟨S', a1, a2, a3, a4⟩ := hc
      exact ⟨S', a1, a2, a3, FrD_t (FrN_D f2) a4⟩
    | inr e =>
      obtain ⟨k, p⟩ := e
      obtain ⟨S', a1, a2, a4⟩ := hc
      exact ⟨S', a1, a2, FrD_t (FrN_D f2) a4⟩
  rw [e2, Option.bind_some]
  by_cases w10 : isW T 10 q = true
  · rw [if_pos w10] at h2 ⊢
    rw [Bp_t w10]
    simp only
    rw [if_neg t1]
    exact lift _ _ (M_th (TpM_N hT f2) hN h2 (RdM_N hr f2))
  · rw [if_neg w10] at h2 ⊢
    rw [Bp_f w10]
    simp only
    rw [if_pos t0]
    exact lift _ _ (M_rw (TpM_N hT f2) hN h2 (RdM_N hr f2))
end
