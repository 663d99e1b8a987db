/-! the reference: crossings, letters -/
set_option maxRecDepth 100000
def cCr_S (S : MS) (n : Nat) (lo hi : Int32) : MS := mSA (mSA (mSA S 13 (2 * (24 + n)) lo) 13 (2 * (24 + n) + 1) hi) 12 8 (J ((n + 1 : Nat) : Int))
def mCr (N : Nat) (w : Wd) (o : Nat) (v3 v4 : Int32) : Option Wd :=
  (gR w [5] o 22).bind fun x43 =>
  (aI 0 w x43 (8 : Int32)).bind fun x44 =>
  (some (((2 : Int32) * ((24 : Int32) + x44)))).bind fun x45 =>
  (gR w [5] o 23).bind fun x46 =>
  if v4 ≤ v3 then
    fX5_line_187 N w o v3 v4 x45 x46 x45 v4
  else
    fX5_line_187 N w o v3 v4 x45 x46 x45 v3
def mLe3 (N : Nat) (o : Nat) (x24 : Int32) (w31 : Wd) : Option Wd :=
  (gR w31 [5] o 24).bind fun x32 =>
  (gR w31 [5] o 24).bind fun x33 =>
  (aI 0 w31 x33 x24).bind fun x34 =>
  (fX5_other N w31 o x34).bind fun x35 =>
  (sI 0 x35.2 x32 (x24 + (2 : Int32)) x35.1).bind fun w36 =>
  (gR w36 [5] o 22).bind fun x37 =>
  (aI 0 w36 x37 (9 : Int32)).bind fun x38 =>
  (sI 0 w36 x37 (9 : Int32) (x38 + (1 : Int32))).bind fun w39 =>
  some w39
def mLe2 (N : Nat) (o : Nat) (x24 : Int32) (x28 : Nat) (x29 : Int32 × Wd) : Option Wd :=
  (sI 0 x29.2 x28 (x24 + (1 : Int32)) x29.1).bind fun w30 =>
  (fX5_asks N w30 o (555 : Int64)).bind fun w31 =>
  mLe3 N o x24 w31
def mLe1 (N : Nat) (o : Nat) (x24 : Int32) (x25 : Nat) (x26 : Int32 × Wd) : Option Wd :=
  (sI 0 x26.2 x25 x24 x26.1).bind fun w27 =>
  (gR w27 [5] o 24).bind fun x28 =>
  (fX5_number_2 N w27 o (47 : Int64) (0 : Int32) (9999 : Int32)).bind fun x29 =>
  mLe2 N o x24 x28 x29
section
variable {N o q : Nat} {S S0 : MS} {w : Wd} {T : Tx} {D : Cy} {g b : Bool}
theorem Fr_cr {n : Nat} (hn : n < 6) (lo hi : Int32) : FrD S (cCr_S S n lo hi) := by
  have h13 : 4 * bdS.getD 13 0 = 48 := rfl
  exact FrD_t (FrD_t (FrD_A _ _ _ _ (by decide) (by omega)) (FrD_A _ _ _ _ (by decide) (by omega))) (FrD_A _ _ _ _ (by decide) (by decide))
theorem M_cr {n : Nat} (hn : n < 6) (h : ma S 12 8 = J (n : Int)) (x y : Int32) : mCr N (emM o S w) o x y = some (emM o (cCr_S S n (if y ≤ x then y else x) (if y ≤ x then x else y)) w) := by
  have e1 : (2 : Int32) * ((24 : Int32) + J (n : Int)) = J ((2 * (24 + n) : Nat) : Int) := by rw [show (2 : Int32) = J 2 from rfl, show (24 : Int32) = J 24 from rfl, J_add, J_mul]; congr 1
  have e2 : J ((2 * (24 + n) : Nat) : Int) + (1 : Int32) = J ((2 * (24 + n) + 1 : Nat) : Int) := by rw [jn_1, J_add, castS]
  have tl : ∀ lo hi, fX5_line_208 N (emM o (mSA S 13 (2 * (24 + n)) lo) w) o (o + 13) (J ((2 * (24 + n) + 1 : Nat) : Int)) hi = some (emM o (cCr_S S n lo hi) w) := by
    intro lo hi
    unfold fX5_line_208
    rw [mw_13 o _ w hi (by omega), Option.bind_some, mg_22, Option.bind_some, show (8 : Int32) = J 8 from rfl, mr_12 o _ w (by omega), Option.bind_some, Int.toNat_natCast]
    have e3 : ma (mSA (mSA S 13 (2 * (24 + n)) lo) 13 (2 * (24 + n) + 1) hi) 12 (8 : Int).toNat = J (n : Int) := h
    rw [e3, jn_1, J_add, castS, mw_12 o _ w _ (by omega), Option.bind_some]; rfl
  unfold mCr
  rw [mg_22, Option.bind_some, show (8 : Int32) = J 8 from rfl, mr_12 o S w (by omega), Option.bind_some, show (8 : Int).toNat = 8 from rfl, h, e1, Option.bind_some, mg_23, Option.bind_some]
  unfold fX5_line_187
  by_cases hc : y ≤ x
  · rw [if_pos hc, if_pos hc, if_pos hc, mw_13 o S w y (by omega), Option.bind_some, mg_23, Option.bind_some, if_pos hc, e2, Int.toNat_natCast, tl]
  · rw [if_neg hc, if_neg hc, if_neg hc, mw_13 o S w x (by omega), Option.bind_some, mg_23, Option.bind_some, if_neg hc, e2, Int.toNat_natCast, tl]
theorem RdM_cr (h : RdM S D g) (hX : cX D < 6) {lo hi : Nat} (hl : lo ≤ 5) (hh : hi ≤ 5) : RdM (cCr_S S (cX D) (J (lo : Int)) (J (hi : Int))) (cCr D lo hi) g := by
  have eX := cCr_X (lo := lo) (hi := hi) hX
  obtain ⟨a1, a2, a3, a4, a5, a6, a7, a8, a9, a10⟩ := h
  refine ⟨a1, a2, a3, ?_, ?_, fun k hk => ?_, a7, a8, a9, a10⟩
  · rw [eX]
    unfold cCr_S
    rw [ma_A, if_pos rfl, upd_s]
  · unfold cCr_S
    rw [ma_A, if_pos rfl, upd_o _ _ (by decide)]
    exact a5
  · rw [eX] at hk
    rw [cCr_Lo hl, cCr_Hi hh]
    unfold cCr_S
    rw [ma_A, if_neg (by decide), ma_A, if_pos rfl, ma_A, if_pos rfl]
    by_cases e : k = cX D
    · rw [if_pos e, if_pos e, e, upd_o _ _ (by omega), upd_s, upd_s]
      exact ⟨rfl, rfl⟩
    · rw [if_neg e, if_neg e, upd_o _ _ (by omega), upd_o _ _ (by omega), upd_o _ _ (by omega), upd_o _ _ (by omega)]
      exact a6 k (by omega)
theorem M_lineC (hT : TpM S T) (hN : 1000000 ≤ N) (h : Gd S T q) (hr : RdM S D g) (hX : cX D < 6) : CmG T o w S (wiG (aCross T D (nx T q)) g) ((fX5_next N (emM o S w) o).bind fun w40 => (fX5_roof N w40 o).bind fun x41 => (fX5_other N x41.2 o x41.1).bind fun x42 => mCr N x42.2 o x41.1 x42.1) := by
  refine CmC_wi ?_
  unfold aCross
  have hR := cR_le D
  obtain ⟨S1, e1, h1, f1⟩ := M_nextG (N := N) (o := o) (w := w) hT hN h
  have f1 := FrL_N f1
  rw [e1, Option.bind_some]
  refine mbV (M_roofG (N := N) (o := o) (w := w) (TpM_N hT f1) hN h1 hR (by rw [f1.1]; exact hr.2.1)) (fun x q2 S2 hx h2 f2 => ?_) (fun k p S2 y h2 f2 => ?_)
  · have hx1 := aNum_ok hx
    have F2 := FrN_t f1 f2
    simp only
    refine mbV (M_otherG (N := N) (o := o) (w := w) (TpM_N hT F2) hN h2 hR (by rw [F2.1]; exact hr.2.1) (by omega)) (fun y q3 S3 hy h3 f3 => ?_) (fun k p S3 y h3 f3 => ?_)
    · have hy1 := aOther_ok hy
      have F3 := FrN_t F2 f3
      have r3 := RdM_N hr F3
      simp only
      rw [M_cr hX (r3.2.2.2.1)]
      have hmn : (if J y ≤ J x then J y else J x) = J ((min x.toNat y.toNat : Nat) : Int) := by
        by_cases hc : y ≤ x
        · rw [if_pos (by rw [J_le (by omega)]; exact hc)]; congr 1; omega
        · rw [if_neg (by rw [J_le (by omega)]; exact hc)]; congr 1; omega
      have hmx : (if J y ≤ J x then J x else J y) = J ((max x.toNat y.toNat : Nat) : Int) := by
        by_cases hc : y ≤ x
        · rw [if_pos (by rw [J_le (by omega)]; exact hc)]; congr 1; omega
        · rw [if_neg (by rw [J_le (by omega)]; exact hc)]; congr 1; omega
      rw [hmn, hmx]
      exact ⟨_, rfl, h3, RdM_cr r3 hX (by omega) (by omega), FrD_t (FrN_D F3) (Fr_cr hX _ _)⟩
    · have F3 := FrN_t F2 f3
      simp only
      rw [M_cr hX (by rw [F3.1]; exact hr.2.2.2.1)]
      exact ⟨_, rfl, h3, FrD_t (FrN_D F3) (Fr_cr hX _ _)⟩
  · have F2 := FrN_t f1 f2
    simp only
    rw [M_otherB h2, Option.bind_some]
    simp only
    rw [M_cr hX (by rw [F2.1]; exact hr.2.2.2.1)]
    exact ⟨_, rfl, h2, FrD_t (FrN_D F2) (Fr_cr hX _ _)⟩
/-! letters -/
theorem le_idx (n : Nat) : (3 : Int32) * ((32 : Int32) + J (n : Int)) = J ((3 * (32 + n) : Nat) : Int) := by
  rw [show (3 : Int32) = J 3 from rfl, show (32 : Int32) = J 32 from rfl, J_add, J_mul]; congr 1
theorem Fr_14 {n j : Nat} (hn : 96 ≤ 3 * (32 + n) + j) (x : Int32) : FrD S (mSA S 14 (3 * (32 + n) + j) x) := by
  have h14 : 4 * bdS.getD 14 0 = 96 := rfl
  exact FrD_A _ _ _ _ (by decide) (by omega)
theorem M_le3B {n k p : Nat} (hn : n < 8) (hc : ma S 12 9 = J (n : Int)) (h : Bd S k p) : ∃ S'', mLe3 N o (J ((3 * (32 + n) : Nat) : Int)) (emM o S w) = some (emM o S'' w) ∧ Bd S'' k p ∧ FrD S S'' := by
  unfold mLe3
  rw [mg_24, Option.bind_some, Option.bind_some, mr_14 o S w (by omega), Option.bind_some, M_otherB h, Option.bind_some]
  simp only
  rw [show (2 : Int32) = J 2 from rfl, J_add, show ((3 * (32 + n) : Nat) : Int) + 2 = ((3 * (32 + n) + 2 : Nat) : Int) from rfl, mw_14 o S w _ (by omega), Option.bind_some, mg_22, Option.bind_some, show (9 : Int32) = J 9 from rfl, mr_12 o _ w (by omega), Option.bind_some, mw_12 o _ w _ (by omega), Option.bind_some]
  exact ⟨_, rfl, Bd_A (Bd_A h _ _ _) _ _ _, FrD_t (Fr_14 (by omega) _) (FrD_A _ _ _ _ (by decide) (by decide))⟩
theorem M_le2B {n k p : Nat} (hn : n < 8) (hc : ma S 12 9 = J (n : Int)) (h : Bd S k p) (y : Int32) : ∃ S'', mLe2 N o (J ((3 * (32 + n) : Nat) : Int)) (o + 14) (y, emM o S w) = some (emM o S'' w) ∧ Bd S'' k p ∧ FrD S S'' := by
  unfold mLe2
  simp only
  rw [jn_1, J_add, castS, mw_14 o S w _ (by omega), Option.bind_some, M_asksB (Bd_A h _ _ _), Option.bind_some, Int.toNat_natCast]
  obtain ⟨S'', e, h1, h2⟩ := M_le3B (N := N) (o := o) (w := w) (S := mSA S 14 (3 * (32 + n) + 1) y) hn hc (Bd_A h _ _ _)
  exact ⟨S'', e, h1, FrD_t (Fr_14 (by omega) _) h2⟩
theorem M_le1B {n k p : Nat} (hn : n < 8) (hc : ma S 12 9 = J (n : Int)) (h : Bd S k p) (y : Int32) : ∃ S'', mLe1 N o (J ((3 * (32 + n) : Nat) : Int)) (o + 14) (y, emM o S w) = some (emM o S'' w) ∧ Bd S'' k p ∧ FrD S S'' := by
  unfold mLe1
  simp only
  rw [mw_14 o S w _ (by omega), Option.bind_some, mg_24, Option.bind_some, M_toldB (Bd_A h _ _ _), Option.bind_some, Int.toNat_natCast]
  obtain ⟨S'', e, h1, h2⟩ := M_le2B (N := N) (o := o) (w := w) (S := mSA S 14 (3 * (32 + n)) y) hn hc (Bd_A h _ _ _) 0
  exact ⟨S'', e, h1, FrD_t (Fr_14 (j := 0) (by omega) _) h2⟩
/-- a cell of a letter that is not there yet -/
theorem RdM_14 (h : RdM S D g) {j : Nat} (x : Int32) : RdM (mSA S 14 (3 * (32 + cN D) + j) x) D g := by
  obtain ⟨a1, a2, a3, a4, a5, a6, a7, a8, a9, a10⟩ := h
  refine ⟨a1, a2, a3, a4, a5, a6, fun k hk => ?_, a8, a9, a10⟩
  rw [ma_A, if_pos rfl, upd_o _ _ (by omega), upd_o _ _ (by omega), upd_o _ _ (by omega)]
  exact a7 k hk
theorem RdM_le (h : RdM S D g) (hN : cN D < 8) {f a t : Nat} (hb : f ≤ 5 ∧ a ≤ 99999 ∧ t ≤ 5) (h0 : ma S 14 (3 * (32 + cN D)) = J (f : Int)) (h1 : ma S 14 (3 * (32 + cN D) + 1) = J (a : Int)) (h2 : ma S 14 (3 * (32 + cN D) + 2) = J (t : Int)) : RdM (mSA S 12 9 (J ((cN D + 1 : Nat) : Int))) (cLe D f a t) g := by
  have eN := cLe_N (f := f) (a := a) (t := t) hN
  obtain ⟨a1, a2, a3, a4, a5, a6, a7, a8, a9, a10⟩ := h
  refine ⟨a1, a2, a3, ?_, ?_, a6, fun k hk => ?_, a8, a9, a10⟩
  · rw [ma_A, if_pos rfl, upd_o _ _ (by decide)]; exact a4
  · rw [eN, ma_A, if_pos rfl, upd_s]
  · rw [eN] at hk
    rw [cLe_F hb.1, cLe_A hb.2.1, cLe_D hb.2.2, ma_A, if_neg (by decide)]
    by_cases e : k = cN D
    · rw [if_pos e, if_pos e, if_pos e, e]
      exact ⟨h0, h1, h2⟩
    · rw [if_neg e, if_neg e, if_neg e]
      exact a7 k (by omega)
theorem M_lineL (hT : TpM S T) (hN : 1000000 ≤ N) (h : Gd S T q) (hr : RdM S D g) (hX : cN D < 8) : CmG T o w S (wiG (aLetter T D (nx T q)) g) ((fX5_next N (emM o S w) o).bind fun w21 =>
        (gR w21 [5] o 22).bind fun x22 =>
        (aI 0 w21 x22 (9 : Int32)).bind fun x23 =>
        (some (((3 : Int32) * ((32 : Int32) + x23)))).bind fun x24 =>
        (gR w21 [5] o 24).bind fun x25 =>
        (fX5_roof N w21 o).bind fun x26 => mLe1 N o x24 x25 x26) := by
  refine CmC_wi ?_
  unfold aLetter
  have hR := cR_le D
  obtain ⟨S1, e1, h1, f1⟩ := M_nextG (N := N) (o := o) (w := w) hT hN h
  have f1 := FrL_N f1
  have r1 := RdM_N hr f1
  rw [e1, Option.bind_some, mg_22, Option.bind_some, show (9 : Int32) = J 9 from rfl, mr_12 o S1 w (by omega), Option.bind_some, show (9 : Int).toNat = 9 from rfl, r1.2.2.2.2.1, le_idx, Option.bind_some, mg_24, Option.bind_some]
  refine mbV (M_roofG (N := N) (o := o) (w := w) (TpM_N hT f1) hN h1 hR r1.2.1) (fun x q2 S2 hx h2 f2 => ?_) (fun k p S2 y h2 f2 => ?_)
  · have hx1 := aNum_ok hx
    have r2 := RdM_14 (j := 0) (RdM_N r1 f2) (J x)
    have F2 : FrD S (mSA S2 14 (3 * (32 + cN D)) (J x)) := FrD_t (FrN_D (FrN_t f1 f2)) (Fr_14 (j := 0) (by omega) _)
    unfold mLe1
    simp only
    rw [mw_14 o S2 w _ (by omega), Option.bind_some, mg_24, Option.bind_some, Int.toNat_natCast, show (47 : Int64) = JL (wK 7) from rfl, show (0 : Int32) = J 0 from rfl, show (9999 : Int32) = J 9999 from rfl]
    refine mbV (M_toldG (N := N) (o := o) (w := w) (S := mSA S2 14 (3 * (32 + cN D)) (J x)) (TpM_D hT F2) hN (Gd_A h2 _ _ _) (i := 7) (by decide) (lo := 0) (hi' := 9999) (by omega)) (fun y q3 S3 hy h3 f3 => ?_) (fun k p S3 y h3 f3 => ?_)
    · have hy1 := aTold_ok hy
      have r3 := RdM_14 (j := 1) (RdM_N r2 f3) (J y)
      have F3 : FrD S (mSA S3 14 (3 * (32 + cN D) + 1) (J y)) := FrD_t (FrD_t F2 (FrN_D f3)) (Fr_14 (by omega) _)
      unfold mLe2
      simp only
      rw [jn_1, J_add, castS, mw_14 o S3 w _ (by omega), Option.bind_some, Int.toNat_natCast, show (555 : Int64) = JL (wK 6) from rfl]
      refine mbU (M_asksG (N := N) (o := o) (w := w) (S := mSA S3 14 (3 * (32 + cN D) + 1) (J y)) (TpM_D hT F3) hN (Gd_A h3 _ _ _) (i := 6) (by decide)) (fun q4 S4 hz h4 f4 => ?_) (fun k p S4 h4 f4 => ?_)
      · have r4 := RdM_N r3 f4
        have F4 := FrD_t F3 (FrN_D f4)
        have v0 : ma S4 14 (3 * (32 + cN D)) = J x := by rw [f4.1, ma_A, if_pos rfl, upd_o _ _ (by omega), f3.1, ma_A, if_pos rfl, upd_s]
        have v1 : ma S4 14 (3 * (32 + cN D) + 1) = J y := by rw [f4.1, ma_A, if_pos rfl, upd_s]
        unfold mLe3
        rw [mg_24, Option.bind_some, Option.bind_some, mr_14 o S4 w (by omega), Option.bind_some, Int.toNat_natCast, v0]
        refine mbV (M_otherG (N := N) (o := o) (w := w) (TpM_D hT F4) hN h4 hR r4.2.1 (by omega)) (fun z q5 S5 hz h5 f5 => ?_) (fun k p S5 z h5 f5 => ?_)
        · have hz1 := aOther_ok hz
          have r5 := RdM_14 (j := 2) (RdM_N r4 f5) (J z)
          simp only
          rw [show (2 : Int32) = J 2 from rfl, J_add, show ((3 * (32 + cN D) : Nat) : Int) + 2 = ((3 * (32 + cN D) + 2 : Nat) : Int) from rfl, mw_14 o S5 w _ (by omega), Option.bind_some, mg_22, Option.bind_some, show (9 : Int32) = J 9 from rfl, mr_12 o _ w (by omega), Option.bind_some, Int.toNat_natCast, show (9 : Int).toNat = 9 from rfl, r5.2.2.2.2.1, jn_1, J_add, castS, mw_12 o _ w _ (by omega), Option.bind_some]
          have w0 : ma (mSA S5 14 (3 * (32 + cN D) + 2) (J z)) 14 (3 * (32 + cN D)) = J ((x.toNat : Nat) : Int) := by rw [ma_A, if_pos rfl, upd_o _ _ (by omega), f5.1, v0]; congr 1; omega
          have w1 : ma (mSA S5 14 (3 * (32 + cN D) + 2) (J z)) 14 (3 * (32 + cN D) + 1) = J ((y.toNat : Nat) : Int) := by rw [ma_A, if_pos rfl, upd_o _ _ (by omega), f5.1, v1]; congr 1; omega
          have w2 : ma (mSA S5 14 (3 * (32 + cN D) + 2) (J z)) 14 (3 * (32 + cN D) + 2) = J ((z.toNat : Nat) : Int) := by rw [ma_A, if_pos rfl, upd_s]; congr 1; omega
          exact ⟨_, rfl, Gd_A (Gd_A h5 _ _ _) _ _ _, RdM_le r5 hX (by omega) w0 w1 w2, FrD_t (FrD_t (FrD_t F4 (FrN_D f5)) (Fr_14 (by omega) _)) (FrD_A _ _ _ _ (by decide) (by decide))⟩
        · simp only
          rw [show (2 : Int32) = J 2 from rfl, J_add, show ((3 * (32 + cN D) : Nat) : Int) + 2 = ((3 * (32 + cN D) + 2 : Nat) : Int) from rfl, mw_14 o S5 w _ (by omega), Option.bind_some, mg_22, Option.bind_some, show (9 : Int32) = J 9 from rfl, mr_12 o _ w (by omega), Option.bind_some, mw_12 o _ w _ (by omega), Option.bind_some]
          exact ⟨_, rfl, Bd_A (Bd_A h5 _ _ _) _ _ _, FrD_t (FrD_t (FrD_t F4 (FrN_D f5)) (Fr_14 (by omega) _)) (FrD_A _ _ _ _ (by decide) (by decide))⟩
      · obtain ⟨S'', e, b1, b2⟩ := M_le3B (N := N) (o := o) (w := w) hX (RdM_N r3 f4).2.2.2.2.1 h4
        exact ⟨S'', e, b1, FrD_t (FrD_t F3 (FrN_D f4)) b2⟩
    · obtain ⟨S'', e, b1, b2⟩ := M_le2B (N := N) (o := o) (w := w) hX (RdM_N r2 f3).2.2.2.2.1 h3 y
      exact ⟨S'', e, b1, FrD_t (FrD_t F2 (FrN_D f3)) b2⟩
  · obtain ⟨S'', e, b1, b2⟩ := M_le1B (N := N) (o := o) (w := w) hX (RdM_N r1 f2).2.2.2.2.1 h2 y
    exact ⟨S'', e, b1, FrD_t (FrN_D (FrN_t f1 f2)) b2⟩
end
