/-! the reference: a row line -/
set_option maxRecDepth 100000
section
variable {N o q : Nat} {S S0 : MS} {w : Wd} {T : Tx} {D : Cy} {g b : Bool}
theorem FrD_2 {r i : Nat} (x y : Int32) : FrD S (mSA (mSA S 10 (8 * (24 + r) + i) x) 11 (8 * (24 + r) + i) y) := FrD_t (Fr_10 10 (Or.inl rfl) _) (Fr_10 11 (Or.inr rfl) _)
theorem M_row_7 (hN : 1000000 ≤ N) {r : Nat} (hr : r < cR D) {k32 : Wd → Option Wd}
    (h32 : ∀ (q : Nat) (S : MS), kd T q = 2 → Gd S T q → ∃ S', k32 (emM o S w) = some (emM o S' w) ∧ Bd S' (if 0 ≤ vl T q ∧ vl T q ≤ 9 then 3 else 2) q ∧ FrD S S') :
    ∀ (m : Nat) (s : Rw) (q : Nat) (S : MS) (f : Nat), m + 2 ≤ f → s.1 + m = 9 → s.1 ≤ 8 → (s.1 ≠ 0 → kd T q = 2) → TpM S T → Gd S T q → RoM S D g r s → FrD S0 S → RoQ T o w S0 D g r (aRw T (cR D) r m s q) (fX5_throwsLine_7 N o (J (r : Int)) (J ((24 + r : Nat) : Int)) k32 (kR o r) f (J (s.1 : Int)) (emM o S w)) := by
  have hR := cR_le D
  have t1 : ¬ J 1 = (0 : Int32) := by decide
  have t0 : J 0 = (0 : Int32) := rfl
  intro m
  induction m with
  | zero => intro s q S f hf h1 h2; omega
  | succ m ih =>
    intro s q S f hf hm hs8 hk hT h hro hF
    obtain ⟨f', ef⟩ : ∃ f', f = f' + 2 := ⟨f - 2, by omega⟩
    subst ef
    have hn := hT.2.1
    have hk4 := kd_le T q
    -- one pass
    have pass : RoQ T o w S0 D g r (aRw T (cR D) r (m + 1) s q) (fX5_throwsLine_26 N (emM o S w) o (J (r : Int)) (J ((24 + r : Nat) : Int)) (J (s.1 : Int)) (fX5_throwsLine_7 N o (J (r : Int)) (J ((24 + r : Nat) : Int)) k32 (kR o r) (f' + 1)) k32 (kR o r)) := by
      unfold fX5_throwsLine_26
      rw [aRw]
      by_cases h8 : s.1 = 8
      · rw [if_pos h8, if_pos (show J (s.1 : Int) = (8 : Int32) by rw [h8]; rfl)]
        obtain ⟨S', e, b1, b2⟩ := h32 q S (hk (by omega)) h
        exact ⟨S', e, b1, FrD_t hF b2⟩
      rw [if_neg h8, if_neg (show ¬ J (s.1 : Int) = (8 : Int32) by rw [show (8 : Int32) = J 8 from rfl, J_eq (by omega)]; omega)]
      -- behind the target
      have tail : ∀ (x y : Int) (q' : Nat) (S' : MS), 0 ≤ x → 0 ≤ y → TpM S' T → Gd S' T q' → RoM S' D g r s → FrD S0 S' → RoQ T o w S0 D g r (if kd T q' = 2 then aRw T (cR D) r m (rwS s x.toNat y.toNat) q' else .inl (rwS s x.toNat y.toNat, q')) (fX5_throwsLine_118 N (emM o S' w) o (J (r : Int)) (J ((24 + r : Nat) : Int)) (J (s.1 : Int)) (J x) (J y) (fX5_throwsLine_7 N o (J (r : Int)) (J ((24 + r : Nat) : Int)) k32 (kR o r) (f' + 1)) k32 (kR o r)) := by
        intro x y q' S' hx hy hT' hg hro' hF'
        rw [M_118 (by omega) (by omega)]
        have hp := RoM_set hro' (by omega) x.toNat y.toNat
        rw [show ((x.toNat : Nat) : Int) = x by omega, show ((y.toNat : Nat) : Int) = y by omega] at hp
        have F2 := FrD_t hF' (FrD_2 (S := S') (r := r) (i := s.1) (J x) (J y))
        have hk4 := kd_le T q'
        by_cases hk2 : kd T q' = 2
        · rw [if_pos hk2]
          exact ih (rwS s x.toNat y.toNat) q' _ (f' + 1) (by omega) (show s.1 + 1 + m = 9 by omega) (show s.1 + 1 ≤ 8 by omega) (fun _ => hk2) (TpM_D hT' (FrD_2 _ _)) (Gd_A (Gd_A hg _ _ _) _ _ _) hp F2
        · rw [if_neg hk2, fX5_throwsLine_7, M_isGood (S := mSA (mSA S' 10 (8 * (24 + r) + s.1) (J x)) 11 (8 * (24 + r) + s.1) (J y)) hg.1, Option.bind_some, if_neg t1, if_neg (show ¬ J ((s.1 + 1 : Nat) : Int) = (0 : Int32) by rw [show (0 : Int32) = J 0 from rfl, J_eq (by omega)]; omega), mg_8, Option.bind_some, show mi (mSA (mSA S' 10 (8 * (24 + r) + s.1) (J x)) 11 (8 * (24 + r) + s.1) (J y)) 8 = J (kd T q' : Int) from hg.2.2.2.2.1, if_neg (show ¬ J (kd T q' : Int) = (2 : Int32) by rw [jn_2, J_eq (by omega)]; omega), kR_of (by omega)]
          exact ⟨_, rfl, Gd_A (Gd_A hg _ _ _) _ _ _, hp, F2⟩
      have tailB : ∀ (x y : Int32) (k p : Nat) (S' : MS), Bd S' k p → FrD S0 S' → RoQ T o w S0 D g r (.inr (k, p)) (fX5_throwsLine_118 N (emM o S' w) o (J (r : Int)) (J ((24 + r : Nat) : Int)) (J (s.1 : Int)) x y (fX5_throwsLine_7 N o (J (r : Int)) (J ((24 + r : Nat) : Int)) k32 (kR o r) (f' + 1)) k32 (kR o r)) := by
        intro x y k p S' hb hF'
        rw [M_118 (by omega) (by omega)]
        obtain ⟨S'', e, b1, b2⟩ := M_loopB (N := N) (o := o) (w := w) (r := r) (by omega) (Bd_A (Bd_A hb 10 (8 * (24 + r) + s.1) x) 11 (8 * (24 + r) + s.1) y) k32 (J (r : Int)) (J ((24 + r : Nat) : Int)) (J ((s.1 + 1 : Nat) : Int)) f'
        exact ⟨S'', e, b1, FrD_t hF' (FrD_t (FrD_2 _ _) b2)⟩
      have hnum := M_numG (N := N) (o := o) (w := w) hT hN h (lo := 0) (hi := 9) (by omega)
      unfold CmV at hnum
      cases hr1 : aNum T 0 9 q with
      | inr e =>
        obtain ⟨k, p⟩ := e
        rw [hr1] at hnum
        obtain ⟨S1, y, e1, h1, f1⟩ := hnum
        rw [show fX5_number N (emM o S w) o (0 : Int32) (9 : Int32) = some (y, emM o S1 w) from e1, Option.bind_some]
        simp only [bnd]
        rw [M_takesB h1, Option.bind_some]
        simp only
        rw [if_pos t0]
        exact tailB y _ k p S1 h1 (FrD_t hF (FrN_D f1))
      | inl e =>
        obtain ⟨x, q1⟩ := e
        rw [hr1] at hnum
        have hx := aNum_ok hr1
        obtain ⟨S1, e1, h1, f1⟩ := hnum
        have hT1 := TpM_N hT f1
        have F1 := FrD_t hF (FrN_D f1)
        have ro1 := RoM_N hro f1
        rw [show fX5_number N (emM o S w) o (0 : Int32) (9 : Int32) = some (J x, emM o S1 w) from e1, Option.bind_some]
        simp only [bnd]
        obtain ⟨S2, e2, h2, f2⟩ := M_takesG (N := N) (o := o) (w := w) hT1 hN h1 (i := 6) (by decide)
        have f2 := FrL_N f2
        have hT2 := TpM_N hT1 f2
        have F2 := FrD_t F1 (FrN_D f2)
        have ro2 := RoM_N ro1 f2
        rw [show (555 : Int64) = JL (wK 6) from rfl, e2, Option.bind_some]
        by_cases w6 : isW T 6 q1 = true
        · rw [if_pos w6] at h2 ⊢
          rw [Bp_t w6]
          simp only
          rw [if_neg t1, mg_12, Option.bind_some, h2.1, if_pos t0, mg_8, Option.bind_some, h2.2.2.2.2.1]
          have hkq := kd_le T (nx T q1)
          have hroof := M_roofG (N := N) (o := o) (w := w) hT2 hN h2 hR (RoM_R ro2)
          have go : RoQ T o w S0 D g r (bnd (aNum T 0 ((cR D : Int) - 1) (nx T q1)) fun t q => if kd T q = 2 then aRw T (cR D) r m (rwS s x.toNat t.toNat) q else .inl (rwS s x.toNat t.toNat, q)) (fX5_throwsLine_112 N (emM o S2 w) o (J (r : Int)) (J ((24 + r : Nat) : Int)) (J (s.1 : Int)) (J x) (fX5_throwsLine_7 N o (J (r : Int)) (J ((24 + r : Nat) : Int)) k32 (kR o r) (f' + 1)) k32 (kR o r)) := by
            unfold fX5_throwsLine_112
            unfold CmV at hroof
            cases hr2 : aNum T 0 ((cR D : Int) - 1) (nx T q1) with
            | inr e =>
              obtain ⟨k, p⟩ := e
              rw [hr2] at hroof
              obtain ⟨S3, y, e3, h3, f3⟩ := hroof
              rw [e3, Option.bind_some]
              exact tailB _ _ k p S3 h3 (FrD_t F2 (FrN_D f3))
            | inl e =>
              obtain ⟨y, q2⟩ := e
              rw [hr2] at hroof
              have hy := aNum_ok hr2
              obtain ⟨S3, e3, h3, f3⟩ := hroof
              rw [e3, Option.bind_some]
              exact tail x y q2 S3 hx.1.1 hy.1.1 (TpM_N hT2 f3) h3 (RoM_N ro2 f3) (FrD_t F2 (FrN_D f3))
          by_cases hk2 : kd T (nx T q1) = 2
          · rw [if_pos (show J (kd T (nx T q1) : Int) = (2 : Int32) by rw [hk2]; rfl)]
            by_cases hx0 : x = 0
            · subst hx0
              rw [if_pos t0, mg_10, Option.bind_some]
              obtain ⟨v, e10, hv, hv2⟩ := h2.2.2.2.2.2.1 hk2
              have hv9 := vl_bd hn (nx T q1)
              rw [e10]
              by_cases hvr : v = (r : Int)
              · rw [if_pos (show J v = J (r : Int) by rw [hvr]), if_neg (fun e => e.2.2 (by omega))]
                exact go
              · rw [if_neg (show ¬ J v = J (r : Int) by rw [J_eq (by omega)]; exact hvr), if_pos ⟨rfl, hk2, by omega⟩]
                obtain ⟨S3, e3, h3, f3⟩ := M_failsG (N := N) (o := o) (w := w) h2 (k := 2) (by omega)
                rw [show fX5_fails N (emM o S2 w) o (2 : Int32) = some (emM o S3 w) from e3, Option.bind_some]
                unfold fX5_throwsLine_112
                rw [M_roofB h3, Option.bind_some]
                exact tailB _ _ 2 _ S3 h3 (FrD_t F2 (FrN_D f3))
            · rw [if_neg (show ¬ J x = (0 : Int32) by rw [show (0 : Int32) = J 0 from rfl, J_eq (by omega)]; exact hx0), if_neg (fun e => hx0 e.1)]
              exact go
          · rw [if_neg (show ¬ J (kd T (nx T q1) : Int) = (2 : Int32) by rw [jn_2, J_eq (by omega)]; omega), if_neg (fun e => hk2 e.2.1)]
            exact go
        · rw [if_neg w6] at h2 ⊢
          rw [Bp_f w6]
          simp only
          rw [if_pos t0]
          exact tail x (r : Int) q1 S2 hx.1.1 (by omega) hT2 h2 ro2 F2
    rw [fX5_throwsLine_7, M_isGood h.1, Option.bind_some, if_neg t1]
    by_cases h0 : s.1 = 0
    · rw [if_pos (show J (s.1 : Int) = (0 : Int32) by rw [h0]; rfl)]
      exact pass
    · rw [if_neg (show ¬ J (s.1 : Int) = (0 : Int32) by rw [show (0 : Int32) = J 0 from rfl, J_eq (by omega)]; omega), mg_8, Option.bind_some, h.2.2.2.2.1, if_pos (show J (kd T q : Int) = (2 : Int32) by rw [hk h0]; rfl)]
      exact pass
end
