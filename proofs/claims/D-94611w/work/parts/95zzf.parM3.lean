/-! the reference: throwers, rows -/
set_option maxRecDepth 100000
section
variable {N o q : Nat} {S S0 : MS} {w : Wd} {T : Tx} {D : Cy} {g b : Bool}
theorem jm_1 : (-1 : Int32) = J (-1) := rfl
theorem M_411B {k p : Nat} (h : Bd S k p) (x y : Int32) : fX5_line_411 N (emM o S w) o x y = some (emM o S w) := by
  unfold fX5_line_411
  rw [mg_12, Option.bind_some, if_neg (Bd_ne h)]
theorem M_398B {k p : Nat} (h : Bd S k p) (x y : Int32) : fX5_line_398 N (emM o S w) o x y = some (emM o S w) := by
  unfold fX5_line_398
  split
  · rw [M_failsB h, Option.bind_some, M_411B h]
  · exact M_411B h _ _
theorem RdM_kd (h : RdM S D g) {r k : Nat} (hk : k ≤ 4) : RdM (mSA S 8 (24 + r) (J (k : Int))) (cKd D r k) g := by
  obtain ⟨a1, a2, a3, a4, a5, a6, a7, a8, a9, a10⟩ := h
  refine ⟨a1, a2, fun x hx => ⟨?_, (a3 x hx).2.1, (a3 x hx).2.2⟩, a4, a5, a6, a7, a8, a9, a10⟩
  rw [cKd_K hk, ma_A, if_pos rfl]
  by_cases e : x = r
  · rw [if_pos e, e, upd_s]
  · rw [if_neg e, upd_o _ _ (by omega)]; exact (a3 x hx).1
theorem M_398G (hT : TpM S T) (hN : 1000000 ≤ N) (h : Gd S T q) (hr : RdM S D g) {r k : Nat} (hrr : r < 6) (hk : k ≤ 4) : ∃ S', fX5_line_398 N (emM o S w) o (J (r : Int)) (J (k : Int)) = some (emM o S' w) ∧ Gd S' T (nx T q) ∧ RdM S' (cKd D r k) g ∧ FrD S S' := by
  obtain ⟨S1, e1, h1, f1⟩ := M_nextG (N := N) (o := o) (w := w) hT hN h
  have f1 := FrL_N f1
  refine ⟨mSA S1 8 (24 + r) (J (k : Int)), ?_, Gd_A h1 _ _ _, RdM_kd (RdM_N hr f1) hk, FrD_t (FrN_D f1) (FrD_A _ _ _ _ (by decide) (by show 24 ≤ 24 + r; omega))⟩
  unfold fX5_line_398 fX5_line_411
  rw [if_neg (by rw [jm_1, J_eq (by omega)]; omega), mg_12, Option.bind_some, h.1, if_pos (show J 0 = (0 : Int32) from rfl), e1, Option.bind_some, mg_18, Option.bind_some, show (24 : Int32) = J 24 from rfl, J_add, show (24 : Int) + (r : Int) = ((24 + r : Nat) : Int) by omega, mw_8 o S1 w _ (by omega), Option.bind_some, Int.toNat_natCast]
def mThr (N : Nat) (w : Wd) (o : Nat) : Option Wd :=
  (fX5_roof N w o).bind fun x10 =>
          (fX5_is N x10.2 o (8740238 : Int64)).bind fun x11 =>
          if x11 = 0 then
            (fX5_is N x10.2 o (240023 : Int64)).bind fun x12 =>
            if x12 = 0 then
              (fX5_is N x10.2 o (383153 : Int64)).bind fun x13 =>
              if x13 = 0 then
                (fX5_is N x10.2 o (1306021 : Int64)).bind fun x14 =>
                if x14 = 0 then
                  (fX5_is N x10.2 o (4721686497 : Int64)).bind fun x15 =>
                  if x15 = 0 then
                    fX5_line_398 N x10.2 o x10.1 (-1 : Int32)
                  else
                    fX5_line_398 N x10.2 o x10.1 (4 : Int32)
                else
                  fX5_line_398 N x10.2 o x10.1 (3 : Int32)
              else
                fX5_line_398 N x10.2 o x10.1 (2 : Int32)
            else
              fX5_line_398 N x10.2 o x10.1 (1 : Int32)
          else
            fX5_line_398 N x10.2 o x10.1 (0 : Int32)
theorem M_th (hT : TpM S T) (hN : 1000000 ≤ N) (h : Gd S T q) (hr : RdM S D g) : CmG T o w S (wiG (aThr T D q) g) (mThr N (emM o S w) o) := by
  refine CmC_wi ?_
  have hn := hT.2.1
  have hR := cR_le D
  have t1 : ¬ J 1 = (0 : Int32) := by decide
  have t0 : J 0 = (0 : Int32) := rfl
  unfold mThr aThr
  refine mbV (M_roofG (N := N) (o := o) (w := w) hT hN h hR hr.2.1) (fun x q2 S2 hx h2 f2 => ?_) (fun k p S2 y h2 f2 => ?_)
  · have hx1 := aNum_ok hx
    obtain ⟨r, er⟩ : ∃ r : Nat, x = (r : Int) := ⟨x.toNat, by omega⟩
    subst er
    have r2 := RdM_N hr f2
    have hT2 := TpM_N hT f2
    have F2 := FrN_D f2
    have fin : ∀ k : Nat, k ≤ 4 → CmC T o w S g (.inl (cKd D (r : Int).toNat k, nx T q2)) (fX5_line_398 N (emM o S2 w) o (J (r : Int)) (J (k : Int))) := by
      intro k hk
      rw [Int.toNat_natCast]
      obtain ⟨S3, e3, h3, r3, f3⟩ := M_398G (N := N) (o := o) (w := w) hT2 hN h2 r2 (r := r) (by omega) hk
      exact ⟨S3, e3, h3, r3, FrD_t F2 f3⟩
    simp only
    rw [show (8740238 : Int64) = JL (wK 1) from rfl, show (240023 : Int64) = JL (wK 2) from rfl, show (383153 : Int64) = JL (wK 3) from rfl, show (1306021 : Int64) = JL (wK 4) from rfl, show (4721686497 : Int64) = JL (wK 5) from rfl, M_isG hn h2 (i := 1) (by decide), Option.bind_some]
    unfold aKind
    by_cases w1 : isW T 1 q2 = true
    · rw [if_pos w1, Bp_t w1, if_neg t1]; exact fin 0 (by decide)
    rw [if_neg w1, Bp_f w1, if_pos t0, M_isG hn h2 (i := 2) (by decide), Option.bind_some]
    by_cases w2 : isW T 2 q2 = true
    · rw [if_pos w2, Bp_t w2, if_neg t1]; exact fin 1 (by decide)
    rw [if_neg w2, Bp_f w2, if_pos t0, M_isG hn h2 (i := 3) (by decide), Option.bind_some]
    by_cases w3 : isW T 3 q2 = true
    · rw [if_pos w3, Bp_t w3, if_neg t1]; exact fin 2 (by decide)
    rw [if_neg w3, Bp_f w3, if_pos t0, M_isG hn h2 (i := 4) (by decide), Option.bind_some]
    by_cases w4 : isW T 4 q2 = true
    · rw [if_pos w4, Bp_t w4, if_neg t1]; exact fin 3 (by decide)
    rw [if_neg w4, Bp_f w4, if_pos t0, M_isG hn h2 (i := 5) (by decide), Option.bind_some]
    by_cases w5 : isW T 5 q2 = true
    · rw [if_pos w5, Bp_t w5, if_neg t1]; exact fin 4 (by decide)
    rw [if_neg w5, Bp_f w5, if_pos t0]
    obtain ⟨S3, e3, h3, f3⟩ := M_failsG (N := N) (o := o) (w := w) h2 (k := 1) (by omega)
    have e4 : fX5_fails N (emM o S2 w) o (1 : Int32) = some (emM o S3 w) := e3
    unfold fX5_line_398
    rw [if_pos rfl, e4, Option.bind_some, M_411B h3]
    exact ⟨S3, rfl, h3, FrD_t F2 (FrN_D f3)⟩
  · simp only
    rw [M_isBd h2, Option.bind_some, if_pos t0, M_isBd h2, Option.bind_some, if_pos t0, M_isBd h2, Option.bind_some, if_pos t0, M_isBd h2, Option.bind_some, if_pos t0, M_isBd h2, Option.bind_some, if_pos t0, M_398B h2]
    exact ⟨S2, rfl, h2, FrN_D f2⟩
/-! rows of throws -/
def RoM (S : MS) (D : Cy) (g : Bool) (r : Nat) (s : Rw) : Prop := ∃ U, RdM U D g ∧ (∀ a i, ¬ ((a = 10 ∨ a = 11) ∧ 8 * (24 + r) ≤ i ∧ i < 8 * (24 + r) + 8) → ma S a i = ma U a i) ∧ mi S 26 = mi U 26 ∧ ∀ i, i < s.1 → ma S 10 (8 * (24 + r) + i) = J (s.2.1 i : Int) ∧ ma S 11 (8 * (24 + r) + i) = J (s.2.2 i : Int)
theorem RoM_N {S' : MS} {r : Nat} {s : Rw} (h : RoM S D g r s) (hf : FrN S S') : RoM S' D g r s := by
  obtain ⟨U, h1, h2, h3, h4⟩ := h
  exact ⟨U, h1, fun a i hh => by rw [hf.1]; exact h2 a i hh, by rw [hf.2.2 26 (by decide) (by decide) (by decide) (by decide) (by decide) (by decide)]; exact h3, fun i hi => by rw [hf.1, hf.1]; exact h4 i hi⟩
theorem RoM_R {r : Nat} {s : Rw} (h : RoM S D g r s) : ma S 7 4 = J (cR D : Int) := by
  obtain ⟨U, h1, h2, h3, h4⟩ := h
  rw [h2 7 4 (by omega)]; exact h1.2.1
theorem Fr_10 {r i : Nat} (a : Nat) (ha : a = 10 ∨ a = 11) (x : Int32) : FrD S (mSA S a (8 * (24 + r) + i) x) := by
  rcases ha with h | h <;> subst h
  · exact FrD_A _ _ _ _ (by decide) (by show 192 ≤ _; omega)
  · exact FrD_A _ _ _ _ (by decide) (by show 192 ≤ _; omega)
theorem RoM_set {r : Nat} {s : Rw} (h : RoM S D g r s) (hs : s.1 < 8) (x y : Nat) : RoM (mSA (mSA S 10 (8 * (24 + r) + s.1) (J (x : Int))) 11 (8 * (24 + r) + s.1) (J (y : Int))) D g r (rwS s x y) := by
  obtain ⟨U, h1, h2, h3, h4⟩ := h
  refine ⟨U, h1, fun a i hh => ?_, h3, fun i hi => ?_⟩
  · rw [ma_A, ma_A, ma_A]
    by_cases e1 : a = 11
    · rw [if_pos e1, if_neg (by decide), upd_o _ _ (by omega), ← e1]; exact h2 a i hh
    · rw [if_neg e1]
      by_cases e2 : a = 10
      · rw [if_pos e2, upd_o _ _ (by omega), ← e2]; exact h2 a i hh
      · rw [if_neg e2]; exact h2 a i hh
  · have hi' : i < s.1 + 1 := hi
    show _ = J ((set1 s.2.1 s.1 x i : Nat) : Int) ∧ _ = J ((set1 s.2.2 s.1 y i : Nat) : Int)
    unfold set1
    have e10 : ma (mSA (mSA S 10 (8 * (24 + r) + s.1) (J (x : Int))) 11 (8 * (24 + r) + s.1) (J (y : Int))) 10 = upd (ma S 10) (8 * (24 + r) + s.1) (J (x : Int)) := by rw [ma_A, if_neg (show ¬ 10 = 11 by decide), ma_A, if_pos rfl]
    have e11 : ma (mSA (mSA S 10 (8 * (24 + r) + s.1) (J (x : Int))) 11 (8 * (24 + r) + s.1) (J (y : Int))) 11 = upd (ma S 11) (8 * (24 + r) + s.1) (J (y : Int)) := by rw [ma_A, if_pos rfl, ma_A, if_neg (show ¬ 11 = 10 by decide)]
    rw [e10, e11]
    by_cases e : i = s.1
    · rw [if_pos e, if_pos e, e, upd_s, upd_s]; exact ⟨rfl, rfl⟩
    · rw [if_neg e, if_neg e, upd_o _ _ (by omega), upd_o _ _ (by omega)]; exact h4 i (by omega)
def kR (o r : Nat) : Int32 → Wd → Option Wd := fun y21 w22 =>
      (gR w22 [5] o 19).bind fun x23 =>
      (sI 0 w22 x23 (J ((24 + r : Nat) : Int)) y21).bind fun w24 =>
      some w24
theorem kR_of {r : Nat} (hr : r < 6) (x : Int32) : kR o r x (emM o S w) = some (emM o (mSA S 9 (24 + r) x) w) := by
  unfold kR
  rw [mg_19, Option.bind_some, mw_9 o S w _ (by omega), Option.bind_some, Int.toNat_natCast]
/-- a loop's answer -/
def RoQ (T : Tx) (o : Nat) (w : Wd) (S0 : MS) (D : Cy) (g : Bool) (r : Nat) (p : Pr Rw) (x : Option Wd) : Prop := match p with
  | .inl (s', q') => ∃ S', x = some (emM o (mSA S' 9 (24 + r) (J (s'.1 : Int))) w) ∧ Gd S' T q' ∧ RoM S' D g r s' ∧ FrD S0 S'
  | .inr (k, p) => ∃ S', x = some (emM o S' w) ∧ Bd S' k p ∧ FrD S0 S'
theorem M_isGood (h : mi S 12 = J 0) : fX5_isGood N (emM o S w) o = some (J 1) := by
  unfold fX5_isGood
  rw [mg_12, Option.bind_some, h, if_pos (show J 0 = (0 : Int32) from rfl)]; rfl
theorem M_isGoodB {k p : Nat} (h : Bd S k p) : fX5_isGood N (emM o S w) o = some (J 0) := by
  unfold fX5_isGood
  rw [mg_12, Option.bind_some, if_neg (Bd_ne h)]; rfl
theorem Fr_9 {r : Nat} (x : Int32) : FrD S (mSA S 9 (24 + r) x) := FrD_A _ _ _ _ (by decide) (by show 24 ≤ 24 + r; omega)
theorem M_loopB {k p r : Nat} (hr : r < 6) (h : Bd S k p) (k32 : Wd → Option Wd) (v x2 : Int32) (x : Int32) (f : Nat) : ∃ S', fX5_throwsLine_7 N o v x2 k32 (kR o r) (f + 1) x (emM o S w) = some (emM o S' w) ∧ Bd S' k p ∧ FrD S S' := by
  rw [fX5_throwsLine_7, M_isGoodB h, Option.bind_some, if_pos (show J 0 = (0 : Int32) from rfl), kR_of hr]
  exact ⟨_, rfl, Bd_A h _ _ _, Fr_9 _⟩
theorem M_118 {r i : Nat} (hr : r < 6) (hi : i < 8) (v1 x y : Int32) (r7 : Int32 → Wd → Option Wd) (k32 : Wd → Option Wd) (k150 : Int32 → Wd → Option Wd) : fX5_throwsLine_118 N (emM o S w) o v1 (J ((24 + r : Nat) : Int)) (J (i : Int)) x y r7 k32 k150 = r7 (J ((i + 1 : Nat) : Int)) (emM o (mSA (mSA S 10 (8 * (24 + r) + i) x) 11 (8 * (24 + r) + i) y) w) := by
  have e1 : (8 : Int32) * J ((24 + r : Nat) : Int) + J (i : Int) = J ((8 * (24 + r) + i : Nat) : Int) := by rw [show (8 : Int32) = J 8 from rfl, J_mul, J_add]; congr 1
  unfold fX5_throwsLine_118
  rw [mg_20, Option.bind_some, e1, mw_10 o S w _ (by omega), Option.bind_some, mg_21, Option.bind_some, mw_11 o _ w _ (by omega), Option.bind_some, jn_1, J_add, castS, Option.bind_some, Int.toNat_natCast]
end
