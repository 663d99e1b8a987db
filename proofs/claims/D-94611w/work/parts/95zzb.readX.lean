/-! the component: a city read -/
set_option maxRecDepth 100000
/-- what reading a city answers -/
def RdR (ad : Nat → Nat) (T : Tx) (o a : Nat) (V : Wd) (r : Pr (Cy × Bool)) (x : Option ((Nat × Wd × Nat) ⊕ Tw)) : Prop := match r with
  | .inl ((D, g), q) => ∃ W n th, x = some (.inl (a + 1, W, n)) ∧ PcX ad T o a V D g th q W n
  | .inr (k, p) => ∃ W b n, x = some (.inr (b, W, n)) ∧ FtA W b k p ∧ (∀ z, z < a → W z = V z) ∧ a ≤ b ∧ a ≤ n
section
variable {N o a n q : Nat} {V W : Wd} {T : Tx} {ad : Nat → Nat} {D : Cy} {g : Bool} {th : Nat → Nat}
theorem CxG_wi0 {P : Cy → Nat → Wd → Nat → Prop} {r : Pr Cy} {x : Option ((Wd × Nat) ⊕ Tw)} (b : Bool) (h : CxG P V a r x) (hP : ∀ D q W n', P D q W n' → LnP ad T o a V n (D, b) q W n') : CxG (LnP ad T o a V n) V a (wiG r b) x := by
  unfold CxG at h
  cases r with
  | inr e =>
    obtain ⟨k, p⟩ := e
    obtain ⟨W', b', n', e1, h1, h2, h3⟩ := h
    exact ⟨W', b', n', e1, h1, h2, h3⟩
  | inl y =>
    obtain ⟨y, q'⟩ := y
    obtain ⟨W', n', e1, h1⟩ := h
    exact ⟨W', n', e1, hP _ _ _ _ h1⟩
/-- a line more -/
theorem PcX_ln (h : PcX ad T o a V D g th q W n) (hL : cL D < 1999) : ∃ W', pF W [1] (a + 1) 3 (.int (J ((cL D + 1 : Nat) : Int))) = some W' ∧ PcX ad T o a V (cLn D) g th q W' n := by
  obtain ⟨W', p, c, f⟩ := Cy_put (k := 3) (J ((cL D + 1 : Nat) : Int)) h (by omega)
  refine ⟨W', p, PcX_mk h (fun x hx => f x (by omega)) (f _ (by omega)) ?_ (CaX_fr (W := W) ?_ (fun d d1 d2 => f _ (by omega))) rfl (fun _ => rfl) (fun _ => rfl) (fun _ _ => rfl) (fun _ _ => rfl)⟩
  · rw [c, cLn_L hL]; rfl
  · obtain ⟨_, _, a2, a3, a4, a5, a6, _⟩ := h.2.1
    exact ⟨a2, a3, a4, a5, a6⟩
theorem X6_read_0 (had : ∀ i j, i < 5 → j < 5 → ad i = ad j → i = j) (hT : TpX V o T) (ho : o + 8 < a) (hN : 1000000 ≤ N) {k41 k67 : Wd → Nat → Option ((Nat × Wd × Nat) ⊕ Tw)}
    (h41 : ∀ D g th q W n, PcX ad T o a V D g th q W n → ∃ W' b n', k41 W n = some (.inr (b, W', n')) ∧ FtA W' b 1 q ∧ (∀ z, z < a → W' z = V z) ∧ a ≤ b ∧ a ≤ n')
    (h67 : ∀ D g th q W n, PcX ad T o a V D g th q W n → k67 W n = some (.inl (a + 1, W, n))) :
    ∀ (f m : Nat) (D : Cy) (g : Bool) (th : Nat → Nat) (q : Nat) (W : Wd) (n : Nat), LI T D q → PcX ad T o a V D g th q W n → T.2 < q + 6 * f → T.2 < q + 6 * m → RdR ad T o a V (aRead T m D g q) (fX6_read_0 ad N a k41 k67 f W n) := by
  have ha : a ≠ o ∧ a ≠ o + 8 := by omega
  have hn := hT.2.2
  intro f
  induction f with
  | zero => intro m D g th q W n hI _ h1 _; have := hI.1; omega
  | succ f ih =>
    intro m D g th q W n hI h hf hm
    have hqT := hI.1
    cases m with
    | zero => omega
    | succ m =>
    have h8 := h.2.2.2.2.2.1
    have hk4 := kd_le T q
    rw [fX6_read_0, aRead, X6_tok h.1, Option.bind_some]
    by_cases h0 : kd T q = 0
    · rw [if_pos h0, if_pos (show ad (kd T q) = ad 0 by rw [h0])]
      exact ⟨W, n, th, h67 D g th q W n h, h⟩
    rw [if_neg h0, if_neg (fun e => h0 (had _ _ (by omega) (by omega) e)), gu_1 h, Option.bind_some, PcX_i h (k := 3) rfl, Option.bind_some]
    have hL2 : cL D < 1000 := by have := hI.2.1; omega
    have main : ∀ x, CxG (LnP ad T o a V n) V a (if cL D = 0 then wiG (aFirst T D q) g else aLine T D g q) x → RdR ad T o a V (bnd (aStep T D g q) fun s q => aRead T m s.1 s.2 q) (x.bind fun w4 => thr w4 fun y5 =>
        (gR y5.1 [6] a 5).bind fun x6 =>
        if x6 = (ad 3) then
          (fX6_next ad N y5.1 a).bind fun w7 =>
          (gR w7 [6] a 1).bind fun x8 =>
          (gI w7 [1] x8 3).bind fun x9 =>
          (pF w7 [1] x8 3 (.int (x9 + (1 : Int32)))).bind fun w10 =>
          fX6_read_0 ad N a k41 k67 f w10 y5.2
        else
          k41 y5.1 y5.2) := by
      intro x hx
      unfold CxG at hx
      unfold aStep
      cases hl : (if cL D = 0 then wiG (aFirst T D q) g else aLine T D g q) with
      | inr e =>
        obtain ⟨k, p⟩ := e
        rw [hl] at hx
        obtain ⟨W', b, n', e1, h1, h2, h3⟩ := hx
        exact ⟨W', b, n', by rw [e1]; rfl, h1, h2, h3⟩
      | inl e =>
        obtain ⟨⟨D1, g1⟩, q1⟩ := e
        rw [hl] at hx
        obtain ⟨W1, n1, e1, ⟨th1, p1⟩, h2⟩ := hx
        have p1 : PcX ad T o a V D1 g1 th1 q1 W1 n1 := p1
        rw [e1, Option.bind_some]
        simp only [thr, bnd]
        have hk41 := kd_le T q1
        rw [X6_tok p1.1, Option.bind_some]
        by_cases h3 : kd T q1 = 3
        · rw [if_pos h3, if_pos (show ad (kd T q1) = ad 3 by rw [h3])]
          have hst := LI_st hn hI hl h3
          have hln := LI_ln hn hI hl
          obtain ⟨W2, e2, r2, o2⟩ := X6_next (N := N) (PcX_T p1 hT ho) ha hN p1.1 n1
          have p2 := PcX_on p1 r2 o2
          obtain ⟨W3, e3, p3⟩ := PcX_ln p2 (by omega)
          rw [e2, Option.bind_some, gu_1 p2, Option.bind_some, PcX_i p2 (k := 3) rfl, Option.bind_some, jn_1, J_add, castS, e3, Option.bind_some]
          exact ih m (cLn D1) g1 th1 (nx T q1) W3 n1 hst.2.1 p3 (by omega) (by omega)
        · rw [if_neg h3, if_neg (fun e => h3 (had _ _ (by omega) (by omega) e))]
          exact h41 D1 g1 th1 q1 W1 n1 p1
    by_cases hc : cL D = 0
    · rw [if_pos (show J (cL D : Int) = (0 : Int32) by rw [hc]; rfl)]
      refine main _ ?_
      rw [if_pos hc]
      have hD := hI.2.2.1 hc
      subst hD
      exact CxG_wi0 g (X6_first (N := N) had hT ho hN h) (fun D q W n' hh => hh)
    · rw [if_neg (show ¬ J (cL D : Int) = (0 : Int32) by rw [show (0 : Int32) = J 0 from rfl, J_eq (by omega)]; omega)]
      refine main _ ?_
      rw [if_neg hc]
      exact X6_line (N := N) had hT ho hN h
theorem LI_0 : LI T D0 q ↔ q ≤ T.2 := ⟨fun h => h.1, fun h => ⟨h, Nat.zero_le _, fun _ => rfl, fun h => absurd rfl h⟩⟩
theorem X6_read (had : ∀ i j, i < 5 → j < 5 → ad i = ad j → i = j) (hT : TpX V o T) (ho : o + 8 < a) (hN : 1000000 ≤ N) (h : PcX ad T o a V D0 false th q W n) : RdR ad T o a V (aRead T 268 D0 false q) (fX6_read ad N W n a) := by
  have hq := h.1.1
  have hn := hT.2.2
  refine X6_read_0 had hT ho hN (fun D g th q W n hp => ?_) (fun D g th q W n hp => ?_) 268 268 D0 false th q W n (LI_0.2 hq) h (by omega) (by omega)
  · have h8 := hp.2.2.2.2.2.1
    obtain ⟨W', e, h1, h2⟩ := X6_thr (N := N) (β := Nat × Wd × Nat) hp.1 (show a < n by omega) 1
    exact ⟨W', n, n + 1, e, h1, fun z hz => (h2 z (by omega) (by omega)).trans (hp.2.2.2.2.2.2 z hz), by omega⟩
  · rw [gu_1 hp, Option.bind_some]
end
