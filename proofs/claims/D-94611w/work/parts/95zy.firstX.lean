/-! the component: the first line -/
set_option maxRecDepth 100000
theorem D0_T {R r : Nat} (hr : r < 6) : cT (cRf D0 R) r 0 = r := by
  unfold cT cRf D0
  simp only [show ¬ ((4 : Nat) = 0) by decide, false_and, if_false, if_true]
  omega
section
variable {N o a n q : Nat} {V W : Wd} {T : Tx} {ad : Nat → Nat} {g : Bool} {th : Nat → Nat}
/-- the first r throwers of R -/
def PfX (ad : Nat → Nat) (T : Tx) (o a : Nat) (V : Wd) (R : Nat) (g : Bool) (q n r : Nat) (W : Wd) : Prop := RdA ad T o a q W ∧ W (a + 1) = some (.inr (1, [.int (J (cR (cRf D0 R) : Int)), .int (J (cX (cRf D0 R) : Int)), .int (J (cN (cRf D0 R) : Int)), .int (J (cL (cRf D0 R) : Int)), .int (J (cG (cRf D0 R) : Int)), .int (J (cO (cRf D0 R) : Int)), .int (Bp (g = true)), .ref (a + 1 + 1), .ref (a + 1 + 2), .ref (a + 1 + 3), .ref (a + 1 + 4), .ref (a + 1 + 5), .ref (a + 1 + 6)])) ∧
  (∃ f, W (a + 1 + 1) = some (.inl (5, 6, .inr (.inr (.inr (.inr f))))) ∧ ∀ x, x < r → f x = some (n + 3 * x)) ∧ CaX W (a + 1) (cRf D0 R) ∧
  (∀ x, x < r → W (n + 3 * x) = some (.inr (2, [.int (J (x : Int)), .ref (n + 3 * x + 1), .ref (n + 3 * x + 2), .int (J 1)])) ∧ (∃ F, W (n + 3 * x + 1) = some (.inl (0, 8, .inl F)) ∧ F 0 = J 0) ∧ ∃ F, W (n + 3 * x + 2) = some (.inl (0, 8, .inl F)) ∧ F 0 = J (x : Int)) ∧ ∀ x, x < a → W x = V x
theorem CaX_fr {W' : Wd} {c : Nat} {D : Cy} (h : CaX W c D) (hw : ∀ d, 2 ≤ d → d ≤ 6 → W' (c + d) = W (c + d)) : CaX W' c D := by
  unfold CaX at h ⊢
  rw [hw 2 (by omega) (by omega), hw 3 (by omega) (by omega), hw 4 (by omega) (by omega), hw 5 (by omega) (by omega), hw 6 (by omega) (by omega)]
  exact h
theorem X6_first_18 {R : Nat} (hR : 1 ≤ R ∧ R ≤ 6) (h8 : a + 8 ≤ n) (h : PfX ad T o a V R g q n 0 W) (k : Wd → Nat → Option ((Wd × Nat) ⊕ Tw)) : ∃ W', fX6_first_18 ad N a k 7 (J 0) W n = k W' (n + 3 * R) ∧ PfX ad T o a V R g q n R W' := by
  have eR := cRf_R (D := D0) hR.2
  have key := lp_ex (fun m r (s : Wd) => fX6_first_18 ad N a k m (J (r : Int)) s (n + 3 * r)) (fun s => k s (n + 3 * R)) R (fun r s => PfX ad T o a V R g q n r s) ?_ ?_ 7 W (by omega) h
  · exact key
  · intro m r W hr hI
    obtain ⟨h1, h2, ⟨f, h3, h4⟩, h5, h6, h7⟩ := hI
    have g1 : gR W [6] a 1 = some (a + 1) := by
      obtain ⟨_, v, hh, _⟩ := h1
      exact gR_of hh (by decide) rfl
    have gc0 : gI W [1] (a + 1) 0 = some (J (R : Int)) := by rw [← eR]; exact gI_of h2 (by decide) rfl
    have gc7 : gR W [1] (a + 1) 7 = some (a + 1 + 1) := gR_of h2 (by decide) rfl
    have wo : ∀ N' F' G' x, x < n + 3 * r → wT W (n + 3 * r) 2 r N' F' G' x = W x := fun N' F' G' x hx => wT_o _ _ _ _ _ _ _ (by omega)
    obtain ⟨W3, e3, c3, f3⟩ := st_sR (z := r) (v := n + 3 * r) (W := wT W (n + 3 * r) 2 r (J 1) (fun _ => 0) (upd (fun _ => 0) 0 (J (r : Int)))) (b := a + 1 + 1) ((wo _ _ _ _ (by omega)).trans h3) (ckC_of (wT_0 _ _ _ _ _ _ _) (by decide)) (by omega)
    have hw : ∀ x, x < n + 3 * r → x ≠ a + 2 → W3 x = W x := fun x h1 h2 => by rw [f3 x (by omega)]; exact wo _ _ _ _ h1
    refine ⟨W3, ?_, ⟨h1.1, ?_⟩, (hw _ (by omega) (by omega)).trans h2, ⟨_, c3, fun x hx => ?_⟩, CaX_fr h5 (fun d d1 d2 => hw _ (by omega) (by omega)), fun x hx => ?_, fun x hx => (hw x (by omega) (by omega)).trans (h7 x hx)⟩
    · show fX6_first_18 ad N a k (m + 1) (J (r : Int)) W (n + 3 * r) = _
      rw [fX6_first_18, g1, Option.bind_some, gc0, Option.bind_some, if_neg (by rw [J_le (by omega)]; omega), Option.bind_some, gc7, Option.bind_some, Option.bind_some, show newX2 = [.int 0, .null, .null, .int 0] from rfl, X_newT (by decide), Option.bind_some]
      simp only
      rw [e3, Option.bind_some, Option.bind_some, jn_1, J_add, castS, show n + 3 * r + 3 = n + 3 * (r + 1) by omega]
    · obtain ⟨v, e1, e2⟩ := h1.2
      exact ⟨v, (hw _ (by omega) (by omega)).trans e1, e2⟩
    · by_cases hxr : x = r
      · rw [hxr, va_up_self]
      · rw [va_up_ne _ _ hxr]; exact h4 x (by omega)
    · by_cases hxr : x = r
      · rw [hxr, f3 _ (by omega), f3 _ (by omega), f3 _ (by omega)]
        exact ⟨wT_0 _ _ _ _ _ _ _, ⟨_, wT_1 _ _ _ _ _ _ _, rfl⟩, ⟨_, wT_2 _ _ _ _ _ _ _, upd_s _ _ _⟩⟩
      · rw [hw _ (by omega) (by omega), hw _ (by omega) (by omega), hw _ (by omega) (by omega)]
        exact h6 x (by omega)
  · intro m W hI
    obtain ⟨h1, h2, _⟩ := hI
    have g1 : gR W [6] a 1 = some (a + 1) := by
      obtain ⟨_, v, hh, _⟩ := h1
      exact gR_of hh (by decide) rfl
    have gc0 : gI W [1] (a + 1) 0 = some (J (R : Int)) := by rw [← eR]; exact gI_of h2 (by decide) rfl
    show fX6_first_18 ad N a k (m + 1) (J (R : Int)) W (n + 3 * R) = _
    rw [fX6_first_18, g1, Option.bind_some, gc0, Option.bind_some, if_pos (by rw [J_le (by omega)]; omega)]
theorem X6_first (had : ∀ i j, i < 5 → j < 5 → ad i = ad j → i = j) (hT : TpX V o T) (ho : o + 8 < a) (hN : 1000000 ≤ N) (h : PcX ad T o a V D0 g th q W n) : CxG (fun D' q' W' n' => (∃ th', PcX ad T o a V D' g th' q' W' n') ∧ n ≤ n') V a (aFirst T D0 q) (fX6_first ad N W n a) := by
  have h8 := h.2.2.2.2.2.1
  have han : a < n := by omega
  have ha : a ≠ o ∧ a ≠ o + 8 := by omega
  unfold fX6_first aFirst
  rw [gu_1 h, Option.bind_some]
  refine bndV (X6_told (N := N) had (PcX_T h hT ho) ha (by omega) hN h.1 han (i := 0) (by decide) (lo := 1) (hi' := 6) (by omega)) han h.2.2.2.2.2.2 (fun x q1 W1 hx hr1 ho1 => ?_)
  have hx1 := aTold_ok hx
  have hp1 := PcX_on h hr1 ho1
  simp only
  obtain ⟨R, er⟩ : ∃ R : Nat, x = (R : Int) := ⟨x.toNat, by omega⟩
  subst er
  have eR := cRf_R (D := D0) (R := R) (by omega)
  obtain ⟨W2, p2, c2, f2⟩ := Cy_put (k := 0) (J (R : Int)) hp1 (by omega)
  rw [p2, Option.bind_some, Int.toNat_natCast]
  obtain ⟨⟨_, a1, a2, a3, a4, a5, a6, a7⟩⟩ := And.intro hp1.2.1 trivial
  have hpf : PfX ad T o a V R g q1 n 0 W2 := by
    refine ⟨⟨hp1.1.1, ?_⟩, ?_, ?_, CaX_fr (W := W1) (D := cRf D0 R) ⟨a2, a3, a4, a5, a6⟩ (fun d d1 d2 => f2 _ (by omega)), fun x hx => absurd hx (Nat.not_lt_zero x), fun x hx => (f2 x (by omega)).trans (hp1.2.2.2.2.2.2 x hx)⟩
    · obtain ⟨v, e1, e2⟩ := hp1.1.2
      exact ⟨v, (f2 _ (by omega)).trans e1, e2⟩
    · rw [c2, eR]; rfl
    · obtain ⟨f, e1, _⟩ := a1
      exact ⟨f, (f2 _ (by omega)).trans e1, fun x hx => absurd hx (Nat.not_lt_zero x)⟩
  obtain ⟨W3, e3, h1, h2, ⟨f, h3, h4⟩, h5, h6, h7⟩ := X6_first_18 (N := N) (R := R) (by omega) h8 hpf (fun w13 y14 => some (.inl (w13, y14)))
  refine ⟨W3, n + 3 * R, e3, ⟨fun r => n + 3 * r, h1, ⟨⟨_, h2⟩, ⟨f, h3, fun r hr => h4 r (by omega)⟩, h5.1, h5.2.1, h5.2.2.1, h5.2.2.2.1, h5.2.2.2.2, fun r hr => ?_⟩, h2, fun r hr => by simp only; omega, fun r r' d e hr hr' hne hd he => by simp only; omega, by omega, h7⟩, by omega⟩
  rw [eR] at hr
  obtain ⟨t1, ⟨F, t2, t3⟩, ⟨G, t4, t5⟩⟩ := h6 r hr
  refine ⟨t1, ⟨F, t2, fun i hi => ?_⟩, ⟨G, t4, fun i hi => ?_⟩⟩
  · have hi0 : i = 0 := by
      have hi' : i < 1 := hi
      omega
    rw [hi0, t3]; rfl
  · have hi0 : i = 0 := by
      have hi' : i < 1 := hi
      omega
    rw [hi0, t5, D0_T (by omega)]
end
