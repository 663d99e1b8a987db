/-! the component: throwers -/
set_option maxRecDepth 100000
theorem st_sR {W : Wd} {b z v c : Nat} {f : Nat → Option Nat} (h : W b = some (.inl (5, 6, .inr (.inr (.inr (.inr f)))))) (hc : ckC W famT v = some c) (hz : z < 6) : ∃ W', sR 5 famT W b (J (z : Int)) v = some W' ∧ W' b = some (.inl (5, 6, .inr (.inr (.inr (.inr (va_up f z (some v))))))) ∧ ∀ q, q ≠ b → W' q = W q := by
  refine ⟨wup W b (.inl (5, 6, .inr (.inr (.inr (.inr (va_up f z (some v))))))), ?_, wup_s _ _ _, fun _ hq => wup_o _ _ hq⟩
  unfold sR
  rw [h]
  simp only [true_and]
  rw [if_pos (ix_ok (show 0 ≤ (z : Int) ∧ (z : Int) < (6 : Nat) by omega) (by decide)), hc, Option.bind_some, J_nn (by omega), Int.toNat_natCast]
section
variable {N o a n q : Nat} {V W : Wd} {T : Tx} {ad : Nat → Nat} {D : Cy} {g : Bool} {th : Nat → Nat}
theorem nT1 {W : Wd} {n k r : Nat} (hk : k ≤ 4) : ((fX2_init N (wup W n (.inr (kc k, [.int 0, .null, .null, .int 0]))) (n + 1) n (J (r : Int))).bind fun x => (some (.inl (n, x.1, x.2)) : Option ((Nat × Wd × Nat) ⊕ Tw))) = some (.inl (n, wT W n (kc k) r (J 1) (fun _ => 0) (upd (fun _ => 0) 0 (J (r : Int))), n + 3)) := by rw [X_newT (kc_in _ hk), Option.bind_some]
theorem nT2 {W : Wd} {n k r : Nat} (hk : k ≤ 4) : (((fX2_init N (wup W n (.inr (kc k, [.int 0, .null, .null, .int 0]))) (n + 1) n (J (r : Int))).bind fun x => some (x.1, x.2)).bind fun x => (some (.inl (n, x.1, x.2)) : Option ((Nat × Wd × Nat) ⊕ Tw))) = some (.inl (n, wT W n (kc k) r (J 1) (fun _ => 0) (upd (fun _ => 0) 0 (J (r : Int))), n + 3)) := by rw [X_newT (kc_in _ hk), Option.bind_some, Option.bind_some]
theorem X6_kind (had : ∀ i j, i < 5 → j < 5 → ad i = ad j → i = j) (hT : TpX W o T) (ha : a ≠ o ∧ a ≠ o + 8) (ho : o + 8 < n) (hN : 1000000 ≤ N) (h : RdA ad T o a q W) (hx : a < n) (r : Nat) : match aKind T q with
    | .inl (k, q') => ∃ W', fX6_kind ad N W n a (J (r : Int)) = some (.inl (n, wT W' n (kc k) r (J 1) (fun _ => 0) (upd (fun _ => 0) 0 (J (r : Int))), n + 3)) ∧ RdA ad T o a q' W' ∧ OnA a n W W' ∧ k ≤ 4
    | .inr (k, p) => ∃ W', fX6_kind ad N W n a (J (r : Int)) = some (.inr (n, W', n + 1)) ∧ FtA W' n k p ∧ OnA a n W W' := by
  have t1 : ¬ J 1 = (0 : Int32) := by decide
  have t0 : J 0 = (0 : Int32) := rfl
  obtain ⟨W1, e1, h1, o1⟩ := X6_takes (N := N) had hT ha hN h (i := 1) (by decide) n
  unfold fX6_kind aKind
  rw [e1, Option.bind_some]
  by_cases w1 : isW T 1 q = true
  · rw [if_pos w1] at h1 ⊢
    refine ⟨W1, ?_, h1, o1, by decide⟩
    rw [Bp_t w1]
    refine Eq.trans (if_neg t1) ?_
    exact nT1 (N := N) (W := W1) (n := n) (k := 0) (r := r) (by decide)
  rw [if_neg w1] at h1 ⊢
  rw [Bp_f w1]
  simp only
  rw [if_pos t0]
  obtain ⟨W2, e2, h2, o2⟩ := X6_takes (N := N) had (TpX_on hT o1 ha ho) ha hN h1 (i := 2) (by decide) n
  have p2 := OnA_t o1 o2 (Nat.le_refl _)
  rw [e2, Option.bind_some]
  by_cases w2 : isW T 2 q = true
  · rw [if_pos w2] at h2 ⊢
    refine ⟨W2, ?_, h2, p2, by decide⟩
    rw [Bp_t w2]
    refine Eq.trans (if_neg t1) ?_
    exact nT2 (N := N) (W := W2) (n := n) (k := 1) (r := r) (by decide)
  rw [if_neg w2] at h2 ⊢
  rw [Bp_f w2]
  simp only
  rw [if_pos t0]
  obtain ⟨W3, e3, h3, o3⟩ := X6_takes (N := N) had (TpX_on hT p2 ha ho) ha hN h2 (i := 3) (by decide) n
  have p3 := OnA_t p2 o3 (Nat.le_refl _)
  rw [e3, Option.bind_some]
  by_cases w3 : isW T 3 q = true
  · rw [if_pos w3] at h3 ⊢
    refine ⟨W3, ?_, h3, p3, by decide⟩
    rw [Bp_t w3]
    refine Eq.trans (if_neg t1) ?_
    exact nT2 (N := N) (W := W3) (n := n) (k := 2) (r := r) (by decide)
  rw [if_neg w3] at h3 ⊢
  rw [Bp_f w3]
  simp only
  rw [if_pos t0]
  obtain ⟨W4, e4, h4, o4⟩ := X6_takes (N := N) had (TpX_on hT p3 ha ho) ha hN h3 (i := 4) (by decide) n
  have p4 := OnA_t p3 o4 (Nat.le_refl _)
  rw [e4, Option.bind_some]
  by_cases w4 : isW T 4 q = true
  · rw [if_pos w4] at h4 ⊢
    refine ⟨W4, ?_, h4, p4, by decide⟩
    rw [Bp_t w4]
    refine Eq.trans (if_neg t1) ?_
    exact nT2 (N := N) (W := W4) (n := n) (k := 3) (r := r) (by decide)
  rw [if_neg w4] at h4 ⊢
  rw [Bp_f w4]
  simp only
  rw [if_pos t0]
  have h5 := X6_needs (N := N) had (TpX_on hT p4 ha ho) ha hN h4 hx (i := 5) (by decide)
  unfold aNeeds CxU at h5
  by_cases w5 : isW T 5 q = true
  · rw [if_pos w5] at h5 ⊢
    obtain ⟨W5, e5, h5, o5⟩ := h5
    refine ⟨W5, ?_, h5, OnA_t p4 o5 (Nat.le_refl _), by decide⟩
    rw [e5]
    exact nT2 (N := N) (W := W5) (n := n) (k := 4) (r := r) (by decide)
  · rw [if_neg w5] at h5 ⊢
    obtain ⟨W5, e5, h5, o5⟩ := h5
    exact ⟨W5, by rw [e5]; rfl, h5, OnA_t p4 o5 (Nat.le_refl _)⟩
theorem X6_thrower (had : ∀ i j, i < 5 → j < 5 → ad i = ad j → i = j) (hT : TpX V o T) (ho : o + 8 < a) (hN : 1000000 ≤ N) (h : PcX ad T o a V D g th q W n) : CxG (fun D' q' W' n' => (∃ th', PcX ad T o a V D' g th' q' W' n') ∧ n ≤ n') V a (aThr T D q) (fX6_thrower ad N W n a) := by
  have h8 := h.2.2.2.2.2.1
  have han : a < n := by omega
  have ha : a ≠ o ∧ a ≠ o + 8 := by omega
  have hR := cR_le D
  unfold fX6_thrower aThr
  refine bndV (X6_roof (N := N) had (PcX_T h hT ho) ha hN h.1 han hR (PcX_i h (k := 0) rfl)) han h.2.2.2.2.2.2 (fun x q1 W1 hx hr1 ho1 => ?_)
  have hx1 := aNum_ok hx
  have hp1 := PcX_on h hr1 ho1
  simp only
  obtain ⟨r, er⟩ : ∃ r : Nat, x = (r : Int) := ⟨x.toNat, by omega⟩
  subst er
  have hr : r < cR D := by omega
  have hk := X6_kind (N := N) had (PcX_T hp1 hT ho) ha (by omega) hN hp1.1 han r
  unfold CxG
  cases hak : aKind T q1 with
  | inr e =>
    obtain ⟨k, p⟩ := e
    rw [hak] at hk
    obtain ⟨W2, e2, h2, o2⟩ := hk
    exact ⟨W2, n, n + 1, by rw [e2]; rfl, h2, fun z hz => (o2 z (by omega) (by omega)).trans (hp1.2.2.2.2.2.2 z hz), by omega⟩
  | inl e =>
    obtain ⟨k, q2⟩ := e
    rw [hak] at hk
    obtain ⟨W2, e2, h2, o2, hk4⟩ := hk
    have hp2 := PcX_on hp1 h2 o2
    obtain ⟨hrd, hhc, hcell, hlt, hap, _, hV⟩ := hp2
    have ⟨ht0, ⟨F, ht1, hF⟩, ⟨G, ht2, hG⟩⟩ := hhc.2.2.2.2.2.2.2 r hr
    have hthr := hlt r hr
    obtain ⟨m, hm1, hm2⟩ := hhc.2.1
    have hbe := X_beG (N := N) (V := W2) (a := n) (t := th r) (k := kc k) (k' := kc (cK D r)) (r := r) (m' := J 1) (F' := fun _ => 0) (G' := upd (fun _ => 0) 0 (J (r : Int))) (kc_in _ hk4) (kc_in _ (cK_le D r)) ht0 ht1 ht2 (fun d e hd he => by omega)
    have wo : ∀ N' F' G' x, x < n → wT W2 n (kc k) r N' F' G' x = W2 x := fun N' F' G' x hx => wT_o _ _ _ _ _ _ _ (by omega)
    obtain ⟨W3, e3, c3, f3⟩ := st_sR (z := r) (v := n) (W := wT W2 n (kc k) r (J (cP D r : Int)) (cp8 F (fun _ => 0)) (cp8 G (upd (fun _ => 0) 0 (J (r : Int))))) (b := a + 1 + 1) ((wo _ _ _ _ (by omega)).trans hm1) (ckC_of (wT_0 _ _ _ _ _ _ _) (kc_in _ hk4)) (by omega)
    have gu : ∀ W', W' a = W2 a → gR W' [6] a 1 = some (a + 1) := fun W' hw => by
      have := gu_1 (PcX_on hp1 h2 o2)
      unfold gR fld at this ⊢
      rw [hw]; exact this
    have gr : ∀ W', W' (a + 1) = W2 (a + 1) → gR W' [1] (a + 1) 7 = some (a + 1 + 1) := fun W' hw => gR_of (hw.trans hcell) (by decide) rfl
    refine ⟨W3, n + 3, ?_, ⟨fun x => if x = r then n else th x, ?_⟩, by omega⟩
    · rw [e2, Option.bind_some]
      simp only [thr]
      rw [gu _ (wo _ _ _ _ (by omega)), Option.bind_some, gr _ (wo _ _ _ _ (by omega)), Option.bind_some]
      rw [show aR 5 (wT W2 n (kc k) r (J 1) (fun _ => 0) (upd (fun _ => 0) 0 (J (r : Int)))) (a + 1 + 1) (J (r : Int)) = some (th r) from aR_of ((wo _ _ _ _ (by omega)).trans hm1) (by omega) (by decide) (by rw [Int.toNat_natCast]; exact hm2 r hr), Option.bind_some, ckC_of (wT_0 W2 n (kc k) r _ _ _) (kc_in _ hk4), Option.bind_some, hbe, Option.bind_some, gu _ (wo _ _ _ _ (by omega)), Option.bind_some, gr _ (wo _ _ _ _ (by omega)), Option.bind_some, e3, Option.bind_some]
    · have hw : ∀ x, x < n → x ≠ a + 2 → W3 x = W2 x := fun x h1 h2 => by rw [f3 x (by omega)]; exact wo _ _ _ _ h1
      have hKd := fun x => cKd_K (D := D) (r := r) hk4 x
      have ec : W3 (a + 1) = W2 (a + 1) := hw _ (by omega) (by omega)
      obtain ⟨_, _, a2, a3, a4, a5, a6, a7⟩ := hhc
      have hP := cP_bd D r
      rw [Int.toNat_natCast]
      refine ⟨⟨hrd.1, ?_⟩, ⟨⟨_, ec.trans hcell⟩, ⟨_, c3, fun x hx => ?_⟩, ?_, ?_, ?_, ?_, ?_, fun x hx => ?_⟩, ec.trans hcell, fun x hx => ?_, fun x y d e hx hy hxy hd he => ?_, by omega, fun x hx => (hw x (by omega) (by omega)).trans (hV x hx)⟩
      · obtain ⟨v, e1, e2⟩ := hrd.2
        exact ⟨v, by rw [hw _ (by omega) (by omega)]; exact e1, e2⟩
      · by_cases hxr : x = r
        · rw [hxr, va_up_self]; simp only [if_true]
        · rw [va_up_ne _ _ hxr]; simp only [if_neg hxr]; exact hm2 x hx
      · rw [hw _ (by omega) (by omega)]; exact a2
      · rw [hw _ (by omega) (by omega)]; exact a3
      · rw [hw _ (by omega) (by omega)]; exact a4
      · rw [hw _ (by omega) (by omega)]; exact a5
      · rw [hw _ (by omega) (by omega)]; exact a6
      · rw [hKd]
        by_cases hxr : x = r
        · subst hxr
          simp only [if_true]
          rw [f3 _ (by omega), f3 _ (by omega), f3 _ (by omega)]
          refine ⟨wT_0 _ _ _ _ _ _ _, ⟨_, wT_1 _ _ _ _ _ _ _, fun i hi => ?_⟩, ⟨_, wT_2 _ _ _ _ _ _ _, fun i hi => ?_⟩⟩
          · have hi' : i < cP D x := hi
            unfold cp8; rw [if_pos (by omega)]; exact hF i hi
          · have hi' : i < cP D x := hi
            unfold cp8; rw [if_pos (by omega)]; exact hG i hi
        · have htx := hlt x hx
          simp only [if_neg hxr]
          rw [hw _ (by omega) (by omega), hw _ (by omega) (by omega), hw _ (by omega) (by omega)]
          exact a7 x hx
      · by_cases hxr : x = r
        · simp only [if_pos hxr]; omega
        · simp only [if_neg hxr]; have := hlt x hx; omega
      · have h1 := hlt x hx
        have h2 := hlt y hy
        by_cases hxr : x = r
        · have hyr : y ≠ r := by omega
          simp only [if_pos hxr, if_neg hyr]; omega
        · by_cases hyr : y = r
          · simp only [if_neg hxr, if_pos hyr]; omega
          · simp only [if_neg hxr, if_neg hyr]
            exact hap x y d e hx hy hxy hd he
end
