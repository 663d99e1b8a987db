/-! the component: words, numbers -/
set_option maxRecDepth 100000
def RdA (ad : Nat → Nat) (T : Tx) (o a q : Nat) (W : Wd) : Prop := q ≤ T.2 ∧ ∃ v, W a = some (.inr (6, rdF T.2 (a + 1) o (en T q : Int) (q : Int) v (ad (kd T q)))) ∧ (kd T q = 2 → v = J (vl T q))
def OnA (a nxt : Nat) (W W' : Wd) : Prop := ∀ x, x ≠ a → x < nxt → W' x = W x
theorem OnA_r (a nxt : Nat) (W : Wd) : OnA a nxt W W := fun _ _ _ => rfl
theorem OnA_t {a n m : Nat} {W W' W'' : Wd} (h : OnA a n W W') (h' : OnA a m W' W'') (hm : n ≤ m) : OnA a n W W'' := fun x h1 h2 => (h' x h1 (by omega)).trans (h x h1 h2)
def FtA (W : Wd) (b k q : Nat) : Prop := W b = some (.inr (7, [.null, .null, .null, .null, .null, .int 0, .int (J (k : Int)), .int (J (q : Int))]))
section
variable {N o a nxt q : Nat} {W : Wd} {T : Tx} {ad : Nat → Nat}
theorem rdA_e (h : RdA ad T o a q W) : ∃ v, W = rdW W a T.2 (a + 1) o (en T q : Int) (q : Int) v (ad (kd T q)) ∧ (kd T q = 2 → v = J (vl T q)) := by
  obtain ⟨_, v, h1, h2⟩ := h
  exact ⟨v, (wup_same h1).symm, h2⟩
theorem X6_next (hT : TpX W o T) (ha : a ≠ o ∧ a ≠ o + 8) (hN : 1000000 ≤ N) (h : RdA ad T o a q W) (nxt : Nat) : ∃ W', fX6_next ad N W a = some W' ∧ RdA ad T o a (nx T q) W' ∧ OnA a nxt W W' := by
  have hn := hT.2.2
  obtain ⟨v, e, hv⟩ := rdA_e h
  obtain ⟨v', e', hv'⟩ := X_next (N := N) (ad := ad) (c := a + 1) (f := (q : Int)) (v := v) (t := ad (kd T q)) hT ha hN (en_le hn h.1).2
  refine ⟨rdW W a T.2 (a + 1) o (en T (nx T q) : Int) (nx T q : Int) v' (ad (kd T (nx T q))), ?_, ⟨(nx_le hn h.1).2, v', wup_s _ _ _, hv'⟩, fun x hx _ => wup_o _ _ hx⟩
  conv => lhs; rw [e]
  exact e'
theorem X6_tok (h : RdA ad T o a q W) : gR W [6] a 5 = some (ad (kd T q)) := by
  obtain ⟨_, v, h1, _⟩ := h
  exact gR_of h1 (by decide) rfl
theorem X6_is (had : ∀ i j, i < 5 → j < 5 → ad i = ad j → i = j) (hT : TpX W o T) (ha : a ≠ o ∧ a ≠ o + 8) (hN : 1000000 ≤ N) (h : RdA ad T o a q W) {i : Nat} (hi : i < 15) : fX6_is ad N W a i = some (Bp (isW T i q = true)) := by
  have hn := hT.2.2
  have h7 := wl_bd ⟨i, hi⟩
  simp only at h7
  have hk4 := kd_le T q
  have hel := en_le hn h.1
  obtain ⟨_, v, hc, hv⟩ := h
  have g2 : gI W [6] a 2 = some (J (en T q : Int)) := gI_of hc (by decide) rfl
  have g3 : gI W [6] a 3 = some (J (q : Int)) := gI_of hc (by decide) rfl
  have g5 : gR W [6] a 5 = some (ad (kd T q)) := gR_of hc (by decide) rfl
  have g6 : gR W [6] a 6 = some o := gR_of hc (by decide) rfl
  unfold fX6_is
  rw [g5, Option.bind_some]
  by_cases hk : kd T q = 1
  case neg => rw [if_neg (fun e => hk (had _ _ (by omega) (by omega) e)), Bp_f (fun hh => hk (isW_t.1 hh).1.1)]; rfl
  have he : en T q = q + ru T (isB 97 122) q := by unfold en; rw [if_neg (by omega), if_pos hk]
  have ⟨r1, r2, r3⟩ := ru_spec hn (isB 97 122) q
  rw [if_pos (by rw [hk]), g2, Option.bind_some, g3, Option.bind_some, J_sub, txL_J]
  by_cases hl : ru T (isB 97 122) q = wl i
  case neg => rw [if_neg (by rw [J_eq (by omega)]; omega), Bp_f (fun hh => hl (isW_t.1 hh).1.2)]; rfl
  rw [if_pos (by congr 1; omega)]
  have key := lp_find (fun n j => fX6_is_30 ad N W a i (some (0 : Int32)) (some (1 : Int32)) n (J (j : Int))) (fun _ => some (0 : Int32)) (some (1 : Int32)) (wl i) (fun j => decide (tz T (q + j) ≠ wb i j)) ?_ ?_ N (by omega)
  · refine Eq.trans key ?_
    unfold isW
    rw [decide_eq_true (And.intro hk hl), Bool.true_and]
    cases fi (fun j => decide (tz T (q + j) ≠ wb i j)) (wl i) with
    | none => rfl
    | some j => rfl
  · intro n j hj
    have hb := tz_bd T (q + j)
    have hwb := wb_bd ⟨i, hi⟩ ⟨j, by omega⟩ hj
    simp only at hwb
    have hlt := (r3 j (by omega)).1
    have ht : aI 2 W (o + 8) (J ((q + j : Nat) : Int)) = some (J (tz T (q + j))) := by
      rw [aI_of hT.2.1 (show 0 ≤ ((q + j : Nat) : Int) ∧ ((q + j : Nat) : Int) < (1600 : Nat) by omega) (by decide), Int.toNat_natCast, tz_J]
    show fX6_is_30 ad N W a i (some (0 : Int32)) (some (1 : Int32)) (n + 1) (J (j : Int)) = _
    rw [fX6_is_30, txL_J, if_neg (by rw [J_le (by omega)]; omega), g6, Option.bind_some, hT.1, Option.bind_some, g3, Option.bind_some, J_add, show (q : Int) + (j : Int) = ((q + j : Nat) : Int) by omega, ht, Option.bind_some, txAt_J hi hj, Option.bind_some]
    by_cases hd : tz T (q + j) = wb i j
    · rw [if_pos (by rw [hd]), if_neg (by simp [hd]), Option.bind_some, jn_1, J_add, castS]
    · rw [if_neg (by rw [J_eq (by omega)]; exact hd), if_pos (by simp [hd])]
  · intro n
    show fX6_is_30 ad N W a i (some (0 : Int32)) (some (1 : Int32)) (n + 1) (J (wl i : Int)) = _
    rw [fX6_is_30, txL_J, if_pos (by rw [J_le (by omega)]; omega)]
theorem X6_takes (had : ∀ i j, i < 5 → j < 5 → ad i = ad j → i = j) (hT : TpX W o T) (ha : a ≠ o ∧ a ≠ o + 8) (hN : 1000000 ≤ N) (h : RdA ad T o a q W) {i : Nat} (hi : i < 15) (nxt : Nat) : ∃ W', fX6_takes ad N W a i = some (Bp (isW T i q = true), W') ∧ RdA ad T o a (if isW T i q = true then nx T q else q) W' ∧ OnA a nxt W W' := by
  unfold fX6_takes
  rw [X6_is had hT ha hN h hi, Option.bind_some]
  by_cases hw : isW T i q = true
  · obtain ⟨W', e, h1, h2⟩ := X6_next (N := N) hT ha hN h nxt
    refine ⟨W', ?_, by rw [if_pos hw]; exact h1, h2⟩
    rw [Bp_t hw, if_neg (by decide), e, Option.bind_some, if_pos (by decide)]
  · refine ⟨W, ?_, by rw [if_neg hw]; exact h, OnA_r _ _ _⟩
    rw [Bp_f hw, if_pos (by decide), if_pos (by decide)]
theorem X6_thr {β : Type} (h : RdA ad T o a q W) (ha : a < nxt) (k : Nat) : ∃ W', ((fX6_wrong ad N W nxt a (J (k : Int))).bind fun x => (ckC x.2.1 [7] x.1).bind fun _ => (some (.inr (x.1, x.2.1, x.2.2)) : Option (β ⊕ Tw))) = some (.inr (nxt, W', nxt + 1)) ∧ FtA W' nxt k q ∧ OnA a nxt W W' := by
  obtain ⟨_, v, hc, _⟩ := h
  have e1 : wup W nxt (.inr (7, newX7)) nxt = some (.inr (7, newX7)) := wup_s _ _ _
  have g3 : gI (wup W nxt (.inr (7, newX7))) [6] a 3 = some (J (q : Int)) := gI_of ((wup_o _ _ (by omega)).trans hc) (by decide) rfl
  refine ⟨wup (wup W nxt (.inr (7, newX7))) nxt (.inr (7, [.null, .null, .null, .null, .null, .int 0, .int (J (k : Int)), .int (J (q : Int))])), ?_, wup_s _ _ _, fun x _ hx => by rw [wup_o _ _ (by omega), wup_o _ _ (by omega)]⟩
  unfold fX6_wrong
  rw [Option.bind_some, g3, Option.bind_some]
  have e2 : fX7_init N (wup W nxt (.inr (7, newX7))) nxt (J (k : Int)) (J (q : Int)) = some (wup (wup W nxt (.inr (7, newX7))) nxt (.inr (7, [.null, .null, .null, .null, .null, .int 0, .int (J (k : Int)), .int (J (q : Int))]))) := by
    unfold fX7_init
    rw [e1]; rfl
  rw [e2, Option.bind_some, Option.bind_some]
  simp only
  rw [ckC_of (wup_s _ _ _) (by decide), Option.bind_some]
/-- what a step answers -/
def CxV (ad : Nat → Nat) (T : Tx) (o a nxt : Nat) (W : Wd) (r : Pr Int) (x : Option ((Int32 × Wd × Nat) ⊕ Tw)) : Prop := match r with
  | .inl (y, q') => ∃ W', x = some (.inl (J y, W', nxt)) ∧ RdA ad T o a q' W' ∧ OnA a nxt W W'
  | .inr (k, p) => ∃ W', x = some (.inr (nxt, W', nxt + 1)) ∧ FtA W' nxt k p ∧ OnA a nxt W W'
def CxU (ad : Nat → Nat) (T : Tx) (o a nxt : Nat) (W : Wd) (r : Pr Unit) (x : Option ((Wd × Nat) ⊕ Tw)) : Prop := match r with
  | .inl (_, q') => ∃ W', x = some (.inl (W', nxt)) ∧ RdA ad T o a q' W' ∧ OnA a nxt W W'
  | .inr (k, p) => ∃ W', x = some (.inr (nxt, W', nxt + 1)) ∧ FtA W' nxt k p ∧ OnA a nxt W W'
theorem X6_needs (had : ∀ i j, i < 5 → j < 5 → ad i = ad j → i = j) (hT : TpX W o T) (ha : a ≠ o ∧ a ≠ o + 8) (hN : 1000000 ≤ N) (h : RdA ad T o a q W) (hx : a < nxt) {i : Nat} (hi : i < 15) : CxU ad T o a nxt W (aNeeds T i q) (fX6_needs ad N W nxt a i) := by
  obtain ⟨W', e, h1, h2⟩ := X6_takes (N := N) had hT ha hN h hi nxt
  unfold fX6_needs aNeeds
  rw [e, Option.bind_some]
  by_cases hw : isW T i q = true
  · rw [if_pos hw] at h1 ⊢
    refine ⟨W', ?_, h1, h2⟩
    rw [Bp_t hw]
    exact if_neg (show ¬ J 1 = (0 : Int32) by decide)
  · rw [if_neg hw] at h1 ⊢
    obtain ⟨W'', e3, h3, h4⟩ := X6_thr (N := N) (β := Wd × Nat) h1 hx 1
    refine ⟨W'', ?_, h3, OnA_t h2 h4 (Nat.le_refl _)⟩
    rw [Bp_f hw]
    exact Eq.trans (if_pos (show J 0 = (0 : Int32) from rfl)) e3
theorem X6_number (had : ∀ i j, i < 5 → j < 5 → ad i = ad j → i = j) (hT : TpX W o T) (ha : a ≠ o ∧ a ≠ o + 8) (hN : 1000000 ≤ N) (h : RdA ad T o a q W) (hx : a < nxt) {lo hi : Int} (hb : (-2147483648 ≤ lo ∧ lo ≤ 2147483647) ∧ -2147483648 ≤ hi ∧ hi ≤ 2147483647) : CxV ad T o a nxt W (aNum T lo hi q) (fX6_number ad N W nxt a (J lo) (J hi)) := by
  have hn := hT.2.2
  have hk4 := kd_le T q
  have hv9 := vl_bd hn q
  have h5 := X6_tok h
  unfold fX6_number aNum
  rw [h5, Option.bind_some]
  by_cases hk : kd T q = 2
  case neg =>
    rw [if_neg (fun e => hk (had _ _ (by omega) (by omega) e)), if_neg hk]
    exact X6_thr (N := N) (β := Int32 × Wd × Nat) h hx 1
  obtain ⟨v, hc, hv⟩ := h.2
  have g4 : gI W [6] a 4 = some (J (vl T q)) := by
    rw [← hv hk]
    exact gI_of hc (by decide) rfl
  rw [if_pos hk, if_pos (show ad (kd T q) = ad 2 by rw [hk]), g4, Option.bind_some, J_long (by omega), J_long hb.1, J_long hb.2, X_in (by omega), Option.bind_some, Option.bind_some]
  by_cases h1 : lo ≤ vl T q ∧ vl T q ≤ hi
  · rw [Bp_t h1, if_pos h1, if_neg (show ¬ J 1 = (0 : Int32) by decide)]
    obtain ⟨W', e, h2, h3⟩ := X6_next (N := N) hT ha hN h nxt
    exact ⟨W', by rw [e, Option.bind_some], h2, h3⟩
  · rw [Bp_f h1, if_neg h1, if_pos (show J 0 = (0 : Int32) from rfl)]
    exact X6_thr (N := N) (β := Int32 × Wd × Nat) h hx 2
theorem TpX_on {W' : Wd} (hT : TpX W o T) (h : OnA a nxt W W') (ha : a ≠ o ∧ a ≠ o + 8) (ho : o + 8 < nxt) : TpX W' o T := by
  obtain ⟨t1, t2, t3⟩ := hT
  refine ⟨?_, by rw [h (o + 8) (by omega) (by omega)]; exact t2, t3⟩
  unfold gR fld at t1 ⊢
  rw [h o (by omega) (by omega)]; exact t1
theorem X6_told (had : ∀ i j, i < 5 → j < 5 → ad i = ad j → i = j) (hT : TpX W o T) (ha : a ≠ o ∧ a ≠ o + 8) (ho : o + 8 < nxt) (hN : 1000000 ≤ N) (h : RdA ad T o a q W) (hx : a < nxt) {i : Nat} (hi : i < 15) {lo hi' : Int} (hb : (-2147483648 ≤ lo ∧ lo ≤ 2147483647) ∧ -2147483648 ≤ hi' ∧ hi' ≤ 2147483647) : CxV ad T o a nxt W (aTold T i lo hi' q) (fX6_told ad N W nxt a i (J lo) (J hi')) := by
  have hne := X6_needs (N := N) had hT ha hN h hx hi
  unfold fX6_told aTold
  unfold CxU at hne
  cases hr : aNeeds T i q with
  | inr e =>
    obtain ⟨k, p⟩ := e
    rw [hr] at hne
    obtain ⟨W', e, h1, h2⟩ := hne
    exact ⟨W', by rw [e]; rfl, h1, h2⟩
  | inl y =>
    obtain ⟨u, q'⟩ := y
    rw [hr] at hne
    obtain ⟨W', e, h1, h2⟩ := hne
    have hnu := X6_number (N := N) had (TpX_on hT h2 ha ho) ha hN h1 hx hb
    rw [e]
    show CxV ad T o a nxt W (aNum T lo hi' q') ((fX6_number ad N W' nxt a (J lo) (J hi')).bind fun x3 => thr x3 fun y4 => some (.inl (y4.1, y4.2.1, y4.2.2)))
    unfold CxV at hnu ⊢
    cases hr2 : aNum T lo hi' q' with
    | inr e2 =>
      obtain ⟨k, p⟩ := e2
      rw [hr2] at hnu
      obtain ⟨W'', e3, h3, h4⟩ := hnu
      exact ⟨W'', by rw [e3]; rfl, h3, OnA_t h2 h4 (Nat.le_refl _)⟩
    | inl y2 =>
      obtain ⟨z, q''⟩ := y2
      rw [hr2] at hnu
      obtain ⟨W'', e3, h3, h4⟩ := hnu
      exact ⟨W'', by rw [e3]; rfl, h3, OnA_t h2 h4 (Nat.le_refl _)⟩
theorem X6_roof (had : ∀ i j, i < 5 → j < 5 → ad i = ad j → i = j) (hT : TpX W o T) (ha : a ≠ o ∧ a ≠ o + 8) (hN : 1000000 ≤ N) (h : RdA ad T o a q W) (hx : a < nxt) {R : Nat} (hR : R ≤ 6) (hc : gI W [1] (a + 1) 0 = some (J (R : Int))) : CxV ad T o a nxt W (aNum T 0 ((R : Int) - 1) q) (fX6_roof ad N W nxt a) := by
  have h1 : gR W [6] a 1 = some (a + 1) := by
    obtain ⟨_, v, hh, _⟩ := h
    exact gR_of hh (by decide) rfl
  have hnu := X6_number (N := N) had hT ha hN h hx (lo := 0) (hi := (R : Int) - 1) (by omega)
  unfold fX6_roof
  rw [h1, Option.bind_some, hc, Option.bind_some, jn_0, jn_1, J_sub]
  unfold CxV at hnu ⊢
  cases hr2 : aNum T 0 ((R : Int) - 1) q with
  | inr e2 =>
    obtain ⟨k, p⟩ := e2
    rw [hr2] at hnu
    obtain ⟨W'', e3, h3, h4⟩ := hnu
    exact ⟨W'', by rw [e3]; rfl, h3, h4⟩
  | inl y2 =>
    obtain ⟨z, q''⟩ := y2
    rw [hr2] at hnu
    obtain ⟨W'', e3, h3, h4⟩ := hnu
    exact ⟨W'', by rw [e3]; rfl, h3, h4⟩
theorem X6_other (had : ∀ i j, i < 5 → j < 5 → ad i = ad j → i = j) (hT : TpX W o T) (ha : a ≠ o ∧ a ≠ o + 8) (hN : 1000000 ≤ N) (h : RdA ad T o a q W) (hx : a < nxt) {R : Nat} (hR : R ≤ 6) (hc : gI W [1] (a + 1) 0 = some (J (R : Int))) {r : Int} (hr : -2147483648 ≤ r ∧ r ≤ 2147483647) : CxV ad T o a nxt W (aOther T R r q) (fX6_other ad N W nxt a (J r)) := by
  have hn := hT.2.2
  have hk4 := kd_le T q
  have hv9 := vl_bd hn q
  have h5 := X6_tok h
  have hro := X6_roof (N := N) had hT ha hN h hx hR hc
  have hro2 : CxV ad T o a nxt W (aNum T 0 ((R : Int) - 1) q) ((fX6_roof ad N W nxt a).bind fun x => thr x fun y => some (.inl (y.1, y.2.1, y.2.2))) := by
    unfold CxV at hro ⊢
    cases hr2 : aNum T 0 ((R : Int) - 1) q with
    | inr e2 =>
      obtain ⟨k, p⟩ := e2
      rw [hr2] at hro
      obtain ⟨W'', e3, h3, h4⟩ := hro
      exact ⟨W'', by rw [e3]; rfl, h3, h4⟩
    | inl y2 =>
      obtain ⟨z, q''⟩ := y2
      rw [hr2] at hro
      obtain ⟨W'', e3, h3, h4⟩ := hro
      exact ⟨W'', by rw [e3]; rfl, h3, h4⟩
  unfold fX6_other aOther
  rw [h5, Option.bind_some]
  by_cases hk : kd T q = 2
  case neg =>
    rw [if_neg (fun e => hk (had _ _ (by omega) (by omega) e)), if_neg (fun e => hk e.1)]
    exact hro2
  obtain ⟨v, hcc, hv⟩ := h.2
  have g4 : gI W [6] a 4 = some (J (vl T q)) := by
    rw [← hv hk]
    exact gI_of hcc (by decide) rfl
  rw [if_pos (show ad (kd T q) = ad 2 by rw [hk]), g4, Option.bind_some]
  by_cases he : vl T q = r
  · rw [if_pos (show kd T q = 2 ∧ vl T q = r from ⟨hk, he⟩), if_pos (show J (vl T q) = J r by rw [he])]
    exact X6_thr (N := N) (β := Int32 × Wd × Nat) h hx 2
  · rw [if_neg (show ¬ (kd T q = 2 ∧ vl T q = r) from fun e => he e.2), if_neg (show ¬ J (vl T q) = J r by rw [J_eq (by omega)]; exact he)]
    exact hro2
end
