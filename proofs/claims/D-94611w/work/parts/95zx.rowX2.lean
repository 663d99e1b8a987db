/-! the component: a row line -/
set_option maxRecDepth 100000
def RwB (R r : Nat) (s : Rw) : Prop := ∀ i, i < s.1 → s.2.1 i ≤ 9 ∧ s.2.2 i < R ∧ (s.2.1 i = 0 → s.2.2 i = r)
theorem rwS_B {R r h t : Nat} {s : Rw} (hs : RwB R r s) (hb : h ≤ 9 ∧ t < R ∧ (h = 0 → t = r)) : RwB R r (rwS s h t) := by
  intro i hi
  have hi' : i < s.1 + 1 := hi
  show set1 s.2.1 s.1 h i ≤ 9 ∧ set1 s.2.2 s.1 t i < R ∧ (set1 s.2.1 s.1 h i = 0 → set1 s.2.2 s.1 t i = r)
  unfold set1
  by_cases e : i = s.1
  · rw [if_pos e, if_pos e]; exact hb
  · rw [if_neg e, if_neg e]; exact hs i (by omega)
theorem bnd_ok {α β : Type} {r : Pr α} {f : α → Nat → Pr β} {y : β × Nat} (h : bnd r f = .inl y) : ∃ a q, r = .inl (a, q) ∧ f a q = .inl y := by
  cases r with
  | inl x => exact ⟨x.1, x.2, rfl, h⟩
  | inr e => cases h
theorem aNum_0 {T : Tx} {lo hi y : Int} {q q' : Nat} (h : aNum T lo hi q = .inl (y, q')) : y = vl T q := by
  unfold aNum at h
  by_cases h1 : kd T q = 2
  · rw [if_pos h1] at h
    by_cases h2 : lo ≤ vl T q ∧ vl T q ≤ hi
    · rw [if_pos h2] at h
      injection h with h
      injection h with e1 e2
      exact e1.symm
    · rw [if_neg h2] at h; cases h
  · rw [if_neg h1] at h; cases h
theorem aRw_ok {T : Tx} {R r : Nat} (hr : r < R) : ∀ (m : Nat) (s : Rw) (q : Nat), s.1 ≤ 8 → RwB R r s → ∀ s' q', aRw T R r m s q = .inl (s', q') → (1 ≤ s'.1 ∧ s'.1 ≤ 8) ∧ RwB R r s' := by
  intro m
  induction m with
  | zero => intro s q _ _ s' q' h; cases h
  | succ m ih =>
    intro s q h8 hb s' q' h
    rw [aRw] at h
    by_cases e8 : s.1 = 8
    · rw [if_pos e8] at h; cases h
    rw [if_neg e8] at h
    obtain ⟨x, q1, hx, h⟩ := bnd_ok h
    obtain ⟨y, q2, hy, h⟩ := bnd_ok h
    have hx1 := aNum_ok hx
    have hyb : y.toNat < R ∧ (x.toNat = 0 → y.toNat = r) := by
      by_cases w6 : isW T 6 q1 = true
      · rw [if_pos w6] at hy
        by_cases hc : x = 0 ∧ kd T (nx T q1) = 2 ∧ vl T (nx T q1) ≠ r
        · rw [if_pos hc] at hy; cases hy
        · rw [if_neg hc] at hy
          have hy1 := aNum_ok hy
          have hy2 := aNum_0 hy
          refine ⟨by omega, fun h0 => ?_⟩
          by_cases hv : vl T (nx T q1) = (r : Int)
          · omega
          · exact absurd ⟨by omega, hy1.2.2, hv⟩ hc
      · rw [if_neg w6] at hy
        injection hy with hy
        injection hy with e1 e2
        omega
    have hb2 := rwS_B (h := x.toNat) (t := y.toNat) hb ⟨by omega, hyb.1, hyb.2⟩
    by_cases k2 : kd T q2 = 2
    · rw [if_pos k2] at h
      exact ih _ q2 (show s.1 + 1 ≤ 8 by omega) hb2 s' q' h
    · rw [if_neg k2] at h
      injection h with h
      injection h with e1 e2
      rw [← e1]
      exact ⟨⟨by show 1 ≤ s.1 + 1; omega, by show s.1 + 1 ≤ 8; omega⟩, hb2⟩
section
variable {N o a n q : Nat} {V W : Wd} {T : Tx} {ad : Nat → Nat} {D : Cy} {g : Bool} {th : Nat → Nat}
theorem X6_row (had : ∀ i j, i < 5 → j < 5 → ad i = ad j → i = j) (hT : TpX V o T) (ho : o + 8 < a) (hN : 1000000 ≤ N) (h : PcX ad T o a V D g th q W n) : CxG (fun D' q' W' n' => PcX ad T o a V D' g th q' W' n' ∧ n ≤ n') V a (aRow T D q) (fX6_row ad N W n a) := by
  have h8 := h.2.2.2.2.2.1
  have han : a < n := by omega
  have ha : a ≠ o ∧ a ≠ o + 8 := by omega
  have hR := cR_le D
  have hn := hT.2.2
  unfold fX6_row aRow
  refine bndV (X6_roof (N := N) had (PcX_T h hT ho) ha hN h.1 han hR (PcX_i h (k := 0) rfl)) han h.2.2.2.2.2.2 (fun x q1 W1 hx hr1 ho1 => ?_)
  have hx1 := aNum_ok hx
  have hp1 := PcX_on h hr1 ho1
  simp only
  obtain ⟨r, er⟩ : ∃ r : Nat, x = (r : Int) := ⟨x.toNat, by omega⟩
  subst er
  have hr : r < cR D := by omega
  have hat := hc_at hp1.2.1 (z := (r : Int)) (by omega)
  rw [Int.toNat_natCast] at hat
  rw [gu_1 hp1, Option.bind_some, PcX_g hp1 (k := 7) rfl, Option.bind_some, hat, Option.bind_some, Int.toNat_natCast]
  have hro : RoX ad T o a V D g th r n (0, fun _ => 0, fun _ => 0) q1 W1 := by
    obtain ⟨F, G, e1, _⟩ := Hc_thr hp1.2.1 hr
    exact ⟨W1, F, G, hp1, e1.symm, fun i hi => absurd hi (Nat.not_lt_zero i)⟩
  have hfail : ∀ (s : Rw) q W (k : Nat), RoX ad T o a V D g th r n s q W → ∃ W' b n', ((fX6_wrong ad N W n a (J (k : Int))).bind fun x => (ckC x.2.1 [7] x.1).bind fun _ => (some (.inr (x.1, x.2.1, x.2.2)) : Option ((Wd × Nat) ⊕ Tw))) = some (.inr (b, W', n')) ∧ FtA W' b k q ∧ (∀ z, z < a → W' z = V z) ∧ a ≤ b ∧ a ≤ n' := by
    intro s q W k hp
    obtain ⟨W', e, h1, h2⟩ := X6_thr (N := N) (β := Wd × Nat) (RoX_rd hp hr) han k
    exact ⟨W', n, n + 1, e, h1, fun z hz => (h2 z (by omega) (by omega)).trans (RoX_lo hp hr z hz), by omega⟩
  have key := X6_row_17 (N := N) (r := r) (g := g) (th := th) had hT ho hN h8 hr (k23 := fun w33 y34 =>
      (gI w33 [6] a 4).bind fun x35 =>
      (fX0_isIn N w33 x35.toInt64 (0 : Int64) (9 : Int64)).bind fun x36 =>
      if x36 = 0 then
        (fX6_wrong ad N w33 y34 a (2 : Int32)).bind fun x37 =>
        (ckC x37.2.1 [7] x37.1).bind fun c38 =>
        some (.inr (x37.1, x37.2.1, x37.2.2))
      else
        (fX6_wrong ad N w33 y34 a (3 : Int32)).bind fun x39 =>
        (ckC x39.2.1 [7] x39.1).bind fun c40 =>
        some (.inr (x39.1, x39.2.1, x39.2.2))) (k92 := fun w41 y42 =>
      (fX6_wrong ad N w41 y42 a (2 : Int32)).bind fun x43 =>
      (ckC x43.2.1 [7] x43.1).bind fun c44 =>
      some (.inr (x43.1, x43.2.1, x43.2.2))) (K := fun y45 w46 y47 =>
      (pF w46 [2, 8, 9, 10, 11] (th r) 3 (.int y45)).bind fun w48 =>
      some (.inl (w48, y47))) (fun s q W hk hp => ?_) (fun s q W hp => hfail s q W 2 hp) 9 (0, fun _ => 0, fun _ => 0) q1 W1 rfl (by decide) (fun e => absurd rfl e) hro
  · unfold RoR at key
    unfold CxG
    cases hrw : aRw T (cR D) r 9 (0, fun _ => 0, fun _ => 0) q1 with
    | inr e =>
      obtain ⟨k, p⟩ := e
      rw [hrw] at key
      exact key
    | inl e =>
      obtain ⟨s', q'⟩ := e
      rw [hrw] at key
      obtain ⟨W', e1, U, F, G, p1, eW, hFG⟩ := key
      obtain ⟨⟨s1, s2⟩, sb⟩ := aRw_ok hr 9 (0, fun _ => 0, fun _ => 0) q1 (by decide) (fun i hi => absurd hi (Nat.not_lt_zero i)) s' q' hrw
      have hkk := kc_in _ (cK_le D r)
      have hth := p1.2.2.2.1
      have hsep : Sep (n + 100) (a + 1) th (cR D) := ⟨fun d hd => by unfold own; omega, fun r d hr hd => by have := hth r hr; unfold own; omega, fun r d e hr hd he => by have := hth r hr; omega, p1.2.2.2.2.1⟩
      have hrow := Hc_row p1.2.1 hsep hr (n := s'.1) (H := s'.2.1) (T := s'.2.2) (F := F) (G := G) ⟨s1, s2⟩ (fun i hi => by
        have h1 := sb i hi
        exact ⟨h1.1, by omega, (hFG i hi).1, (hFG i hi).2⟩)
      have hthr := hth r hr
      refine ⟨wT U (th r) (kc (cK D r)) r (J (s'.1 : Int)) F G, n, ?_, ⟨⟨p1.1.1, ?_⟩, hrow, ?_, p1.2.2.2.1, p1.2.2.2.2.1, h8, fun x hx => (wT_o _ _ _ _ _ _ _ (by omega)).trans (p1.2.2.2.2.2.2 x hx)⟩, Nat.le_refl _⟩
      · refine Eq.trans e1 ?_
        simp only
        rw [eW, pF_of (.int (J (s'.1 : Int))) (wT_0 U (th r) (kc (cK D r)) r (J (cP D r : Int)) F G) hkk (show 3 < 4 by decide), Option.bind_some]
        exact congrArg (fun z => (some (.inl (z, n)) : Option ((Wd × Nat) ⊕ Tw))) (wT_up0 U (th r) (kc (cK D r)) r (J (cP D r : Int)) (J (s'.1 : Int)) F G)
      · obtain ⟨v, v1, v2⟩ := p1.1.2
        exact ⟨v, (wT_o _ _ _ _ _ _ _ (by omega)).trans v1, v2⟩
      · exact (wT_o _ _ _ _ _ _ _ (by omega)).trans p1.2.2.1
  · have hv9 := vl_bd hn q
    obtain ⟨v, hcc, hv⟩ := (RoX_rd hp hr).2
    have g4 : gI W [6] a 4 = some (J (vl T q)) := by
      rw [← hv hk]
      exact gI_of hcc (by decide) rfl
    rw [g4, Option.bind_some, J_long (by omega), show (0 : Int64) = JL 0 from rfl, show (9 : Int64) = JL 9 from rfl, X_in (by omega), Option.bind_some]
    by_cases hb : 0 ≤ vl T q ∧ vl T q ≤ 9
    · rw [Bp_t hb, if_neg (show ¬ J 1 = (0 : Int32) by decide), if_pos hb]
      exact hfail s q W 3 hp
    · rw [Bp_f hb, if_pos (show J 0 = (0 : Int32) from rfl), if_neg hb]
      exact hfail s q W 2 hp
end
