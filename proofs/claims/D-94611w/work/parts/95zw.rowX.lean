/-! the component: a row of throws -/
set_option maxRecDepth 100000
/-- the Reader at q, s of row r written -/
def RoX (ad : Nat → Nat) (T : Tx) (o a : Nat) (V : Wd) (D : Cy) (g : Bool) (th : Nat → Nat) (r n : Nat) (s : Rw) (q : Nat) (W : Wd) : Prop := ∃ U F G, PcX ad T o a V D g th q U n ∧ W = wT U (th r) (kc (cK D r)) r (J (cP D r : Int)) F G ∧ ∀ i, i < s.1 → F i = J (s.2.1 i : Int) ∧ G i = J (s.2.2 i : Int)
section
variable {N o a n q r : Nat} {V W : Wd} {T : Tx} {ad : Nat → Nat} {D : Cy} {g : Bool} {th : Nat → Nat} {s : Rw}
theorem RoX_eq (h : RoX ad T o a V D g th r n s q W) (hr : r < cR D) : ∃ U, PcX ad T o a V D g th q U n ∧ ∀ x, x < a + 8 → W x = U x := by
  obtain ⟨U, F, G, h1, h2, _⟩ := h
  have := h1.2.2.2.1 r hr
  exact ⟨U, h1, fun x hx => by rw [h2]; exact wT_o _ _ _ _ _ _ _ (by omega)⟩
theorem RoX_rd (h : RoX ad T o a V D g th r n s q W) (hr : r < cR D) : RdA ad T o a q W := by
  obtain ⟨U, h1, h2⟩ := RoX_eq h hr
  obtain ⟨hq, v, e1, e2⟩ := h1.1
  exact ⟨hq, v, (h2 a (by omega)).trans e1, e2⟩
theorem RoX_lo (h : RoX ad T o a V D g th r n s q W) (hr : r < cR D) : ∀ x, x < a → W x = V x := by
  obtain ⟨U, h1, h2⟩ := RoX_eq h hr
  exact fun x hx => (h2 x (by omega)).trans (h1.2.2.2.2.2.2 x hx)
theorem RoX_0 (h : RoX ad T o a V D g th r n s q W) (hr : r < cR D) : gI W [1] (a + 1) 0 = some (J (cR D : Int)) := by
  obtain ⟨U, h1, h2⟩ := RoX_eq h hr
  exact gI_of ((h2 (a + 1) (by omega)).trans h1.2.2.1) (by decide) rfl
theorem RoX_T (h : RoX ad T o a V D g th r n s q W) (hr : r < cR D) (hT : TpX V o T) (ho : o + 8 < a) : TpX W o T := by
  have hw := RoX_lo h hr
  obtain ⟨t1, t2, t3⟩ := hT
  refine ⟨?_, by rw [hw (o + 8) ho]; exact t2, t3⟩
  unfold gR fld at t1 ⊢
  rw [hw o (by omega)]; exact t1
theorem RoX_on {q' : Nat} {W' : Wd} (h : RoX ad T o a V D g th r n s q W) (hr : r < cR D) (hrd : RdA ad T o a q' W') (hw : OnA a n W W') : RoX ad T o a V D g th r n s q' W' := by
  obtain ⟨U, F, G, h1, h2, h3⟩ := h
  have hth := h1.2.2.2.1 r hr
  refine ⟨fun x => if th r ≤ x ∧ x ≤ th r + 2 then U x else W' x, F, G, PcX_on h1 ?_ ?_, ?_, h3⟩
  · obtain ⟨hq, v, e1, e2⟩ := hrd
    exact ⟨hq, v, by simp only [if_neg (show ¬ (th r ≤ a ∧ a ≤ th r + 2) by omega)]; exact e1, e2⟩
  · intro x x1 x2
    simp only
    by_cases hx : th r ≤ x ∧ x ≤ th r + 2
    · rw [if_pos hx]
    · rw [if_neg hx, hw x x1 x2, h2, wT_o _ _ _ _ _ _ _ hx]
  · funext x
    by_cases hx : th r ≤ x ∧ x ≤ th r + 2
    · rw [hw x (by omega) (by omega), h2]
      unfold wT
      by_cases e0 : x = th r
      · rw [if_pos e0, if_pos e0]
      · rw [if_neg e0, if_neg e0]
        by_cases e1 : x = th r + 1
        · rw [if_pos e1, if_pos e1]
        · rw [if_neg e1, if_neg e1, if_pos (by omega), if_pos (by omega)]
    · rw [wT_o _ _ _ _ _ _ _ hx, if_neg hx]
theorem T_setV {w : Wd} {a k r : Nat} {m : Int32} {F G : Nat → Int32} (hk : k ∈ [2, 8, 9, 10, 11]) {i : Int} (hi : 0 ≤ i ∧ i < 8) (x y : Int32) : fX2_set N (wT w a k r m F G) a (J i) x y = some (wT w a k r m (upd F i.toNat x) (upd G i.toNat y)) := by
  unfold fX2_set
  rw [gR_of (wT_0 w a k r m F G) hk rfl, Option.bind_some, sI_of x (wT_1 w a k r m F G) hi (by decide), Option.bind_some, nar_0, wT_up1, gR_of (wT_0 w a k r m _ G) hk rfl, Option.bind_some, sI_of y (wT_2 w a k r m _ G) hi (by decide), Option.bind_some, nar_0, wT_up2]
/-- one more of the row -/
theorem RoX_set (h : RoX ad T o a V D g th r n s q W) (hs : s.1 < 8) (x y : Nat) : ckC W famT (th r) = some (kc (cK D r)) ∧ ∃ W', fX2_set N W (th r) (J (s.1 : Int)) (J (x : Int)) (J (y : Int)) = some W' ∧ RoX ad T o a V D g th r n (rwS s x y) q W' := by
  obtain ⟨U, F, G, h1, h2, h3⟩ := h
  have hkk := kc_in _ (cK_le D r)
  subst h2
  refine ⟨ckC_of (wT_0 _ _ _ _ _ _ _) hkk, _, T_setV hkk (by omega) _ _, U, _, _, h1, rfl, fun i hi => ?_⟩
  have hi' : i < s.1 + 1 := hi
  show upd F (s.1 : Int).toNat _ i = J ((set1 s.2.1 s.1 x i : Nat) : Int) ∧ upd G (s.1 : Int).toNat _ i = J ((set1 s.2.2 s.1 y i : Nat) : Int)
  unfold set1
  rw [Int.toNat_natCast]
  by_cases e : i = s.1
  · rw [if_pos e, if_pos e, e, upd_s, upd_s]; exact ⟨rfl, rfl⟩
  · rw [if_neg e, if_neg e, upd_o _ _ e, upd_o _ _ e]; exact h3 i (by omega)
/-- a loop's answer -/
def RoR (ad : Nat → Nat) (T : Tx) (o a : Nat) (V : Wd) (D : Cy) (g : Bool) (th : Nat → Nat) (r n : Nat) (K : Int32 → Wd → Nat → Option ((Wd × Nat) ⊕ Tw)) (p : Pr Rw) (x : Option ((Wd × Nat) ⊕ Tw)) : Prop := match p with
  | .inl (s', q') => ∃ W', x = K (J (s'.1 : Int)) W' n ∧ RoX ad T o a V D g th r n s' q' W'
  | .inr (k, p) => ∃ W' b n', x = some (.inr (b, W', n')) ∧ FtA W' b k p ∧ (∀ z, z < a → W' z = V z) ∧ a ≤ b ∧ a ≤ n'
theorem RoR_f {K : Int32 → Wd → Nat → Option ((Wd × Nat) ⊕ Tw)} {k p : Nat} {x : Option ((Wd × Nat) ⊕ Tw)} {W' : Wd} (hlo : ∀ z, z < a → W z = V z) (han : a < n) (e : x = some (.inr (n, W', n + 1))) (h1 : FtA W' n k p) (h2 : OnA a n W W') : RoR ad T o a V D g th r n K (.inr (k, p)) x := ⟨W', n, n + 1, e, h1, fun z hz => (h2 z (by omega) (by omega)).trans (hlo z hz), by omega⟩
theorem X6_row_17 (had : ∀ i j, i < 5 → j < 5 → ad i = ad j → i = j) (hT : TpX V o T) (ho : o + 8 < a) (hN : 1000000 ≤ N) (han : a + 8 ≤ n) (hr : r < cR D) {k23 k92 : Wd → Nat → Option ((Wd × Nat) ⊕ Tw)} {K : Int32 → Wd → Nat → Option ((Wd × Nat) ⊕ Tw)}
    (h23 : ∀ s q W, kd T q = 2 → RoX ad T o a V D g th r n s q W → ∃ W' b n', k23 W n = some (.inr (b, W', n')) ∧ FtA W' b (if 0 ≤ vl T q ∧ vl T q ≤ 9 then 3 else 2) q ∧ (∀ z, z < a → W' z = V z) ∧ a ≤ b ∧ a ≤ n')
    (h92 : ∀ s q W, RoX ad T o a V D g th r n s q W → ∃ W' b n', k92 W n = some (.inr (b, W', n')) ∧ FtA W' b 2 q ∧ (∀ z, z < a → W' z = V z) ∧ a ≤ b ∧ a ≤ n') :
    ∀ (m : Nat) (s : Rw) (q : Nat) (W : Wd), s.1 + m = 9 → s.1 ≤ 8 → (s.1 ≠ 0 → kd T q = 2) → RoX ad T o a V D g th r n s q W → RoR ad T o a V D g th r n K (aRw T (cR D) r m s q) (fX6_row_17 ad N a (J (r : Int)) (th r) k23 k92 K (m + 1) (J (s.1 : Int)) W n) := by
  have hR := cR_le D
  have ha : a ≠ o ∧ a ≠ o + 8 := by omega
  have t1 : ¬ J 1 = (0 : Int32) := by decide
  have t0 : J 0 = (0 : Int32) := rfl
  intro m
  induction m with
  | zero => intro s q W h1 h2; omega
  | succ m ih =>
    intro s q W hm hs8 hk h
    rw [fX6_row_17, aRw]
    by_cases h8 : s.1 = 8
    · rw [if_pos h8, if_pos (show J (s.1 : Int) = (8 : Int32) by rw [h8]; rfl)]
      exact h23 s q W (hk (by omega)) h
    rw [if_neg h8, if_neg (show ¬ J (s.1 : Int) = (8 : Int32) by rw [show (8 : Int32) = J 8 from rfl, J_eq (by omega)]; omega)]
    have tail : ∀ (x y : Int) q' W', (0 ≤ x ∧ 0 ≤ y) → RoX ad T o a V D g th r n s q' W' → RoR ad T o a V D g th r n K (if kd T q' = 2 then aRw T (cR D) r m (rwS s x.toNat y.toNat) q' else .inl (rwS s x.toNat y.toNat, q')) ((ckC W' famT (th r)).bind fun _ => (fX2_set N W' (th r) (J (s.1 : Int)) (J x) (J y)).bind fun w9 => (some (J (s.1 : Int) + (1 : Int32))).bind fun x11 => (gR w9 [6] a 5).bind fun x12 => if x12 = ad 2 then fX6_row_17 ad N a (J (r : Int)) (th r) k23 k92 K (m + 1) x11 w9 n else K x11 w9 n) := by
      intro x y q' W' hxy hp
      obtain ⟨c1, W'', e1, p1⟩ := RoX_set (N := N) hp (by omega) x.toNat y.toNat
      have hk4 := kd_le T q'
      rw [c1, Option.bind_some, show J x = J ((x.toNat : Nat) : Int) by congr 1; omega, show J y = J ((y.toNat : Nat) : Int) by congr 1; omega, e1, Option.bind_some, Option.bind_some, X6_tok (RoX_rd p1 hr), Option.bind_some, jn_1, J_add, castS]
      by_cases hk2 : kd T q' = 2
      · rw [if_pos hk2, if_pos (show ad (kd T q') = ad 2 by rw [hk2])]
        exact ih (rwS s x.toNat y.toNat) q' W'' (show s.1 + 1 + m = 9 by omega) (show s.1 + 1 ≤ 8 by omega) (fun _ => hk2) p1
      · rw [if_neg hk2, if_neg (fun e => hk2 (had _ _ (by omega) (by omega) e))]
        exact ⟨W'', rfl, p1⟩
    have hnum := X6_number (N := N) had (RoX_T h hr hT ho) ha hN (RoX_rd h hr) (show a < n by omega) (lo := 0) (hi := 9) (by omega)
    unfold CxV at hnum
    cases hr1 : aNum T 0 9 q with
    | inr e =>
      obtain ⟨k, p⟩ := e
      rw [hr1] at hnum
      obtain ⟨W1, e1, h1, o1⟩ := hnum
      exact RoR_f (RoX_lo h hr) (by omega) (by rw [show (0 : Int32) = J 0 from rfl, show (9 : Int32) = J 9 from rfl, e1]; rfl) h1 o1
    | inl e =>
      obtain ⟨x, q1⟩ := e
      rw [hr1] at hnum
      have hx := aNum_ok hr1
      obtain ⟨W1, e1, h1, o1⟩ := hnum
      have p1 := RoX_on h hr h1 o1
      rw [show fX6_number ad N W n a (0 : Int32) (9 : Int32) = some (.inl (J x, W1, n)) from e1, Option.bind_some]
      simp only [thr, bnd]
      obtain ⟨W2, e2, h2, o2⟩ := X6_takes (N := N) had (RoX_T p1 hr hT ho) ha hN h1 (i := 6) (by decide) n
      have p2 := RoX_on p1 hr h2 o2
      rw [e2, Option.bind_some]
      by_cases w6 : isW T 6 q1 = true
      · rw [if_pos w6] at p2 h2 ⊢
        rw [Bp_t w6]
        simp only
        rw [if_neg t1]
        have hroof := X6_roof (N := N) had (RoX_T p2 hr hT ho) ha hN h2 (show a < n by omega) hR (RoX_0 p2 hr)
        have hroofR : ∀ (F : Int32 × Wd × Nat → Option ((Wd × Nat) ⊕ Tw)), (∀ y q' W', 0 ≤ y → RoX ad T o a V D g th r n s q' W' → RoR ad T o a V D g th r n K (if kd T q' = 2 then aRw T (cR D) r m (rwS s x.toNat y.toNat) q' else .inl (rwS s x.toNat y.toNat, q')) (F (J y, W', n))) → RoR ad T o a V D g th r n K (bnd (aNum T 0 ((cR D : Int) - 1) (nx T q1)) fun t q => if kd T q = 2 then aRw T (cR D) r m (rwS s x.toNat t.toNat) q else .inl (rwS s x.toNat t.toNat, q)) ((fX6_roof ad N W2 n a).bind fun x => thr x F) := by
          intro F hF
          unfold CxV at hroof
          cases hr2 : aNum T 0 ((cR D : Int) - 1) (nx T q1) with
          | inr e =>
            obtain ⟨k, p⟩ := e
            rw [hr2] at hroof
            obtain ⟨W3, e3, h3, o3⟩ := hroof
            exact RoR_f (RoX_lo p2 hr) (by omega) (by rw [e3]; rfl) h3 o3
          | inl e =>
            obtain ⟨y, q2⟩ := e
            rw [hr2] at hroof
            have hy := aNum_ok hr2
            obtain ⟨W3, e3, h3, o3⟩ := hroof
            rw [e3]
            exact hF y q2 W3 hy.1.1 (RoX_on p2 hr h3 o3)
        by_cases hx0 : x = 0
        · subst hx0
          rw [if_pos t0, X6_tok h2, Option.bind_some]
          have hk4 := kd_le T (nx T q1)
          have hn := hT.2.2
          have hv9 := vl_bd hn (nx T q1)
          by_cases hk2 : kd T (nx T q1) = 2
          · rw [if_pos (show ad (kd T (nx T q1)) = ad 2 by rw [hk2])]
            obtain ⟨v, hcc, hv⟩ := h2.2
            have g4 : gI W2 [6] a 4 = some (J (vl T (nx T q1))) := by
              rw [← hv hk2]
              exact gI_of hcc (by decide) rfl
            rw [g4, Option.bind_some]
            by_cases hvr : vl T (nx T q1) = (r : Int)
            · rw [if_pos (show J (vl T (nx T q1)) = J (r : Int) by rw [hvr]), if_neg (fun e => e.2.2 hvr)]
              exact hroofR _ (fun y q' W' hy hp => tail 0 y q' W' (by omega) hp)
            · rw [if_neg (show ¬ J (vl T (nx T q1)) = J (r : Int) by rw [J_eq (by omega)]; exact hvr), if_pos ⟨rfl, hk2, hvr⟩]
              exact h92 s _ W2 p2
          · rw [if_neg (fun e => hk2 (had _ _ (by omega) (by omega) e)), if_neg (fun e => hk2 e.2.1)]
            exact hroofR _ (fun y q' W' hy hp => tail 0 y q' W' (by omega) hp)
        · rw [if_neg (show ¬ J x = (0 : Int32) by rw [show (0 : Int32) = J 0 from rfl, J_eq (by omega)]; exact hx0), if_neg (fun e => hx0 e.1)]
          exact hroofR _ (fun y q' W' hy hp => tail x y q' W' (by omega) hp)
      · rw [if_neg w6] at p2 ⊢
        rw [Bp_f w6]
        simp only
        rw [if_pos t0]
        exact tail x (r : Int) q1 W2 (by omega) p2
end
