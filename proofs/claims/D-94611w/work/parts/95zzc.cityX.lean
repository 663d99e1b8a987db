/-! the component: feeding ends, the city is read -/
set_option maxRecDepth 100000
theorem emX_same {o : Nat} {S : XS} {W : Wd} (h : ∀ d, d = 0 ∨ 8 ≤ d ∧ d ≤ 21 → W (o + d) = some (xCell o S d)) : emX o S W = W := by
  funext x
  by_cases hx : x = o ∨ (o + 8 ≤ x ∧ x ≤ o + 21)
  · have e := h (x - o) (by omega)
    rw [show o + (x - o) = x by omega] at e
    rw [e]
    unfold emX
    rw [if_pos hx]
  · exact emX_out o S W x hx
section
variable {N o a : Nat} {V : Wd} {T : Tx} {ad : Nat → Nat} {th : Nat → Nat}
theorem X6_init (hT : TpX V o T) (ho : o + 8 < a) (hN : 1000000 ≤ N) (h2 : gI V [0] o 2 = some (J (T.2 : Int))) : ∃ W, fX6_init ad N (wup V a (.inr (6, newX6))) (a + 1) a o = some (W, a + 8) ∧ PcX ad T o a V D0 false th (sk T 0) W (a + 8) := by
  have hn := hT.2.2
  have ha : a ≠ o ∧ a ≠ o + 8 := by omega
  have f0 : ∀ x, x ≠ a → wup V a (.inr (6, newX6)) x = V x := fun x hx => wup_o _ _ hx
  obtain ⟨W1, p1, c1, f1⟩ := st_put (k := 6) (.ref o) (wup_s V a (.inr (6, newX6))) (cs := [6]) (by decide) (show 6 < 7 by decide)
  have g6 : gR W1 [6] a 6 = some o := gR_of c1 (by decide) rfl
  have g2 : gI W1 [0] o 2 = some (J (T.2 : Int)) := by
    unfold gI fld at h2 ⊢
    rw [f1 o (by omega), f0 o (by omega)]; exact h2
  obtain ⟨W2, p2, c2, f2⟩ := st_put (k := 0) (.int (J (T.2 : Int))) c1 (cs := [6]) (by decide) (show 0 < 7 by decide)
  obtain ⟨W3, p3, c3, f3⟩ := X1_init (N := N) (V := wup W2 (a + 1) (.inr (1, newX1))) (a := a + 1) (wup_s _ _ _)
  have k3 : ∀ x, x ≤ a → W3 x = W2 x := fun x hx => by rw [f3 x (by omega), wup_o _ _ (by omega)]
  obtain ⟨W4, p4, c4, f4⟩ := st_put (k := 1) (.ref (a + 1)) ((k3 a (by omega)).trans c2) (cs := [6]) (by decide) (show 1 < 7 by decide)
  obtain ⟨W5, p5, c5, f5⟩ := st_put (k := 5) (.ref (ad 0)) c4 (cs := [6]) (by decide) (show 5 < 7 by decide)
  have lo : ∀ x, x < a → W5 x = V x := fun x hx => by rw [f5 x (by omega), f4 x (by omega), k3 x (by omega), f2 x (by omega), f1 x (by omega), f0 x (by omega)]
  have hi : ∀ x, x ≠ a → W5 x = W3 x := fun x hx => by rw [f5 x hx, f4 x hx]
  have eW : W5 = rdW W5 a T.2 (a + 1) o ((0 : Nat) : Int) ((0 : Nat) : Int) (J 0) (ad 0) := (wup_same c5).symm
  have hT5 : TpX W5 o T := by
    obtain ⟨t1, t2, t3⟩ := hT
    refine ⟨?_, by rw [lo (o + 8) ho]; exact t2, t3⟩
    unfold gR fld at t1 ⊢
    rw [lo o (by omega)]; exact t1
  obtain ⟨v', e6, hv⟩ := X_next (N := N) (ad := ad) (a := a) (c := a + 1) (f := ((0 : Nat) : Int)) (v := J 0) (t := ad 0) hT5 ha hN (i := 0) (by omega)
  rw [← eW] at e6
  obtain ⟨d0, d1, d2, d3, d4, d5, d6⟩ := c3
  have cell : rdW W5 a T.2 (a + 1) o (en T (sk T 0) : Int) (sk T 0 : Int) v' (ad (kd T (sk T 0))) (a + 1) = some (.inr (1, [.int (J (cR D0 : Int)), .int (J (cX D0 : Int)), .int (J (cN D0 : Int)), .int (J (cL D0 : Int)), .int (J (cG D0 : Int)), .int (J (cO D0 : Int)), .int (Bp (false = true)), .ref (a + 1 + 1), .ref (a + 1 + 2), .ref (a + 1 + 3), .ref (a + 1 + 4), .ref (a + 1 + 5), .ref (a + 1 + 6)])) := by
    rw [rd_o T.2 (by omega), hi _ (by omega), d0]; rfl
  have cc : ∀ d, 1 ≤ d → rdW W5 a T.2 (a + 1) o (en T (sk T 0) : Int) (sk T 0 : Int) v' (ad (kd T (sk T 0))) (a + 1 + d) = W3 (a + 1 + d) := fun d hd => by rw [rd_o T.2 (by omega), hi _ (by omega)]
  have nl : ∀ {P : Prop} {k : Nat}, k < 0 → P := fun h => absurd h (Nat.not_lt_zero _)
  refine ⟨_, ?_, ⟨⟨(sk_le hn (Nat.zero_le _)).2, v', rd_at _, hv⟩, ⟨⟨_, cell⟩, ⟨_, (cc 1 (by omega)).trans d1, fun r hr => nl hr⟩, ⟨_, (cc 2 (by omega)).trans d2, fun r hr => nl hr⟩, ⟨_, (cc 3 (by omega)).trans d3, fun r hr => nl hr⟩, ⟨_, (cc 4 (by omega)).trans d4, fun r hr => nl hr⟩, ⟨_, (cc 5 (by omega)).trans d5, fun r hr => nl hr⟩, ⟨_, (cc 6 (by omega)).trans d6, fun r hr => nl hr⟩, fun r hr => nl hr⟩, cell, fun r hr => nl hr, fun r r' d e hr => nl hr, Nat.le_refl _, fun x hx => (rd_o T.2 (by omega)).trans (lo x hx)⟩⟩
  unfold fX6_init
  rw [p1, Option.bind_some, g6, Option.bind_some, g2, Option.bind_some, p2, Option.bind_some, Option.bind_some, p3, Option.bind_some]
  simp only
  rw [p4, Option.bind_some, p5, Option.bind_some, ckC_of c5 (by decide), Option.bind_some, e6, Option.bind_some]
end
/-- what end answers, in the component -/
def CtyX (ad : Nat → Nat) (T : Tx) (o nx : Nat) (S : XS) (w : Wd) (r : Pr (Cy × Bool)) (x : Option (Int32 × Wd × Nat)) : Prop := match r with
  | .inl ((D, g), q) => ∃ W n th, x = some (J (cL D : Int), emX o (xSI (xSI (xSI (xSC S (nx + 1)) 3 (J 0)) 4 (J (-1))) 2 (J 0)) W, n) ∧ PcX ad T o nx (emX o S w) D g th q W n
  | .inr (k, p) => ∃ W n, x = some (J (-4), emX o (xSI (xSI (xSI S 3 (J (k : Int))) 4 (J (p : Int))) 2 (J 0)) W, n) ∧ (∀ x, x < nx → W x = emX o S w x) ∧ nx ≤ n
section
variable {N o nx : Nat} {S : XS} {w : Wd} {ad : Nat → Nat}
theorem X_city (had : ∀ i j, i < 5 → j < 5 → ad i = ad j → i = j) (ho : o + 21 < nx) (hN : 1000000 ≤ N) {len : Nat} (hl : xi S 2 = J (len : Int)) (h16 : len ≤ 1600) : CtyX ad (xa S 8, len) o nx S w (aRead (xa S 8, len) 268 D0 false (sk (xa S 8, len) 0)) (fX0_city ad N (emX o S w) nx o) := by
  have hT : TpX (emX o S w) o (xa S 8, len) := ⟨xg_1 o S w, emX_at o S w 8 (by omega), h16⟩
  obtain ⟨W0, e0, p0⟩ := X6_init (N := N) (ad := ad) (th := fun _ => 0) (a := nx) hT (by omega) hN (by rw [xg_2, hl])
  have hr := X6_read (N := N) had hT (show o + 8 < nx by omega) hN p0
  have hck : ckC W0 [6] nx = some 6 := by
    obtain ⟨_, v, hh, _⟩ := p0.1
    exact ckC_of hh (by decide)
  have same : ∀ W, (∀ x, x < nx → W x = emX o S w x) → emX o S W = W := fun W hW => emX_same (fun d hd => by rw [hW _ (by omega)]; exact emX_at o S w d hd)
  unfold fX0_city
  rw [Option.bind_some, e0, Option.bind_some]
  simp only
  rw [hck, Option.bind_some]
  unfold RdR at hr
  unfold CtyX
  cases hrd : aRead (xa S 8, len) 268 D0 false (sk (xa S 8, len) 0) with
  | inr e =>
    obtain ⟨k, p⟩ := e
    rw [hrd] at hr
    obtain ⟨W, b, n, e1, hf, hlo, hb, hnn⟩ := hr
    have hs := same W hlo
    refine ⟨W, n, ?_, hlo, hnn⟩
    rw [e1, Option.bind_some]
    simp only
    have k6 : ∀ W' : Wd, W' b = W b → gI W' [7] b 6 = some (J (k : Int)) := fun W' h => gI_of (h.trans hf) (by decide) rfl
    have k7 : ∀ W' : Wd, W' b = W b → gI W' [7] b 7 = some (J (p : Int)) := fun W' h => gI_of (h.trans hf) (by decide) rfl
    unfold fX0_cityX
    rw [k6 W rfl, Option.bind_some]
    conv => lhs; rw [← hs]
    rw [xp_3, Option.bind_some, k7 _ (emX_out o _ W b (by omega)), Option.bind_some, xp_4, Option.bind_some, show (0 : Int32) = J 0 from rfl, xp_2, Option.bind_some]; rfl
  | inl e =>
    obtain ⟨⟨D, g⟩, q⟩ := e
    rw [hrd] at hr
    obtain ⟨W, n, th, e1, hp⟩ := hr
    have hs := same W hp.2.2.2.2.2.2
    refine ⟨W, n, th, ?_, hp⟩
    rw [e1, Option.bind_some]
    simp only
    unfold fX0_cityK
    conv => lhs; rw [← hs]
    rw [xp_0, Option.bind_some, show (0 : Int32) = J 0 from rfl, xp_3, Option.bind_some, show (-1 : Int32) = J (-1) from rfl, xp_4, Option.bind_some, xg_0, Option.bind_some]
    have g3 : gI (emX o (xSI (xSI (xSC S (nx + 1)) 3 (J 0)) 4 (J (-1))) W) [1] (nx + 1) 3 = some (J (cL D : Int)) := gI_of ((emX_out o _ W (nx + 1) (by omega)).trans hp.2.2.1) (by decide) rfl
    rw [show xc (xSI (xSI (xSC S (nx + 1)) 3 (J 0)) 4 (J (-1))) = nx + 1 from rfl, g3, Option.bind_some, xp_2, Option.bind_some]
end
