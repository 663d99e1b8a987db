/-! the component: latest -/
set_option maxRecDepth 100000
theorem lp_exf3 {σ β : Type} (F : Nat → Nat → σ → Option β) (kf : Nat → σ → Option β) (ke : σ → Option β) (m : Nat) (p : Nat → Bool) (I : Nat → σ → Prop) (Jn : σ → Prop)
    (hs1 : ∀ n i s, i < m → I i s → p i = true → ∃ s', F (n + 1) i s = kf i s' ∧ Jn s')
    (hs2 : ∀ n i s, i < m → I i s → ¬ p i = true → ∃ s', F (n + 1) i s = F n (i + 1) s' ∧ I (i + 1) s')
    (he : ∀ n s, I m s → F (n + 1) m s = ke s) (n : Nat) (s : σ) (hn : m < n) (h0 : I 0 s) : (∃ i s', fi p m = some i ∧ F n 0 s = kf i s' ∧ Jn s') ∨ (∃ s', fi p m = none ∧ F n 0 s = ke s' ∧ I m s') := by
  have key : ∀ i, i ≤ m → (∀ j, j < i → ¬ p j = true) → ∃ s', F n 0 s = F (n - i) i s' ∧ I i s' := by
    intro i
    induction i with
    | zero => intro _ _; exact ⟨s, rfl, h0⟩
    | succ i ih =>
      intro hi hp
      have ⟨t, e, hI⟩ := ih (by omega) (fun j hj => hp j (by omega))
      have ⟨u, e2, hI2⟩ := hs2 (n - (i + 1)) i t (by omega) hI (hp i (by omega))
      rw [show n - (i + 1) + 1 = n - i by omega] at e2
      exact ⟨u, e.trans e2, hI2⟩
  cases h : fi p m with
  | some i =>
    have ⟨h1, h2, h3⟩ := (fi_some _ _ _).1 h
    have ⟨t, e, hI⟩ := key i (by omega) h3
    rw [show n - i = (n - i - 1) + 1 by omega] at e
    have ⟨u, e2, hJ⟩ := hs1 (n - i - 1) i t h1 hI h2
    exact Or.inl ⟨i, u, rfl, e.trans e2, hJ⟩
  | none =>
    have ⟨t, e, hI⟩ := key m (Nat.le_refl m) ((fi_none _ _).1 h)
    refine Or.inr ⟨t, rfl, ?_, hI⟩
    rw [e, show n - m = (n - m - 1) + 1 by omega]
    exact he _ _ hI
theorem lt_fi2 {C : Cy} (ho : OkC C) {a : Nat} (ha : a < cR C) {A b : Int} {d m : Nat} (hm : m = (b - A + 1).toNat) : fi (fun i => cB (Rc C (a, b - (i : Int)) (d, b))) m = fi (fun i => cB (A ≤ b - (i : Int) ∧ Rc C (a, b - (i : Int)) (d, b))) 100 := by
  cases h : fi (fun i => cB (Rc C (a, b - (i : Int)) (d, b))) m with
  | some i =>
    have ⟨h1, h2, h3⟩ := (fi_some _ _ _).1 h
    have h80 : i ≤ 80 := by
      by_cases hi : i ≤ 80
      · exact hi
      · exfalso
        exact h3 80 (by omega) (cB_t.2 (Rc_any ho ha (cB_t.1 h2) b))
    refine ((fi_some _ _ _).2 ⟨by omega, cB_t.2 ⟨by omega, cB_t.1 h2⟩, fun j hj hc => h3 j hj (cB_t.2 (cB_t.1 hc).2)⟩).symm
  | none =>
    have h1 := (fi_none _ _).1 h
    refine ((fi_none _ _).2 (fun i hi hc => ?_)).symm
    have ⟨c1, c2⟩ := cB_t.1 hc
    exact h1 i (by omega) (cB_t.2 c2)
/-- a city whose letter starts at another beat -/
def cLt (C : Cy) (k x : Nat) : Cy := fun j i => if j = 10 ∧ i = k then x else C j i
section
variable {C : Cy} {k x : Nat}
theorem cLt_R : cR (cLt C k x) = cR C := rfl
theorem cLt_N : cN (cLt C k x) = cN C := rfl
theorem cLt_X : cX (cLt C k x) = cX C := rfl
theorem cLt_P (r : Nat) : cP (cLt C k x) r = cP C r := rfl
theorem cLt_K (r : Nat) : cK (cLt C k x) r = cK C r := rfl
theorem cLt_H (r i : Nat) : cH (cLt C k x) r i = cH C r i := rfl
theorem cLt_T (r i : Nat) : cT (cLt C k x) r i = cT C r i := rfl
theorem cLt_A (hx : x ≤ 99999) (i : Nat) : cA (cLt C k x) i = if i = k then x else cA C i := by
  unfold cA cLt
  by_cases h : i = k
  · rw [if_pos ⟨rfl, h⟩, if_pos h]; omega
  · rw [if_neg (fun y => h y.2), if_neg h]
theorem cLt_hh (r : Nat) (b : Int) : hh (cLt C k x) r b = hh C r b := rfl
theorem cLt_tt (r : Nat) (b : Int) : tt (cLt C k x) r b = tt C r b := rfl
theorem cLt_rc : ∀ n p q, rc (cLt C k x) n p q ↔ rc C n p q := by
  intro n
  induction n with
  | zero => intro p q; exact Iff.rfl
  | succ n ih =>
    intro p q
    constructor
    · rintro ⟨m, h1, h2⟩
      exact ⟨m, (ih p m).1 h1, h2⟩
    · rintro ⟨m, h1, h2⟩
      exact ⟨m, (ih p m).2 h1, h2⟩
theorem cLt_Rc (p q : Nat × Int) : Rc (cLt C k x) p q ↔ Rc C p q := ⟨fun ⟨n, h⟩ => ⟨n, (cLt_rc n p q).1 h⟩, fun ⟨n, h⟩ => ⟨n, (cLt_rc n p q).2 h⟩⟩
theorem cLt_sn (a : Nat) (t : Int) (d : Nat) : sn (cLt C k x) a t d = sn C a t d := by
  unfold sn
  apply fi_congr
  intro i _
  by_cases h : Rc C (a, t) (d, t + (i : Int))
  · rw [cB_t.2 h, cB_t.2 ((cLt_Rc _ _).2 h)]
  · rw [Bool.eq_false_iff.2 (fun y => h (cB_t.1 y)), Bool.eq_false_iff.2 (fun y => h ((cLt_Rc _ _).1 (cB_t.1 y)))]
theorem cLt_Ok (ho : OkC C) : OkC (cLt C k x) := ho
end
section
variable {N o c : Nat} {S : XS} {w : Wd} {C : Cy} {th : Nat → Nat}
def wLt (w : Wd) (c : Nat) (f : Nat → Int32) : Wd := wup w (c + 5) (.inl (0, 8, .inl f))
theorem Ft_5 (c : Nat) (th : Nat → Nat) (R : Nat) : Ft c th R (c + 5) := Or.inl ⟨5, by omega, rfl⟩
theorem wLt_Fr {R : Nat} (f : Nat → Int32) : FrW c th R w (wLt w c f) := by
  intro q hq
  unfold wLt
  rw [wup_o]
  intro h
  exact hq (h ▸ Ft_5 c th R)
theorem wLt_H (h : Hc w c th C) (hs : Sep o c th (cR C)) {f : Nat → Int32} {k x : Nat} (hx : x ≤ 99999) (hf : ∀ i, i < cN C → f i = J (cA (cLt C k x) i : Int)) : Hc (wLt w c f) c th (cLt C k x) := by
  have hn8 := cN_le C
  have ho : ∀ q, q ≠ c + 5 → wLt w c f q = w q := fun q hq => by unfold wLt; exact wup_o _ _ hq
  have h5 : wLt w c f (c + 5) = some (.inl (0, 8, .inl f)) := by unfold wLt; exact wup_s _ _ _
  obtain ⟨⟨g, h0⟩, h1, h2, h3, h4, _, h6, h7⟩ := h
  refine ⟨⟨g, by rw [ho _ (by omega)]; exact h0⟩, ?_, ?_, ?_, ?_, ⟨f, h5, fun i hi => hf i hi⟩, ?_, fun r hr => ?_⟩
  · obtain ⟨f1, e1, e2⟩ := h1
    exact ⟨f1, by rw [ho _ (by omega)]; exact e1, e2⟩
  · obtain ⟨f1, e1, e2⟩ := h2
    exact ⟨f1, by rw [ho _ (by omega)]; exact e1, e2⟩
  · obtain ⟨f1, e1, e2⟩ := h3
    exact ⟨f1, by rw [ho _ (by omega)]; exact e1, e2⟩
  · obtain ⟨f1, e1, e2⟩ := h4
    exact ⟨f1, by rw [ho _ (by omega)]; exact e1, e2⟩
  · obtain ⟨f1, e1, e2⟩ := h6
    exact ⟨f1, by rw [ho _ (by omega)]; exact e1, e2⟩
  · have hr' : r < cR C := hr
    have ⟨t0, ⟨f1, t1, t1'⟩, ⟨f2, t2, t2'⟩⟩ := h7 r hr'
    have s0 := hs.2.2.1 r 0 5 hr' (by omega) (by omega)
    have s1 := hs.2.2.1 r 1 5 hr' (by omega) (by omega)
    have s2 := hs.2.2.1 r 2 5 hr' (by omega) (by omega)
    exact ⟨by rw [ho _ (by omega)]; exact t0, ⟨f1, by rw [ho _ (by omega)]; exact t1, t1'⟩, ⟨f2, by rw [ho _ (by omega)]; exact t2, t2'⟩⟩
theorem wLt_w (hs : Sep o c th (cR C)) (f : Nat → Int32) {k : Nat} (hk : k < 8) (v : Int32) : sI 0 (emX o S (wLt w c f)) (c + 5) (J (k : Int)) v = some (emX o S (wLt w c (upd f k v))) := by
  have hn : ¬ own o (c + 5) := hs.1 5 (by omega)
  have e : emX o S (wLt w c f) (c + 5) = some (.inl (0, 8, .inl f)) := by rw [emX_out o S _ _ hn]; unfold wLt; exact wup_s _ _ _
  rw [sI_of v e (show 0 ≤ (k : Int) ∧ (k : Int) < (8 : Nat) by omega) (by decide), emX_wup hn, Int.toNat_natCast]
  unfold wLt
  rw [wup_wup]; rfl
theorem wLt_g11 (hw : Hc w c th C) (hs : Sep o c th (cR C)) (T : XS) (g : Nat → Int32) : gR (emX o T (wLt w c g)) [1] c 11 = some (c + 5) := by
  obtain ⟨u, hu⟩ := hw.1
  have : emX o T (wLt w c g) c = some (.inr (1, [.int (J (cR C)), .int (J (cX C)), .int (J (cN C)), .int (J (cL C)), .int (J (cG C)), .int (J (cO C)), .int u, .ref (c + 1), .ref (c + 2), .ref (c + 3), .ref (c + 4), .ref (c + 5), .ref (c + 6)])) := by
    rw [emX_out o T _ c (hs.1 0 (by omega))]
    unfold wLt
    rw [wup_o _ _ (by omega)]; exact hu
  exact gR_of this (by decide) rfl
theorem X_latest (hw : Hc w c th C) (hs : Sep o c th (cR C)) (hc : xc S = c) (ho : OkC C) (hN : 1000000000 ≤ N) {v b : Int} (hv : -2147483648 ≤ v ∧ v ≤ 2147483647) (hb : -2147483648 ≤ b ∧ b ≤ 2147483647) : ∃ S' w', fX0_latest N (emX o S w) o (J v) (J b) = some (J (sp_latest C v b), emX o S' w') ∧ FrX S S' ∧ FrW c th (cR C) w w' ∧ Hc w' c th C := by
  have hX := hX_of hw hs
  have hx1 := hX S
  have hg : gR (emX o S w) [0] o 0 = some c := xg hc
  have hn8 := cN_le C
  have hR := cR_le C
  unfold fX0_latest sp_latest
  simp only [jn_0, jn_1, jn_2, jn_3, jn_4, jn_5, jn_6, jn_8, jn_9, jn_10, jn_11, jn_12, jn_16, jn_20, jn_24, jn_30, jn_31, jn_32, jn_36, jn_48, jn_57, jn_59, jn_60, jn_63, jn_72, jn_73, jn_96, jn_97, jn_100, jn_122, jn_144, jn_200, jn_240, jn_288, jn_512, jn_840, jn_1200, jn_1600, jn_5040, jn_5390, jn_5400, jn_9999, jn_18688, jn_32400, jn_99999, jn_100000, jn_1000000, jn_858993459, jn_1431655765, jn_252645135, jl_0, jl_1, jl_2, jl_3, jl_8, jl_9, jl_10, jl_20, jl_27, jl_47, jl_96, jl_99, jl_100, jl_200, jl_555, jl_2000, jl_10000, jl_12345, jl_65536, jl_99999, jl_131638, jl_240023, jl_298288, jl_383153, jl_1306021, jl_1960084, jl_4147840, jl_8740238, jl_9872299, jl_175252482, jl_291595537, jl_1103515245, jl_2000000000, jl_2147483648, jl_4721686497, jl_7873079139, J_add, J_sub, J_mul, J_neg, JL_add, JL_sub, JL_mul, JL_neg, J_long, JL_int, ↓remI_fold, ↓remL_fold, Int.reduceAdd, Int.reduceSub, Int.reduceMul, Int.reduceNeg, Int.reduceToNat, Classical.not_not, em_t, Bp_eq0, Bp_eq1, Bp_01, Bp_mk, Bp_mk', Bp_0, Bp_0', Bp_1, Bp_1', if_true, if_false, ite_not, X_isLetter hg hx1 hv, X_isBeat hb, Option.bind_some]
  by_cases h1 : 0 ≤ v ∧ v < cN C
  case neg => exact ⟨S, w, by rw [if_neg h1, if_neg h1], FrX_r S, FrW_r _ _ _ _, hw⟩
  simp only [if_pos h1]
  by_cases h2 : 0 ≤ b ∧ b ≤ 99999
  case neg => exact ⟨S, w, by rw [if_neg h2, if_neg h2], FrX_r S, FrW_r _ _ _ _, hw⟩
  simp only [if_pos h2]
  obtain ⟨k, hk⟩ : ∃ k : Nat, v = k := ⟨v.toNat, by omega⟩
  subst hk
  simp only [Int.toNat_natCast]
  have hk' : k < cN C := by omega
  have hok := ho.2.1 k hk'
  have hA := cA_le C k
  have kA := hc_A hx1 (z := (k : Int)) (by omega)
  rw [Int.toNat_natCast] at kA
  obtain ⟨f, e⟩ := X_soonestOf (N := N) hX hc ho hN hk'
  have hF : FrX S (xSR S 14 f) := FrX_R S 14 _ (by decide)
  simp only [hg, hc_11 hx1, kA, e, Option.bind_some]
  unfold snB
  cases hsn : sn C (cF C k) (cA C k) (cD C k) with
  | none =>
    simp only
    refine ⟨xSR S 14 f, w, ?_, hF, FrW_r _ _ _ _, hw⟩
    have hno : fi (fun i => cB ((cA C k : Int) ≤ b - (i : Int) ∧ Rc C (cF C k, b - (i : Int)) (cD C k, b))) 100 = none := by
      refine (fi_none _ _).2 (fun i _ hcc => ?_)
      exact sn_none ho hok.1 hsn _ (Rc_any ho hok.1 (cB_t.1 hcc).2 ((cA C k : Int) + 80) |> fun h => by rwa [show (cA C k : Int) + 80 - 80 = (cA C k : Int) by omega] at h)
    rw [hno]
    first | rw [if_pos rfl] | simp only [if_true]
  | some L =>
    have hsL := sn_some ho hok.1 hsn
    simp only
    rw [if_neg (by rw [J_eq (by omega)]; omega)]
    obtain ⟨fA, eA, hfA⟩ := hw.2.2.2.2.2.1
    have ew : wLt w c fA = w := wup_same eA
    -- reachable from anywhere
    have hreach : ∀ b', Rc C (cF C k, b') (cD C k, b' + 80) := fun b' => by
      have := Rc_any ho hok.1 hsL.2.1 (b' + 80)
      rwa [show b' + 80 - 80 = b' by omega] at this
    have hend : ∀ (T : XS) (g : Nat → Int32) (y : Int32), FrX S T → (∀ i, i < cN C → i ≠ k → g i = J (cA C i : Int)) → ∃ S' w', ((gR (emX o T (wLt w c g)) [0] o 0).bind fun x15 => (gR (emX o T (wLt w c g)) [1] x15 11).bind fun x16 => (sI 0 (emX o T (wLt w c g)) x16 (J (k : Int)) (J (cA C k : Int))).bind fun w17 => some (y, w17)) = some (y, emX o S' w') ∧ FrX S S' ∧ FrW c th (cR C) w w' ∧ Hc w' c th C := by
      intro T g y hT hgi
      have hcT : xc T = c := hT.1.trans hc
      have hg2 : gR (emX o T (wLt w c g)) [0] o 0 = some c := xg hcT
      have hg3 := wLt_g11 hw hs T g
      refine ⟨T, wLt w c (upd g k (J (cA C k : Int))), ?_, hT, wLt_Fr _, ?_⟩
      · rw [hg2, Option.bind_some, hg3, Option.bind_some, wLt_w hs g (by omega), Option.bind_some]
      · have hh1 : Hc (wLt w c (upd g k (J (cA C k : Int)))) c th (cLt C k (cA C k)) := wLt_H hw hs hA (fun i hi => by
          rw [cLt_A hA]
          unfold upd
          by_cases hik : i = k
          · rw [if_pos hik, if_pos hik]
          · rw [if_neg hik, if_neg hik]; exact hgi i hi hik)
        have eC : ∀ i, cA (cLt C k (cA C k)) i = cA C i := fun i => by
          rw [cLt_A hA]
          by_cases hik : i = k
          · rw [if_pos hik, hik]
          · rw [if_neg hik]
        obtain ⟨q0, q1, q2, q3, q4, ⟨f5, q5, q5'⟩, q6, q7⟩ := hh1
        exact ⟨q0, q1, q2, q3, q4, ⟨f5, q5, fun i hi => by rw [← eC i]; exact q5' i hi⟩, q6, q7⟩
    obtain ⟨N', hN'⟩ : ∃ N', N = N' + 1 := ⟨N - 1, by omega⟩
    have hstep : ∀ n i (s : XS × (Nat → Int32)), i < (b - (cA C k : Int) + 1).toNat → (FrX S s.1 ∧ ∀ i, i < cN C → i ≠ k → s.2 i = J (cA C i : Int)) → ∃ s' : XS × (Nat → Int32), (FrX S s'.1 ∧ ∀ i, i < cN C → i ≠ k → s'.2 i = J (cA C i : Int)) ∧ fX0_latest_45 N o (J (k : Int)) (J b) (J (cA C k : Int)) (fun y13 w14 =>
            (gR w14 [0] o 0).bind fun x15 =>
            (gR w14 [1] x15 11).bind fun x16 =>
            (sI 0 w14 x16 (J (k : Int)) (J (cA C k : Int))).bind fun w17 =>
            some (y13, w17)) (n + 1 + 1) (J (-1)) (J (b - (i : Int))) (emX o s.1 (wLt w c s.2)) = (if cB (Rc C (cF C k, b - (i : Int)) (cD C k, b)) = true then (gR (emX o s'.1 (wLt w c s'.2)) [0] o 0).bind fun x15 => (gR (emX o s'.1 (wLt w c s'.2)) [1] x15 11).bind fun x16 => (sI 0 (emX o s'.1 (wLt w c s'.2)) x16 (J (k : Int)) (J (cA C k : Int))).bind fun w17 => some (J (b - (i : Int)), w17) else fX0_latest_45 N o (J (k : Int)) (J b) (J (cA C k : Int)) (fun y13 w14 =>
            (gR w14 [0] o 0).bind fun x15 =>
            (gR w14 [1] x15 11).bind fun x16 =>
            (sI 0 w14 x16 (J (k : Int)) (J (cA C k : Int))).bind fun w17 =>
            some (y13, w17)) (n + 1) (J (-1)) (J (b - ((i + 1 : Nat) : Int))) (emX o s'.1 (wLt w c s'.2))) := by
      intro n i s hi hI
      obtain ⟨T, g⟩ := s
      obtain ⟨hT, hgi⟩ := hI
      simp only at hT hgi
      have hcT : xc T = c := hT.1.trans hc
      obtain ⟨b', hb'⟩ : ∃ b' : Nat, b - (i : Int) = b' := ⟨(b - (i : Int)).toNat, by omega⟩
      have hb9 : b' ≤ 99999 := by omega
      have hw2 : Hc (wLt w c (upd g k (J (b' : Int)))) c th (cLt C k b') := wLt_H hw hs hb9 (fun j hj => by
        rw [cLt_A hb9]
        unfold upd
        by_cases hjk : j = k
        · rw [if_pos hjk, if_pos hjk]
        · rw [if_neg hjk, if_neg hjk]; exact hgi j hj hjk)
      obtain ⟨f2, e2⟩ := X_soonestOf (N := N) (S := T) (C := cLt C k b') (hX_of hw2 hs) hcT (cLt_Ok ho) hN (k := k) hk'
      have eA2 : cA (cLt C k b') k = b' := by rw [cLt_A hb9, if_pos rfl]
      have eF2 : cF (cLt C k b') k = cF C k := rfl
      have eD2 : cD (cLt C k b') k = cD C k := rfl
      rw [eA2, eF2, eD2] at e2
      unfold snB at e2
      rw [cLt_sn] at e2
      have hg0 : gR (emX o T (wLt w c g)) [0] o 0 = some c := xg hcT
      have hsm : ∃ L', sn C (cF C k) (b' : Int) (cD C k) = some L' := by
        cases h : sn C (cF C k) (b' : Int) (cD C k) with
        | some L' => exact ⟨L', rfl⟩
        | none => exact absurd (hreach (b' : Int)) (sn_none ho hok.1 h _)
      obtain ⟨L', hL'⟩ := hsm
      have hsL' := sn_some ho hok.1 hL'
      rw [hL'] at e2
      simp only at e2
      have hiff : Rc C (cF C k, b - (i : Int)) (cD C k, b) ↔ L' ≤ i := by
        rw [hb', show b = (b' : Int) + (i : Int) by omega]
        constructor
        · intro h
          by_cases hl : L' ≤ i
          · exact hl
          · exact absurd h (hsL'.2.2 i (by omega))
        · intro h
          exact Rc_wn hsL'.2.1 (by omega)
      refine ⟨(xSR T 14 f2, upd g k (J (b' : Int))), ⟨FrX_t hT (FrX_R T 14 _ (by decide)), fun j hj hjk => ?_⟩, ?_⟩
      · show upd g k (J (b' : Int)) j = _
        unfold upd
        rw [if_neg hjk]; exact hgi j hj hjk
      · simp only
        rw [fX0_latest_45]
        simp only [jn_0, jn_1, jn_2, jn_3, jn_4, jn_5, jn_6, jn_8, jn_9, jn_10, jn_11, jn_12, jn_16, jn_20, jn_24, jn_30, jn_31, jn_32, jn_36, jn_48, jn_57, jn_59, jn_60, jn_63, jn_72, jn_73, jn_96, jn_97, jn_100, jn_122, jn_144, jn_200, jn_240, jn_288, jn_512, jn_840, jn_1200, jn_1600, jn_5040, jn_5390, jn_5400, jn_9999, jn_18688, jn_32400, jn_99999, jn_100000, jn_1000000, jn_858993459, jn_1431655765, jn_252645135, jl_0, jl_1, jl_2, jl_3, jl_8, jl_9, jl_10, jl_20, jl_27, jl_47, jl_96, jl_99, jl_100, jl_200, jl_555, jl_2000, jl_10000, jl_12345, jl_65536, jl_99999, jl_131638, jl_240023, jl_298288, jl_383153, jl_1306021, jl_1960084, jl_4147840, jl_8740238, jl_9872299, jl_175252482, jl_291595537, jl_1103515245, jl_2000000000, jl_2147483648, jl_4721686497, jl_7873079139, J_add, J_sub, J_mul, J_neg, JL_add, JL_sub, JL_mul, JL_neg, J_long, JL_int, ↓remI_fold, ↓remL_fold, Int.reduceAdd, Int.reduceSub, Int.reduceMul, Int.reduceNeg, Int.reduceToNat, hg0, wLt_g11 hw hs T g, hb', wLt_w hs g (show k < 8 by omega), e2, Option.bind_some, if_true]
        rw [if_neg (by rw [J_lt (by omega)]; omega)]
        by_cases hc1 : Rc C (cF C k, b - (i : Int)) (cD C k, b)
        · have hl := hiff.1 hc1
          rw [hb'] at hc1
          rw [if_neg (by rw [J_lt (by omega)]; omega), if_pos (cB_t.2 hc1), fX0_latest_45]
          rw [show (-1 : Int32) = J (-1) from rfl]
          have hne : ¬ J (b' : Int) = J (-1) := by rw [J_eq (by omega)]; omega
          rw [if_neg hne, ite_self]
        · have hl : ¬ L' ≤ i := fun h => hc1 (hiff.2 h)
          rw [hb'] at hc1
          rw [if_pos (by rw [J_lt (by omega)]; omega), if_neg (fun h => hc1 (cB_t.1 h)), show b - ((i + 1 : Nat) : Int) = (b' : Int) + -1 by omega]
    have key := lp_exf3 (fun n i (s : XS × (Nat → Int32)) => fX0_latest_45 N o (J (k : Int)) (J b) (J (cA C k : Int)) (fun y13 w14 =>
            (gR w14 [0] o 0).bind fun x15 =>
            (gR w14 [1] x15 11).bind fun x16 =>
            (sI 0 w14 x16 (J (k : Int)) (J (cA C k : Int))).bind fun w17 =>
            some (y13, w17)) (n + 1) (J (-1)) (J (b - (i : Int))) (emX o s.1 (wLt w c s.2))) (fun i s => (gR (emX o s.1 (wLt w c s.2)) [0] o 0).bind fun x15 => (gR (emX o s.1 (wLt w c s.2)) [1] x15 11).bind fun x16 => (sI 0 (emX o s.1 (wLt w c s.2)) x16 (J (k : Int)) (J (cA C k : Int))).bind fun w17 => some (J (b - (i : Int)), w17)) (fun s => (gR (emX o s.1 (wLt w c s.2)) [0] o 0).bind fun x15 => (gR (emX o s.1 (wLt w c s.2)) [1] x15 11).bind fun x16 => (sI 0 (emX o s.1 (wLt w c s.2)) x16 (J (k : Int)) (J (cA C k : Int))).bind fun w17 => some (J (-1), w17)) (b - (cA C k : Int) + 1).toNat (fun i => cB (Rc C (cF C k, b - (i : Int)) (cD C k, b))) (fun _ s => FrX S s.1 ∧ (∀ i, i < cN C → i ≠ k → s.2 i = J (cA C i : Int))) (fun s => FrX S s.1 ∧ (∀ i, i < cN C → i ≠ k → s.2 i = J (cA C i : Int))) ?_ ?_ ?_ N' (xSR S 14 f, fA) (by omega) ⟨hF, fun i hi _ => hfA i hi⟩
    · rw [lt_fi2 ho hok.1 rfl] at key
      rw [show b - ((0 : Nat) : Int) = b by omega] at key
      simp only [ew] at key
      rw [hN']
      rw [hN'] at key
      rcases key with ⟨i, s', c1, c2, c3⟩ | ⟨s', c1, c2, c3⟩
      · rw [c1]
        obtain ⟨S', w', d1, d2⟩ := hend s'.1 s'.2 (J (b - (i : Int))) c3.1 c3.2
        exact ⟨S', w', c2.trans d1, d2⟩
      · rw [c1]
        obtain ⟨S', w', d1, d2⟩ := hend s'.1 s'.2 (J (-1)) c3.1 c3.2
        exact ⟨S', w', c2.trans d1, d2⟩
    · intro n i s hi hI hp
      obtain ⟨s', h3, e3⟩ := hstep n i s hi hI
      refine ⟨s', e3.trans ?_, h3⟩
      rw [if_pos hp]
    · intro n i s hi hI hp
      obtain ⟨s', h3, e3⟩ := hstep n i s hi hI
      refine ⟨s', e3.trans ?_, h3⟩
      rw [if_neg hp]
    · intro n s hI
      show fX0_latest_45 _ _ _ _ _ _ _ _ _ _ = _
      rw [fX0_latest_45, if_pos (by rw [J_lt (by omega)]; omega)]
end
