/-! the component: the soonest beat -/
set_option maxRecDepth 100000
def eS (f : Nat → Int32) (q : Nat) : Int := (f q).toInt
theorem eS_J (f : Nat → Int32) (q : Nat) : f q = J (eS f q) := (J_of _).symm
theorem eS_bd (f : Nat → Int32) (q : Nat) : -2147483648 ≤ eS f q ∧ eS f q ≤ 2147483647 := J_bd _
theorem eS_up (f : Nat → Int32) (p q : Nat) {z : Int} (hz : -2147483648 ≤ z ∧ z ≤ 2147483647) : eS (upd f p (J z)) q = if q = p then z else eS f q := by
  unfold eS upd
  by_cases h : q = p
  · rw [if_pos h, if_pos h, J_toInt hz]
  · rw [if_neg h, if_neg h]
/-- what holds of the soonest beats so far -/
def IE (C : Cy) (a : Nat) (t : Int) (f : Nat → Int32) : Prop := (∀ q, q < 6 → t ≤ eS f q ∧ eS f q ≤ 1000000) ∧ (∀ q, q < 6 → eS f q < 1000000 → q < cR C ∧ Rc C (a, t) (q, eS f q)) ∧ eS f a = t
def cl1 (C : Cy) (f : Nat → Int32) (q : Nat) : Prop := ∀ b, eS f q ≤ b → b < eS f q + cP C q → 0 < hh C q b → eS f (tt C q b) ≤ b + hh C q b
theorem cl1_cg {C : Cy} (ho : OkC C) {f g : Nat → Int32} (h : ∀ q, q < 6 → eS g q = eS f q) {q : Nat} (hq : q < cR C) (hc : cl1 C f q) : cl1 C g q := by
  have hR := cR_le C
  intro b h1 h2 h3
  have := tt_lt ho hq b
  rw [h q (by omega)] at h1 h2
  rw [h _ (by omega)]
  exact hc b h1 h2 h3
theorem IE_le {C : Cy} (ho : OkC C) {a : Nat} (ha : a < cR C) {t : Int} {f : Nat → Int32} (h : IE C a t f) (hc : ∀ q, q < cR C → eS f q < 1000000 → cl1 C f q) {m : Nat × Int} (hm : Rc C (a, t) m) : m.1 < cR C ∧ t ≤ m.2 ∧ (m.2 < 1000000 → eS f m.1 ≤ m.2) := by
  have hR := cR_le C
  refine Rc_ind (fun m => m.1 < cR C ∧ t ≤ m.2 ∧ (m.2 < 1000000 → eS f m.1 ≤ m.2)) ⟨ha, Int.le_refl _, fun _ => by simp only; rw [h.2.2]; exact Int.le_refl _⟩ (fun m hm => ⟨hm.1, by have := hm.2.1; simp only; omega, fun hl => ?_⟩) (fun m hm h0 => ⟨tt_lt ho hm.1 _, by have := hm.2.1; show t ≤ m.2 + hh C m.1 m.2; omega, fun hl => ?_⟩) hm
  · simp only at hl ⊢
    have := hm.2.2 (by omega)
    omega
  · obtain ⟨m1, m2, m3⟩ := hm
    unfold bgo at hl ⊢
    simp only at hl ⊢
    have m4 := m3 (by omega)
    have hP := cP_bd C m.1
    have ⟨n1, n2, n3⟩ := nx_cg (eS f m.1) m.2 (cP C m.1 : Int) (by omega)
    have ⟨c1, c2⟩ := pl_cg (C := C) (r := m.1) n1
    have hd := Int.emod_add_mul_ediv (m.2 - eS f m.1) (cP C m.1 : Int)
    have hq := Int.ediv_nonneg (show 0 ≤ m.2 - eS f m.1 by omega) (show (0 : Int) ≤ (cP C m.1 : Int) by omega)
    have hq2 := Int.mul_nonneg (show (0 : Int) ≤ (cP C m.1 : Int) by omega) hq
    have := hc m.1 m1 (by omega) (eS f m.1 + (m.2 - eS f m.1) % (cP C m.1 : Int)) (by omega) (by omega) (by rw [c1]; exact h0)
    rw [c1, c2] at this
    omega
noncomputable def snB (C : Cy) (a : Nat) (t : Int) (d : Nat) : Int := match sn C a t d with
  | some L => t + (L : Int)
  | none => -1
theorem IE_end {C : Cy} (ho : OkC C) {a : Nat} (ha : a < cR C) {t : Int} (ht : 0 ≤ t ∧ t ≤ 99999) {d : Nat} (hd : d < cR C) {f : Nat → Int32} (h : IE C a t f) (hc : ∀ q, q < cR C → eS f q < 1000000 → cl1 C f q) : (if eS f d = 1000000 then -1 else eS f d) = snB C a t d := by
  have hR := cR_le C
  have hb := h.1 d (by omega)
  unfold snB
  by_cases h1 : eS f d = 1000000
  · rw [if_pos h1]
    cases hs : sn C a t d with
    | none => rfl
    | some L =>
      exfalso
      have ⟨l1, l2, _⟩ := sn_some ho ha hs
      have := (IE_le ho ha h hc l2).2.2 (by simp only; omega)
      simp only at this
      omega
  · rw [if_neg h1]
    have ⟨r1, r2⟩ := h.2.1 d (by omega) (by omega)
    have eL : eS f d = t + (((eS f d - t).toNat : Nat) : Int) := by omega
    have hs : sn C a t d = some (eS f d - t).toNat := by
      refine sn_is ho ha (by rw [← eL]; exact r2) (fun b hb => ?_)
      rw [← eL]
      by_cases hl : b < 1000000
      · exact (IE_le ho ha h hc hb).2.2 hl
      · omega
    rw [hs]
    simp only
    omega
section
variable {N o c : Nat} {S : XS} {w : Wd} {C : Cy} {th : Nat → Nat}
theorem X_placeL (h : Hc w c th C) {r : Nat} (hr : r < cR C) {b : Int} (hb : -2000000 ≤ b ∧ b ≤ 2000000) : fX2_place N w (th r) (J b) = some (J (pl C r b)) := by
  have hP := cP_bd C r
  unfold fX2_place
  simp (disch := omega) only [ht_3 h hr, X_floorMod, Option.bind_some, pl_cast]
theorem X_heightL (h : Hc w c th C) {r : Nat} (hr : r < cR C) {b : Int} (hb : -2000000 ≤ b ∧ b ≤ 2000000) : fX2_height N w (th r) (J b) = some (J (hh C r b)) := by
  have hl := pl_lt C r b
  unfold fX2_height
  simp (disch := omega) only [ht_1 h hr, ht_k h hr, X_placeL h hr, ht_H h hr, Option.bind_some, Int.toNat_natCast]
  rfl
theorem X_toL (h : Hc w c th C) {r : Nat} (hr : r < cR C) {b : Int} (hb : -2000000 ≤ b ∧ b ≤ 2000000) : fX2_to N w (th r) (J b) = some (J (tt C r b)) := by
  have hl := pl_lt C r b
  unfold fX2_to
  simp (disch := omega) only [ht_2 h hr, ht_k h hr, X_placeL h hr, ht_T h hr, Option.bind_some, Int.toNat_natCast]
  rfl
/-- what one roof's throws do -/
def stO (C : Cy) (f g : Nat → Int32) (y : Int) (V : Prop) : Prop := (y = 0 ∧ (∀ q, q < 6 → eS g q = eS f q) ∧ V) ∨ (y = 1 ∧ sm (eS g) 6 < sm (eS f) 6)
theorem X_is20 (hX : ∀ S, Hc (emX o S w) c th C) (hc : xc S = c) (ho : OkC C) {a : Nat} {t : Int} (ht : 0 ≤ t ∧ t ≤ 99999) {r : Nat} (hr : r < cR C) {f : Nat → Int32} (hI : IE C a t f) (hl : eS f r < 1000000) (k : Int32 → Wd → Option (Int32 × Wd)) {n : Nat} (hn : 8 < n) : ∃ g y, fX0_isSooner_20 N o (J (r : Int)) (th r) k n (J 0) (J (eS f r)) (emX o (xSR S 14 f) w) = k (J y) (emX o (xSR S 14 g) w) ∧ IE C a t g ∧ (∀ q, q < 6 → eS g q ≤ eS f q) ∧ stO C f g y (cl1 C f r) := by
  have hR := cR_le C
  have hP := cP_bd C r
  have hb0 := hI.1 r (by omega)
  have key := lp_ex (fun n i (s : (Nat → Int32) × Int) => fX0_isSooner_20 N o (J (r : Int)) (th r) k n (J s.2) (J (eS f r + (i : Int))) (emX o (xSR S 14 s.1) w)) (fun s => k (J s.2) (emX o (xSR S 14 s.1) w)) (cP C r) (fun i s => IE C a t s.1 ∧ (∀ q, q < 6 → eS s.1 q ≤ eS f q) ∧ eS s.1 r = eS f r ∧ stO C f s.1 s.2 (∀ b, eS f r ≤ b → b < eS f r + i → 0 < hh C r b → eS f (tt C r b) ≤ b + hh C r b)) ?_ ?_ n (f, 0) (by omega) ⟨hI, fun _ _ => Int.le_refl _, rfl, Or.inl ⟨rfl, fun _ _ => rfl, fun b h1 h2 => by omega⟩⟩
  · obtain ⟨⟨g, y⟩, e, h1, h2, h3, h4⟩ := key
    refine ⟨g, y, ?_, h1, h2, h4⟩
    simp only at e
    rw [show eS f r + ((0 : Nat) : Int) = eS f r by omega] at e
    exact e
  · intro n i s hi hs
    obtain ⟨g, y⟩ := s
    obtain ⟨h1, h2, h3, h4⟩ := hs
    simp only at h1 h2 h3 h4
    have hh9 := hh_le C r (eS f r + (i : Int))
    have h5 := tt_lt ho hr (eS f r + (i : Int))
    have hx := hX (xSR S 14 g)
    have hgr : xa (xSR S 14 g) 14 r = J (eS f r) := by rw [show xa (xSR S 14 g) 14 = g from rfl, eS_J g, h3]
    have hgt : xa (xSR S 14 g) 14 (tt C r (eS f r + (i : Int))) = J (eS g (tt C r (eS f r + (i : Int)))) := by rw [show xa (xSR S 14 g) 14 = g from rfl, eS_J g]
    have hbt := h1.1 (tt C r (eS f r + (i : Int))) (by omega)
    have e0 : fX0_isSooner_20 N o (J (r : Int)) (th r) k (n + 1) (J y) (J (eS f r + (i : Int))) (emX o (xSR S 14 g) w) = if J (hh C r (eS f r + (i : Int)) : Int) = J 0 then fX0_isSooner_20 N o (J (r : Int)) (th r) k n (J y) (J (eS f r + ((i + 1 : Nat) : Int))) (emX o (xSR S 14 g) w) else if J (eS f r + (i : Int) + (hh C r (eS f r + (i : Int)) : Int)) < J (eS g (tt C r (eS f r + (i : Int)))) then fX0_isSooner_20 N o (J (r : Int)) (th r) k n (J 1) (J (eS f r + ((i + 1 : Nat) : Int))) (emX o (xSR S 14 (upd g (tt C r (eS f r + (i : Int))) (J (eS f r + (i : Int) + (hh C r (eS f r + (i : Int)) : Int))))) w) else fX0_isSooner_20 N o (J (r : Int)) (th r) k n (J y) (J (eS f r + ((i + 1 : Nat) : Int))) (emX o (xSR S 14 g) w) := by
      rw [fX0_isSooner_20]
      simp only [jn_0, jn_1, jn_2, jn_3, jn_4, jn_5, jn_6, jn_8, jn_9, jn_10, jn_11, jn_12, jn_16, jn_20, jn_24, jn_30, jn_31, jn_32, jn_36, jn_48, jn_57, jn_59, jn_60, jn_63, jn_72, jn_73, jn_96, jn_97, jn_100, jn_122, jn_144, jn_200, jn_240, jn_288, jn_512, jn_840, jn_1200, jn_1600, jn_5040, jn_5390, jn_5400, jn_9999, jn_18688, jn_32400, jn_99999, jn_100000, jn_1000000, jn_858993459, jn_1431655765, jn_252645135, jl_0, jl_1, jl_2, jl_3, jl_8, jl_9, jl_10, jl_20, jl_27, jl_47, jl_96, jl_99, jl_100, jl_200, jl_555, jl_2000, jl_10000, jl_12345, jl_65536, jl_99999, jl_131638, jl_240023, jl_298288, jl_383153, jl_1306021, jl_1960084, jl_4147840, jl_8740238, jl_9872299, jl_175252482, jl_291595537, jl_1103515245, jl_2000000000, jl_2147483648, jl_4721686497, jl_7873079139, J_add, J_sub, J_mul, J_neg, JL_add, JL_sub, JL_mul, JL_neg, J_long, JL_int, ↓remI_fold, ↓remL_fold, Int.reduceAdd, Int.reduceSub, Int.reduceMul, Int.reduceNeg, Int.reduceToNat, xg_8, xr_14 o _ w (show 0 ≤ (r : Int) ∧ (r : Int) < 6 by omega), Int.toNat_natCast, hgr, ht_3 hx hr, ht_k hx hr, X_heightL hx hr (show -2000000 ≤ eS f r + (i : Int) ∧ eS f r + (i : Int) ≤ 2000000 by omega), X_toL hx hr (show -2000000 ≤ eS f r + (i : Int) ∧ eS f r + (i : Int) ≤ 2000000 by omega), xr_14 o _ w (show 0 ≤ (tt C r (eS f r + (i : Int)) : Int) ∧ (tt C r (eS f r + (i : Int)) : Int) < 6 by omega), hgt, xw_14 o _ w _ (show 0 ≤ (tt C r (eS f r + (i : Int)) : Int) ∧ (tt C r (eS f r + (i : Int)) : Int) < 6 by omega), xSA_R, Option.bind_some]
      rw [if_neg (by rw [J_le (by omega)]; omega), show eS f r + (i : Int) + 1 = eS f r + ((i + 1 : Nat) : Int) by omega]
    by_cases h0 : hh C r (eS f r + (i : Int)) = 0
    · refine ⟨(g, y), ?_, h1, h2, h3, ?_⟩
      · show fX0_isSooner_20 _ _ _ _ _ _ _ _ _ = _
        rw [e0, if_pos (by rw [h0]; rfl)]
      · rcases h4 with ⟨a1, a2, a3⟩ | a1
        · refine Or.inl ⟨a1, a2, fun b b1 b2 b3 => ?_⟩
          by_cases hb : b = eS f r + (i : Int)
          · rw [hb, h0] at b3; omega
          · exact a3 b b1 (by omega) b3
        · exact Or.inr a1
    · by_cases h6 : eS f r + (i : Int) + (hh C r (eS f r + (i : Int)) : Int) < eS g (tt C r (eS f r + (i : Int)))
      · have hup := fun q => eS_up g (tt C r (eS f r + (i : Int))) q (z := eS f r + (i : Int) + (hh C r (eS f r + (i : Int)) : Int)) (by omega)
        have hne : tt C r (eS f r + (i : Int)) ≠ r := by
          intro h
          rw [h, h3] at h6
          omega
        refine ⟨(upd g (tt C r (eS f r + (i : Int))) (J (eS f r + (i : Int) + (hh C r (eS f r + (i : Int)) : Int))), 1), ?_, ⟨fun q hq => ?_, fun q hq hl2 => ?_, ?_⟩, fun q hq => ?_, ?_, Or.inr ⟨rfl, ?_⟩⟩
        · show fX0_isSooner_20 _ _ _ _ _ _ _ _ _ = _
          rw [e0, if_neg (by rw [J_eq (by omega)]; omega), if_pos (by rw [J_lt (by omega)]; omega)]
        · rw [hup q]
          have := h1.1 q hq
          split <;> omega
        · rw [hup q] at hl2 ⊢
          by_cases hq2 : q = tt C r (eS f r + (i : Int))
          · rw [if_pos hq2, hq2]
            have ⟨r1, r2⟩ := h1.2.1 r (by omega) (by omega)
            rw [h3] at r2
            have := Rc_th (Rc_wn (b' := eS f r + (i : Int)) r2 (by omega)) (show 0 < hh C (r, eS f r + (i : Int)).1 (r, eS f r + (i : Int)).2 by simp only; omega)
            exact ⟨h5, this⟩
          · rw [if_neg hq2] at hl2 ⊢
            exact h1.2.1 q hq hl2
        · rw [hup a]
          by_cases hq2 : a = tt C r (eS f r + (i : Int))
          · exfalso
            rw [← hq2, h1.2.2] at h6
            omega
          · rw [if_neg hq2]; exact h1.2.2
        · simp only
          rw [hup q]
          have := h2 q hq
          by_cases hq2 : q = tt C r (eS f r + (i : Int))
          · rw [if_pos hq2]
            have := h2 (tt C r (eS f r + (i : Int))) (by omega)
            rw [hq2]; omega
          · rw [if_neg hq2]; exact this
        · simp only
          rw [hup r, if_neg (fun h => hne h.symm)]; exact h3
        · have e1 : sm (eS (upd g (tt C r (eS f r + (i : Int))) (J (eS f r + (i : Int) + (hh C r (eS f r + (i : Int)) : Int))))) 6 + 1 ≤ sm (eS g) 6 := by
            refine sm_lt1 _ _ 6 (tt C r (eS f r + (i : Int))) (by omega) (fun j _ => ?_) ?_
            · rw [hup j]
              by_cases hq2 : j = tt C r (eS f r + (i : Int))
              · rw [if_pos hq2, hq2]; omega
              · rw [if_neg hq2]; exact Int.le_refl _
            · rw [hup, if_pos rfl]; omega
          have e2 : sm (eS g) 6 ≤ sm (eS f) 6 := sm_le _ _ 6 (fun j hj => h2 j hj)
          simp only
          omega
      · refine ⟨(g, y), ?_, h1, h2, h3, ?_⟩
        · show fX0_isSooner_20 _ _ _ _ _ _ _ _ _ = _
          rw [e0, if_neg (by rw [J_eq (by omega)]; omega), if_neg (by rw [J_lt (by omega)]; omega)]
        · rcases h4 with ⟨a1, a2, a3⟩ | a1
          · refine Or.inl ⟨a1, a2, fun b b1 b2 b3 => ?_⟩
            by_cases hb : b = eS f r + (i : Int)
            · have := a2 (tt C r (eS f r + (i : Int))) (by omega)
              rw [hb]; omega
            · exact a3 b b1 (by omega) b3
          · exact Or.inr a1
  · intro n s hs
    obtain ⟨g, y⟩ := s
    obtain ⟨h1, h2, h3, h4⟩ := hs
    simp only at h1 h2 h3 h4
    have hx := hX (xSR S 14 g)
    have hgr : xa (xSR S 14 g) 14 r = J (eS f r) := by rw [show xa (xSR S 14 g) 14 = g from rfl, eS_J g, h3]
    show fX0_isSooner_20 _ _ _ _ _ _ _ _ _ = _
    rw [fX0_isSooner_20]
    simp only [jn_0, jn_1, jn_2, jn_3, jn_4, jn_5, jn_6, jn_8, jn_9, jn_10, jn_11, jn_12, jn_16, jn_20, jn_24, jn_30, jn_31, jn_32, jn_36, jn_48, jn_57, jn_59, jn_60, jn_63, jn_72, jn_73, jn_96, jn_97, jn_100, jn_122, jn_144, jn_200, jn_240, jn_288, jn_512, jn_840, jn_1200, jn_1600, jn_5040, jn_5390, jn_5400, jn_9999, jn_18688, jn_32400, jn_99999, jn_100000, jn_1000000, jn_858993459, jn_1431655765, jn_252645135, jl_0, jl_1, jl_2, jl_3, jl_8, jl_9, jl_10, jl_20, jl_27, jl_47, jl_96, jl_99, jl_100, jl_200, jl_555, jl_2000, jl_10000, jl_12345, jl_65536, jl_99999, jl_131638, jl_240023, jl_298288, jl_383153, jl_1306021, jl_1960084, jl_4147840, jl_8740238, jl_9872299, jl_175252482, jl_291595537, jl_1103515245, jl_2000000000, jl_2147483648, jl_4721686497, jl_7873079139, J_add, J_sub, J_mul, J_neg, JL_add, JL_sub, JL_mul, JL_neg, J_long, JL_int, ↓remI_fold, ↓remL_fold, Int.reduceAdd, Int.reduceSub, Int.reduceMul, Int.reduceNeg, Int.reduceToNat, xg_8, xr_14 o _ w (show 0 ≤ (r : Int) ∧ (r : Int) < 6 by omega), Int.toNat_natCast, hgr, ht_3 hx hr, Option.bind_some]
    rw [if_pos (by rw [J_le (by omega)]; omega)]
theorem X_isSooner (hX : ∀ S, Hc (emX o S w) c th C) (hc : xc S = c) (ho : OkC C) (hN : 1000000 ≤ N) {a : Nat} {t : Int} (ht : 0 ≤ t ∧ t ≤ 99999) {r : Nat} (hr : r < cR C) {f : Nat → Int32} (hI : IE C a t f) (hl : eS f r < 1000000) : ∃ g y, fX0_isSooner N (emX o (xSR S 14 f) w) o (J (r : Int)) = some (J y, emX o (xSR S 14 g) w) ∧ IE C a t g ∧ (∀ q, q < 6 → eS g q ≤ eS f q) ∧ stO C f g y (cl1 C f r) := by
  have hR := cR_le C
  have hx := hX (xSR S 14 f)
  have hg : gR (emX o (xSR S 14 f) w) [0] o 0 = some c := xg hc
  have hgr : xa (xSR S 14 f) 14 r = J (eS f r) := by rw [show xa (xSR S 14 f) 14 = f from rfl, eS_J f]
  obtain ⟨g, y, e, h1, h2, h3⟩ := X_is20 (N := N) (o := o) (w := w) hX hc ho ht hr hI hl (fun y26 w27 => if y26 = J 0 ∨ y26 = J 1 then some (y26, w27) else none) (n := N) (by omega)
  refine ⟨g, y, ?_, h1, h2, h3⟩
  unfold fX0_isSooner
  have hat := hc_at hx (z := (r : Int)) (by omega)
  rw [Int.toNat_natCast] at hat
  simp only [jn_0, jn_1, jn_2, jn_3, jn_4, jn_5, jn_6, jn_8, jn_9, jn_10, jn_11, jn_12, jn_16, jn_20, jn_24, jn_30, jn_31, jn_32, jn_36, jn_48, jn_57, jn_59, jn_60, jn_63, jn_72, jn_73, jn_96, jn_97, jn_100, jn_122, jn_144, jn_200, jn_240, jn_288, jn_512, jn_840, jn_1200, jn_1600, jn_5040, jn_5390, jn_5400, jn_9999, jn_18688, jn_32400, jn_99999, jn_100000, jn_1000000, jn_858993459, jn_1431655765, jn_252645135, jl_0, jl_1, jl_2, jl_3, jl_8, jl_9, jl_10, jl_20, jl_27, jl_47, jl_96, jl_99, jl_100, jl_200, jl_555, jl_2000, jl_10000, jl_12345, jl_65536, jl_99999, jl_131638, jl_240023, jl_298288, jl_383153, jl_1306021, jl_1960084, jl_4147840, jl_8740238, jl_9872299, jl_175252482, jl_291595537, jl_1103515245, jl_2000000000, jl_2147483648, jl_4721686497, jl_7873079139, J_add, J_sub, J_mul, J_neg, JL_add, JL_sub, JL_mul, JL_neg, J_long, JL_int, ↓remI_fold, ↓remL_fold, Int.reduceAdd, Int.reduceSub, Int.reduceMul, Int.reduceNeg, Int.reduceToNat, hg, hc_7 hx, hat, xg_8, xr_14 o _ w (show 0 ≤ (r : Int) ∧ (r : Int) < 6 by omega), Int.toNat_natCast, hgr, Option.bind_some]
  refine e.trans ?_
  rcases h3 with ⟨h, _⟩ | ⟨h, _⟩
  · rw [h, if_pos (Or.inl rfl)]
  · rw [h, if_pos (Or.inr rfl)]
theorem X_so56 (hX : ∀ S, Hc (emX o S w) c th C) (hc : xc S = c) (ho : OkC C) (hN : 1000000 ≤ N) {a : Nat} {t : Int} (ht : 0 ≤ t ∧ t ≤ 99999) {f : Nat → Int32} (hI : IE C a t f) (x : Int32) (k : Int32 → Wd → Option (Int32 × Wd)) : ∃ g y, fX0_soonestOf_56 N o x k N (J 0) (J 0) (emX o (xSR S 14 f) w) = k (J y) (emX o (xSR S 14 g) w) ∧ IE C a t g ∧ stO C f g y (∀ q, q < cR C → eS f q < 1000000 → cl1 C f q) := by
  have hR := cR_le C
  have key := lp_ex (fun n r (s : (Nat → Int32) × Int) => fX0_soonestOf_56 N o x k n (J s.2) (J (r : Int)) (emX o (xSR S 14 s.1) w)) (fun s => k (J s.2) (emX o (xSR S 14 s.1) w)) (cR C) (fun r s => IE C a t s.1 ∧ (∀ q, q < 6 → eS s.1 q ≤ eS f q) ∧ stO C f s.1 s.2 (∀ q, q < r → eS f q < 1000000 → cl1 C f q)) ?_ ?_ N (f, 0) (by omega) ⟨hI, fun _ _ => Int.le_refl _, Or.inl ⟨rfl, fun _ _ => rfl, fun q h => absurd h (Nat.not_lt_zero _)⟩⟩
  · obtain ⟨⟨g, y⟩, e, h1, _, h4⟩ := key
    exact ⟨g, y, e, h1, h4⟩
  · intro n r s hr hs
    obtain ⟨g, y⟩ := s
    obtain ⟨h1, h2, h3⟩ := hs
    simp only at h1 h2 h3
    have hx := hX (xSR S 14 g)
    have hg : gR (emX o (xSR S 14 g) w) [0] o 0 = some c := xg hc
    have hgr : xa (xSR S 14 g) 14 r = J (eS g r) := by rw [show xa (xSR S 14 g) 14 = g from rfl, eS_J g]
    have hb := h1.1 r (by omega)
    have hle : ¬ J (cR C : Int) ≤ J (r : Int) := by rw [J_le (by omega)]; omega
    have hor0 : J y ||| J 0 = J y := by
      rcases h3 with ⟨h, _⟩ | ⟨h, _⟩ <;> rw [h] <;> decide
    have hor1 : J y ||| J 1 = J 1 := by
      rcases h3 with ⟨h, _⟩ | ⟨h, _⟩ <;> rw [h] <;> decide
    by_cases h6 : eS g r < 1000000
    · obtain ⟨g', y', e1, i1, i2, i3⟩ := X_isSooner (N := N) (o := o) (w := w) hX hc ho hN ht hr h1 h6
      have e0 : fX0_soonestOf_56 N o x k (n + 1) (J y) (J (r : Int)) (emX o (xSR S 14 g) w) = if J y' = J 0 then fX0_soonestOf_56 N o x k n (J y) (J ((r + 1 : Nat) : Int)) (emX o (xSR S 14 g') w) else fX0_soonestOf_56 N o x k n (J 1) (J ((r + 1 : Nat) : Int)) (emX o (xSR S 14 g') w) := by
        rw [fX0_soonestOf_56]
        simp only [jn_0, jn_1, jn_2, jn_3, jn_4, jn_5, jn_6, jn_8, jn_9, jn_10, jn_11, jn_12, jn_16, jn_20, jn_24, jn_30, jn_31, jn_32, jn_36, jn_48, jn_57, jn_59, jn_60, jn_63, jn_72, jn_73, jn_96, jn_97, jn_100, jn_122, jn_144, jn_200, jn_240, jn_288, jn_512, jn_840, jn_1200, jn_1600, jn_5040, jn_5390, jn_5400, jn_9999, jn_18688, jn_32400, jn_99999, jn_100000, jn_1000000, jn_858993459, jn_1431655765, jn_252645135, jl_0, jl_1, jl_2, jl_3, jl_8, jl_9, jl_10, jl_20, jl_27, jl_47, jl_96, jl_99, jl_100, jl_200, jl_555, jl_2000, jl_10000, jl_12345, jl_65536, jl_99999, jl_131638, jl_240023, jl_298288, jl_383153, jl_1306021, jl_1960084, jl_4147840, jl_8740238, jl_9872299, jl_175252482, jl_291595537, jl_1103515245, jl_2000000000, jl_2147483648, jl_4721686497, jl_7873079139, J_add, J_sub, J_mul, J_neg, JL_add, JL_sub, JL_mul, JL_neg, J_long, JL_int, ↓remI_fold, ↓remL_fold, Int.reduceAdd, Int.reduceSub, Int.reduceMul, Int.reduceNeg, Int.reduceToNat, hg, hc_0 hx, if_neg hle, xg_8, xr_14 o _ w (show 0 ≤ (r : Int) ∧ (r : Int) < 6 by omega), Int.toNat_natCast, hgr, e1, hor0, hor1, Option.bind_some, castS]
        rw [if_neg (by rw [J_le (by omega)]; omega)]
      rcases i3 with ⟨j1, j2, j3⟩ | ⟨j1, j2⟩
      · refine ⟨(g', y), ?_, i1, fun q hq => Int.le_trans (i2 q hq) (h2 q hq), ?_⟩
        · show fX0_soonestOf_56 _ _ _ _ _ _ _ _ = _
          rw [e0, j1, if_pos rfl]
        · rcases h3 with ⟨k1, k2, k3⟩ | ⟨k1, k2⟩
          · refine Or.inl ⟨k1, fun q hq => (j2 q hq).trans (k2 q hq), fun q hq hl => ?_⟩
            by_cases hqr : q = r
            · rw [hqr]
              exact cl1_cg ho (fun q hq => (k2 q hq).symm) hr j3
            · exact k3 q (by omega) hl
          · refine Or.inr ⟨k1, ?_⟩
            have : sm (eS g') 6 ≤ sm (eS g) 6 := sm_le _ _ 6 (fun j hj => i2 j hj)
            simp only
            omega
      · refine ⟨(g', 1), ?_, i1, fun q hq => Int.le_trans (i2 q hq) (h2 q hq), Or.inr ⟨rfl, ?_⟩⟩
        · show fX0_soonestOf_56 _ _ _ _ _ _ _ _ = _
          rw [e0, j1, if_neg (by rw [J_eq (by omega)]; omega)]
        · have : sm (eS g) 6 ≤ sm (eS f) 6 := sm_le _ _ 6 (fun j hj => h2 j hj)
          simp only
          omega
    · refine ⟨(g, y), ?_, h1, h2, ?_⟩
      · show fX0_soonestOf_56 _ _ _ _ _ _ _ _ = _
        rw [fX0_soonestOf_56]
        simp only [jn_0, jn_1, jn_2, jn_3, jn_4, jn_5, jn_6, jn_8, jn_9, jn_10, jn_11, jn_12, jn_16, jn_20, jn_24, jn_30, jn_31, jn_32, jn_36, jn_48, jn_57, jn_59, jn_60, jn_63, jn_72, jn_73, jn_96, jn_97, jn_100, jn_122, jn_144, jn_200, jn_240, jn_288, jn_512, jn_840, jn_1200, jn_1600, jn_5040, jn_5390, jn_5400, jn_9999, jn_18688, jn_32400, jn_99999, jn_100000, jn_1000000, jn_858993459, jn_1431655765, jn_252645135, jl_0, jl_1, jl_2, jl_3, jl_8, jl_9, jl_10, jl_20, jl_27, jl_47, jl_96, jl_99, jl_100, jl_200, jl_555, jl_2000, jl_10000, jl_12345, jl_65536, jl_99999, jl_131638, jl_240023, jl_298288, jl_383153, jl_1306021, jl_1960084, jl_4147840, jl_8740238, jl_9872299, jl_175252482, jl_291595537, jl_1103515245, jl_2000000000, jl_2147483648, jl_4721686497, jl_7873079139, J_add, J_sub, J_mul, J_neg, JL_add, JL_sub, JL_mul, JL_neg, J_long, JL_int, ↓remI_fold, ↓remL_fold, Int.reduceAdd, Int.reduceSub, Int.reduceMul, Int.reduceNeg, Int.reduceToNat, hg, hc_0 hx, if_neg hle, xg_8, xr_14 o _ w (show 0 ≤ (r : Int) ∧ (r : Int) < 6 by omega), Int.toNat_natCast, hgr, hor0, Option.bind_some, castS]
        rw [if_pos (by rw [J_le (by omega)]; omega)]
      · rcases h3 with ⟨k1, k2, k3⟩ | k1
        · refine Or.inl ⟨k1, k2, fun q hq hl => ?_⟩
          by_cases hqr : q = r
          · exfalso
            rw [hqr] at hl
            have := k2 r (by omega)
            omega
          · exact k3 q (by omega) hl
        · exact Or.inr k1
  · intro n s hs
    have hx := hX (xSR S 14 s.1)
    have hg : gR (emX o (xSR S 14 s.1) w) [0] o 0 = some c := xg hc
    show fX0_soonestOf_56 _ _ _ _ _ _ _ _ = _
    rw [fX0_soonestOf_56]
    simp only [jn_0, jn_1, jn_2, jn_3, jn_4, jn_5, jn_6, jn_8, jn_9, jn_10, jn_11, jn_12, jn_16, jn_20, jn_24, jn_30, jn_31, jn_32, jn_36, jn_48, jn_57, jn_59, jn_60, jn_63, jn_72, jn_73, jn_96, jn_97, jn_100, jn_122, jn_144, jn_200, jn_240, jn_288, jn_512, jn_840, jn_1200, jn_1600, jn_5040, jn_5390, jn_5400, jn_9999, jn_18688, jn_32400, jn_99999, jn_100000, jn_1000000, jn_858993459, jn_1431655765, jn_252645135, jl_0, jl_1, jl_2, jl_3, jl_8, jl_9, jl_10, jl_20, jl_27, jl_47, jl_96, jl_99, jl_100, jl_200, jl_555, jl_2000, jl_10000, jl_12345, jl_65536, jl_99999, jl_131638, jl_240023, jl_298288, jl_383153, jl_1306021, jl_1960084, jl_4147840, jl_8740238, jl_9872299, jl_175252482, jl_291595537, jl_1103515245, jl_2000000000, jl_2147483648, jl_4721686497, jl_7873079139, J_add, J_sub, J_mul, J_neg, JL_add, JL_sub, JL_mul, JL_neg, J_long, JL_int, ↓remI_fold, ↓remL_fold, Int.reduceAdd, Int.reduceSub, Int.reduceMul, Int.reduceNeg, Int.reduceToNat, hg, hc_0 hx, Option.bind_some]
    rw [if_pos (by rw [J_le (by omega)]; omega)]
theorem X_so48 (hX : ∀ S, Hc (emX o S w) c th C) (hc : xc S = c) (ho : OkC C) (hN : 1000000000 ≤ N) {a : Nat} {t : Int} (ht : 0 ≤ t ∧ t ≤ 99999) {f : Nat → Int32} (hI : IE C a t f) (x : Int32) (k : Wd → Option (Int32 × Wd)) : ∃ g, fX0_soonestOf_48 N o x k N (J 1) (emX o (xSR S 14 f) w) = k (emX o (xSR S 14 g) w) ∧ IE C a t g ∧ ∀ q, q < cR C → eS g q < 1000000 → cl1 C g q := by
  have hR := cR_le C
  have hbd : ∀ g, IE C a t g → 0 ≤ sm (eS g) 6 ∧ sm (eS g) 6 ≤ 6000000 := fun g hg => by
    have := sm_bd (eS g) 6 0 1000000 (fun i hi => by have := hg.1 i hi; omega)
    omega
  have hb0 := hbd f hI
  have key := lp_while (fun n (s : (Nat → Int32) × Int) => fX0_soonestOf_48 N o x k n (J s.2) (emX o (xSR S 14 s.1) w)) (fun s => k (emX o (xSR S 14 s.1) w)) (fun s => 2 * (sm (eS s.1) 6).toNat + s.2.toNat) (fun s => IE C a t s.1 ∧ (s.2 = 1 ∨ (s.2 = 0 ∧ ∀ q, q < cR C → eS s.1 q < 1000000 → cl1 C s.1 q))) (fun s => IE C a t s.1 ∧ ∀ q, q < cR C → eS s.1 q < 1000000 → cl1 C s.1 q) ?_ N (f, 1) (by simp only; omega) ⟨hI, Or.inl rfl⟩
  · obtain ⟨s, e, h1, h2⟩ := key
    exact ⟨s.1, e, h1, h2⟩
  · intro n s hs
    obtain ⟨g, y⟩ := s
    obtain ⟨h1, h2⟩ := hs
    simp only at h1 h2
    rcases h2 with h2 | ⟨h2, h3⟩
    · left
      obtain ⟨g', y', e, i1, i2⟩ := X_so56 (N := N) (o := o) (w := w) hX hc ho (by omega) ht h1 x (fun y24 w25 => fX0_soonestOf_48 N o x k n y24 w25)
      have hb1 := hbd g h1
      have hb2 := hbd g' i1
      refine ⟨(g', y'), ?_, ⟨i1, ?_⟩, ?_⟩
      · show fX0_soonestOf_48 N o x k (n + 1) (J y) (emX o (xSR S 14 g) w) = _
        rw [h2, fX0_soonestOf_48, jn_0, if_neg (by rw [J_eq (by omega)]; omega)]
        exact e
      · rcases i2 with ⟨j1, j2, j3⟩ | ⟨j1, _⟩
        · refine Or.inr ⟨j1, fun q hq hl => cl1_cg ho j2 hq (j3 q hq ?_)⟩
          simp only at hl
          rw [j2 q (by omega)] at hl
          exact hl
        · exact Or.inl j1
      · rcases i2 with ⟨j1, j2, _⟩ | ⟨j1, j2⟩
        · have : sm (eS g') 6 = sm (eS g) 6 := sm_congr (fun i hi => j2 i hi)
          simp only
          rw [this, j1, h2]
          omega
        · simp only
          omega
    · right
      refine ⟨(g, y), ?_, h1, h3⟩
      show fX0_soonestOf_48 N o x k (n + 1) (J y) (emX o (xSR S 14 g) w) = _
      rw [h2, fX0_soonestOf_48, jn_0, if_pos rfl]
theorem X_soonestOf (hX : ∀ S, Hc (emX o S w) c th C) (hc : xc S = c) (ho : OkC C) (hN : 1000000000 ≤ N) {k : Nat} (hk : k < cN C) : ∃ f, fX0_soonestOf N (emX o S w) o (J (k : Int)) = some (J (snB C (cF C k) (cA C k) (cD C k)), emX o (xSR S 14 f) w) := by
  have hR := cR_le C
  have hn8 := cN_le C
  have hA := cA_le C k
  have hok := ho.2.1 k hk
  have hz : ∀ z : Nat, z < cR C → 0 ≤ (z : Int) ∧ (z : Int) < 6 := fun z hz => by omega
  have hx := fun g => hX (xSR S 14 g)
  have hg : ∀ g, gR (emX o (xSR S 14 g) w) [0] o 0 = some c := fun g => xg hc
  have kF := fun g => hc_F (hx g) (z := (k : Int)) (by omega)
  have kA := fun g => hc_A (hx g) (z := (k : Int)) (by omega)
  have kD := fun g => hc_D (hx g) (z := (k : Int)) (by omega)
  simp only [Int.toNat_natCast] at kF kA kD
  unfold fX0_soonestOf
  have key := lp_cnt (fun n i => fX0_soonestOf_2 N o (J (k : Int)) (fun w4 =>
      (gR w4 [0] o 8).bind fun x5 =>
      (gR w4 [0] o 0).bind fun x6 =>
      (gR w4 [1] x6 10).bind fun x7 =>
      (aI 0 w4 x7 (J (k : Int))).bind fun x8 =>
      (gR w4 [0] o 0).bind fun x9 =>
      (gR w4 [1] x9 11).bind fun x10 =>
      (aI 0 w4 x10 (J (k : Int))).bind fun x11 =>
      (sI 0 w4 x5 x8 x11).bind fun w12 =>
      fX0_soonestOf_48 N o (J (k : Int))
        (fun w26 =>
          (gR w26 [0] o 8).bind fun x27 =>
          (gR w26 [0] o 0).bind fun x28 =>
          (gR w26 [1] x28 12).bind fun x29 =>
          (aI 0 w26 x29 (J (k : Int))).bind fun x30 =>
          (aI 0 w26 x27 x30).bind fun x31 =>
          if x31 = J 1000000 then
            some (J (-1), w26)
          else
            (gR w26 [0] o 8).bind fun x32 =>
            (gR w26 [0] o 0).bind fun x33 =>
            (gR w26 [1] x33 12).bind fun x34 =>
            (aI 0 w26 x34 (J (k : Int))).bind fun x35 =>
            (aI 0 w26 x32 x35).bind fun x36 =>
            some (x36, w26))
        N (J 1) w12) n (J (i : Int)) (emX o (xSR S 14 (fun j => if j < i then J 1000000 else xa S 14 j)) w)) ((sI 0 (emX o (xSR S 14 (fun j => if j < 6 then J 1000000 else xa S 14 j)) w) (o + 14) (J (cF C k : Int)) (J (cA C k : Int))).bind fun w12 =>
      fX0_soonestOf_48 N o (J (k : Int))
        (fun w26 =>
          (gR w26 [0] o 8).bind fun x27 =>
          (gR w26 [0] o 0).bind fun x28 =>
          (gR w26 [1] x28 12).bind fun x29 =>
          (aI 0 w26 x29 (J (k : Int))).bind fun x30 =>
          (aI 0 w26 x27 x30).bind fun x31 =>
          if x31 = J 1000000 then
            some (J (-1), w26)
          else
            (gR w26 [0] o 8).bind fun x32 =>
            (gR w26 [0] o 0).bind fun x33 =>
            (gR w26 [1] x33 12).bind fun x34 =>
            (aI 0 w26 x34 (J (k : Int))).bind fun x35 =>
            (aI 0 w26 x32 x35).bind fun x36 =>
            some (x36, w26))
        N (J 1) w12) 6 ?_ ?_ N (by omega)
  · have e1 : (fun j => if j < 0 then J 1000000 else xa S 14 j) = xa S 14 := by funext j; rw [if_neg (by omega)]
    rw [e1, xSR_id] at key
    have hf0 : IE C (cF C k) (cA C k : Int) (upd (fun j => if j < 6 then J 1000000 else xa S 14 j) (cF C k) (J (cA C k : Int))) := by
      have hup := fun q => eS_up (fun j => if j < 6 then J 1000000 else xa S 14 j) (cF C k) q (z := (cA C k : Int)) (by omega)
      have h6 : ∀ q, q < 6 → eS (fun j => if j < 6 then J 1000000 else xa S 14 j) q = 1000000 := fun q hq => by
        show (if q < 6 then J 1000000 else xa S 14 q).toInt = 1000000
        rw [if_pos hq, J_toInt (by omega)]
      refine ⟨fun q hq => ?_, fun q hq hl => ?_, ?_⟩
      · rw [hup, h6 q hq]; split <;> omega
      · rw [hup, h6 q hq] at hl
        rw [hup]
        by_cases e : q = cF C k
        · rw [if_pos e, e]; exact ⟨hok.1, Rc_r C _⟩
        · rw [if_neg e] at hl; omega
      · rw [hup, if_pos rfl]
    obtain ⟨g, e2, h2, h3⟩ := X_so48 (N := N) (o := o) (w := w) hX hc ho hN (t := (cA C k : Int)) (by omega) hf0 (J (k : Int)) (fun w26 =>
          (gR w26 [0] o 8).bind fun x27 =>
          (gR w26 [0] o 0).bind fun x28 =>
          (gR w26 [1] x28 12).bind fun x29 =>
          (aI 0 w26 x29 (J (k : Int))).bind fun x30 =>
          (aI 0 w26 x27 x30).bind fun x31 =>
          if x31 = J 1000000 then
            some (J (-1), w26)
          else
            (gR w26 [0] o 8).bind fun x32 =>
            (gR w26 [0] o 0).bind fun x33 =>
            (gR w26 [1] x33 12).bind fun x34 =>
            (aI 0 w26 x34 (J (k : Int))).bind fun x35 =>
            (aI 0 w26 x32 x35).bind fun x36 =>
            some (x36, w26))
    refine ⟨g, ?_⟩
    simp only [jn_0, jn_1, jn_2, jn_3, jn_4, jn_5, jn_6, jn_8, jn_9, jn_10, jn_11, jn_12, jn_16, jn_20, jn_24, jn_30, jn_31, jn_32, jn_36, jn_48, jn_57, jn_59, jn_60, jn_63, jn_72, jn_73, jn_96, jn_97, jn_100, jn_122, jn_144, jn_200, jn_240, jn_288, jn_512, jn_840, jn_1200, jn_1600, jn_5040, jn_5390, jn_5400, jn_9999, jn_18688, jn_32400, jn_99999, jn_100000, jn_1000000, jn_858993459, jn_1431655765, jn_252645135, jl_0, jl_1, jl_2, jl_3, jl_8, jl_9, jl_10, jl_20, jl_27, jl_47, jl_96, jl_99, jl_100, jl_200, jl_555, jl_2000, jl_10000, jl_12345, jl_65536, jl_99999, jl_131638, jl_240023, jl_298288, jl_383153, jl_1306021, jl_1960084, jl_4147840, jl_8740238, jl_9872299, jl_175252482, jl_291595537, jl_1103515245, jl_2000000000, jl_2147483648, jl_4721686497, jl_7873079139, J_add, J_sub, J_mul, J_neg, JL_add, JL_sub, JL_mul, JL_neg, J_long, JL_int, ↓remI_fold, ↓remL_fold, Int.reduceAdd, Int.reduceSub, Int.reduceMul, Int.reduceNeg, Int.reduceToNat] at key ⊢
    refine key.trans ?_
    rw [xw_14 o _ w _ (hz _ hok.1), Option.bind_some, xSA_R, Int.toNat_natCast]
    refine e2.trans ?_
    have hgd : xa (xSR S 14 g) 14 (cD C k) = J (eS g (cD C k)) := by rw [show xa (xSR S 14 g) 14 = g from rfl, eS_J g]
    have hend := IE_end ho hok.1 (t := (cA C k : Int)) (by omega) hok.2.1 h2 h3
    simp only [xg_8, hg, hc_12 (hx g), kD, xr_14 o _ w (hz _ hok.2.1), Int.toNat_natCast, hgd, Option.bind_some]
    have hbd := h2.1 (cD C k) (by omega)
    by_cases h7 : eS g (cD C k) = 1000000
    · rw [if_pos h7] at hend
      rw [if_pos (by rw [h7]), hend]
    · rw [if_neg h7] at hend
      rw [if_neg (by rw [J_eq (by omega)]; omega), hend]
  · intro n i hi
    show fX0_soonestOf_2 _ _ _ _ _ _ _ = _
    rw [fX0_soonestOf_2]
    simp only [jn_0, jn_1, jn_2, jn_3, jn_4, jn_5, jn_6, jn_8, jn_9, jn_10, jn_11, jn_12, jn_16, jn_20, jn_24, jn_30, jn_31, jn_32, jn_36, jn_48, jn_57, jn_59, jn_60, jn_63, jn_72, jn_73, jn_96, jn_97, jn_100, jn_122, jn_144, jn_200, jn_240, jn_288, jn_512, jn_840, jn_1200, jn_1600, jn_5040, jn_5390, jn_5400, jn_9999, jn_18688, jn_32400, jn_99999, jn_100000, jn_1000000, jn_858993459, jn_1431655765, jn_252645135, jl_0, jl_1, jl_2, jl_3, jl_8, jl_9, jl_10, jl_20, jl_27, jl_47, jl_96, jl_99, jl_100, jl_200, jl_555, jl_2000, jl_10000, jl_12345, jl_65536, jl_99999, jl_131638, jl_240023, jl_298288, jl_383153, jl_1306021, jl_1960084, jl_4147840, jl_8740238, jl_9872299, jl_175252482, jl_291595537, jl_1103515245, jl_2000000000, jl_2147483648, jl_4721686497, jl_7873079139, J_add, J_sub, J_mul, J_neg, JL_add, JL_sub, JL_mul, JL_neg, J_long, JL_int, ↓remI_fold, ↓remL_fold, Int.reduceAdd, Int.reduceSub, Int.reduceMul, Int.reduceNeg, Int.reduceToNat, xg_8, xw_14 o _ w _ (show 0 ≤ (i : Int) ∧ (i : Int) < 6 by omega), xSA_R, Int.toNat_natCast, Option.bind_some, castS]
    rw [if_neg (by rw [J_le (by omega)]; omega), lt_upd (fun _ => J 1000000) (xa S 14) i]
  · intro n
    show fX0_soonestOf_2 _ _ _ _ _ _ _ = _
    rw [fX0_soonestOf_2]
    simp only [jn_0, jn_1, jn_2, jn_3, jn_4, jn_5, jn_6, jn_8, jn_9, jn_10, jn_11, jn_12, jn_16, jn_20, jn_24, jn_30, jn_31, jn_32, jn_36, jn_48, jn_57, jn_59, jn_60, jn_63, jn_72, jn_73, jn_96, jn_97, jn_100, jn_122, jn_144, jn_200, jn_240, jn_288, jn_512, jn_840, jn_1200, jn_1600, jn_5040, jn_5390, jn_5400, jn_9999, jn_18688, jn_32400, jn_99999, jn_100000, jn_1000000, jn_858993459, jn_1431655765, jn_252645135, jl_0, jl_1, jl_2, jl_3, jl_8, jl_9, jl_10, jl_20, jl_27, jl_47, jl_96, jl_99, jl_100, jl_200, jl_555, jl_2000, jl_10000, jl_12345, jl_65536, jl_99999, jl_131638, jl_240023, jl_298288, jl_383153, jl_1306021, jl_1960084, jl_4147840, jl_8740238, jl_9872299, jl_175252482, jl_291595537, jl_1103515245, jl_2000000000, jl_2147483648, jl_4721686497, jl_7873079139, J_add, J_sub, J_mul, J_neg, JL_add, JL_sub, JL_mul, JL_neg, J_long, JL_int, ↓remI_fold, ↓remL_fold, Int.reduceAdd, Int.reduceSub, Int.reduceMul, Int.reduceNeg, Int.reduceToNat, xg_8, hg, hc_10 (hx _), hc_11 (hx _), kF, kA, Option.bind_some]
    rw [if_pos (by rw [J_le (by omega)]; omega)]
end
