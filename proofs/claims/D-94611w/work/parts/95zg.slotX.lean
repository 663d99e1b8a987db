/-! slots: the component -/
set_option maxRecDepth 100000
def tyW (w : Nat) : Nat := if w = 0 then 2 else if w = 1 then 4 else if w = 2 then 0 else 1
def RwX (t n : Nat) (g : Nat → Int64) (e : En) : Prop := (t = 1 ∧ ∃ F, e = .inl (1, n, .inr (.inl F)) ∧ ∀ i, i < n → F i = g i) ∨ ((t = 0 ∨ t = 2 ∨ t = 4) ∧ ∃ F, e = .inl (t, n, .inl F) ∧ ∀ i, i < n → (F i).toInt64 = g i ∧ nar t (F i) = F i)
def SlX4 (w : Wd) (o : Nat) (ra : Nat → Nat) (σ : Sl) : Prop := (∃ f, w (o + 22) = some (.inl (6, 4, .inr (.inr (.inr (.inr f))))) ∧ ∀ v, v < 4 → f v = some (o + 23 + v)) ∧
  (∀ v, v < 4 → (σ v = none → w (o + 23 + v) = some (.inr (4, [.null]))) ∧ ∀ u n g, σ v = some (u, n, g) → w (o + 23 + v) = some (.inr (4, [.ref (ra v)])) ∧ u ≤ 3 ∧ n ≤ 60 ∧ ∃ e, w (ra v) = some e ∧ RwX (tyW u) n g e) ∧
  (∀ u v, u < 4 → v < 4 → σ u ≠ none → σ v ≠ none → u ≠ v → ra u ≠ ra v) ∧ (∀ v, v < 4 → σ v ≠ none → ¬ own o (ra v) ∧ ¬ (o + 22 ≤ ra v ∧ ra v ≤ o + 26))
theorem tyW_in {u : Nat} (h : u ≤ 3) : tyW u = 0 ∨ tyW u = 1 ∨ tyW u = 2 ∨ tyW u = 4 := by
  have : u = 0 ∨ u = 1 ∨ u = 2 ∨ u = 3 := by omega
  rcases this with h | h | h | h <;> subst h <;> decide
theorem tyW_inj {u v : Nat} (h : u ≤ 3) (h' : v ≤ 3) : tyW u = tyW v ↔ u = v := by
  have h1 : u = 0 ∨ u = 1 ∨ u = 2 ∨ u = 3 := by omega
  have h2 : v = 0 ∨ v = 1 ∨ v = 2 ∨ v = 3 := by omega
  rcases h1 with h | h | h | h <;> rcases h2 with h' | h' | h' | h' <;> subst h <;> subst h' <;> decide
theorem isA_of {t t' : Nat} {V : Wd} {a : Nat} {y} (h : V a = some (.inl (t', y))) (ht : t' = 0 ∨ t' = 1 ∨ t' = 2 ∨ t' = 4) : isA t V (some a) = some (if t' = t then 1 else 0) := by
  unfold isA
  simp only [h]
  rw [if_pos ht]
theorem asA_of {t : Nat} {V : Wd} {a : Nat} {y} (h : V a = some (.inl (t, y))) : asA t V (some a) = some a := by
  unfold asA
  simp only [h, if_true]
theorem aI_no {t : Nat} {V : Wd} {a m : Nat} {f : Nat → Int32} (h : V a = some (.inl (t, m, .inl f))) {z : Int} (hz : ¬ (0 ≤ z ∧ z < m)) (hb : -2147483648 ≤ z ∧ z ≤ 2147483647) (hm : m ≤ 60) : (J z < 0 ∨ m ≤ (J z).toNatClampNeg) := by
  by_cases h0 : z < 0
  · left; rw [jn_0, J_lt (by omega)]; exact h0
  · right; rw [J_nn (by omega)]; omega
section
variable {N o c : Nat} {S : XS} {w : Wd} {C : Cy} {th ra : Nat → Nat} {σ : Sl}
theorem ix_no {z : Int} {m : Nat} (hz : ¬ (0 ≤ z ∧ z < m)) (hb : -2147483648 ≤ z ∧ z ≤ 2147483647) (hm : m ≤ 60) : (J z < 0 ∨ m ≤ (J z).toNatClampNeg) := by
  by_cases h0 : z < 0
  · left; rw [jn_0, J_lt (by omega)]; exact h0
  · right; rw [J_nn (by omega)]; omega
theorem sx_o (o : Nat) {d : Nat} (h : 22 ≤ d) : ¬ own o (o + d) := by unfold own; omega
theorem sx_at (h : SlX4 w o ra σ) {v : Nat} (hv : v < 4) : aR 6 (emX o S w) (o + 22) (J (v : Int)) = some (o + 23 + v) := by
  obtain ⟨f, e, hf⟩ := h.1
  have e2 : emX o S w (o + 22) = some (.inl (6, 4, .inr (.inr (.inr (.inr f))))) := by rw [emX_out o S w _ (sx_o o (by omega))]; exact e
  exact aR_of e2 (by omega) (by decide) (by rw [Int.toNat_natCast]; exact hf v hv)
theorem sx_k (h : SlX4 w o ra σ) {v : Nat} (hv : v < 4) : ckC (emX o S w) [4] (o + 23 + v) = some 4 := by
  have hn : ¬ own o (o + 23 + v) := by unfold own; omega
  have ⟨h1, h2⟩ := h.2.1 v hv
  cases hs : σ v with
  | none => exact ckC_of ((emX_out o S w _ hn).trans (h1 hs)) (by decide)
  | some y => obtain ⟨u, n, g⟩ := y; exact ckC_of ((emX_out o S w _ hn).trans (h2 u n g hs).1) (by decide)
theorem sx_n (h : SlX4 w o ra σ) {v : Nat} (hv : v < 4) (hs : σ v = none) : gN (emX o S w) [4] (o + 23 + v) 0 = some none := by
  have hn : ¬ own o (o + 23 + v) := by unfold own; omega
  exact gN_of0 ((emX_out o S w _ hn).trans ((h.2.1 v hv).1 hs)) (by decide) rfl
theorem sx_s (h : SlX4 w o ra σ) {v : Nat} (hv : v < 4) {u n : Nat} {g : Nat → Int64} (hs : σ v = some (u, n, g)) : gN (emX o S w) [4] (o + 23 + v) 0 = some (some (ra v)) ∧ u ≤ 3 ∧ n ≤ 60 ∧ ∃ e, emX o S w (ra v) = some e ∧ w (ra v) = some e ∧ RwX (tyW u) n g e := by
  have hn : ¬ own o (o + 23 + v) := by unfold own; omega
  obtain ⟨h1, h2, h3, e, h4, h5⟩ := (h.2.1 v hv).2 u n g hs
  have hr := (h.2.2.2 v hv (by rw [hs]; exact Option.some_ne_none _)).1
  exact ⟨gN_of ((emX_out o S w _ hn).trans h1) (by decide) rfl, h2, h3, e, (emX_out o S w _ hr).trans h4, h4, h5⟩
theorem X4_at (h : SlX4 w o ra σ) {v : Nat} (hv : v < 4) {u n : Nat} {g : Nat → Int64} (hs : σ v = some (u, n, g)) {i : Nat} (hi : i < n) : fX4_at N (emX o S w) (o + 23 + v) (J (i : Int)) = some (g i) := by
  obtain ⟨h1, h2, h3, e, h4, _, h5⟩ := sx_s (S := S) h hv hs
  unfold fX4_at
  rcases h5 with ⟨ht, F, he, hF⟩ | ⟨ht, F, he, hF⟩
  · rw [he] at h4
    simp only [h1, isA_of h4 (by omega), asA_of h4, aL_of h4 (show 0 ≤ (i : Int) ∧ (i : Int) < (n : Nat) by omega) (by omega), Option.bind_some, Nat.reduceEqDiff, if_false, if_true, Int.toNat_natCast, hF i hi, reduceIte]
  · rw [he] at h4
    have ha := aI_of h4 (show 0 ≤ (i : Int) ∧ (i : Int) < (n : Nat) by omega) (by omega)
    rw [Int.toNat_natCast] at ha
    rcases ht with ht | ht | ht <;> rw [ht] at h4 ha <;> simp only [h1, isA_of h4 (by omega), asA_of h4, ha, Option.bind_some, Nat.reduceEqDiff, if_false, if_true, (hF i hi).1, reduceIte]
    all_goals rfl
theorem X4_size (h : SlX4 w o ra σ) {v : Nat} (hv : v < 4) {u n : Nat} {g : Nat → Int64} (hs : σ v = some (u, n, g)) : fX4_size N (emX o S w) (o + 23 + v) = some (J (n : Int)) := by
  obtain ⟨h1, h2, h3, e, h4, _, h5⟩ := sx_s (S := S) h hv hs
  unfold fX4_size
  rcases h5 with ⟨ht, F, he, hF⟩ | ⟨ht, F, he, hF⟩
  · rw [he] at h4
    simp only [h1, isA_of h4 (by omega), asA_of h4, aLen_of h4 (by omega), Option.bind_some, Nat.reduceEqDiff, if_false, if_true, reduceIte]
  · rw [he] at h4
    rcases ht with ht | ht | ht <;> rw [ht] at h4 <;> simp only [h1, isA_of h4 (by omega), asA_of h4, aLen_of h4 (by omega), Option.bind_some, Nat.reduceEqDiff, if_false, if_true, reduceIte]
    all_goals rfl
theorem SlX4_up (h : SlX4 w o ra σ) {v : Nat} (hv : v < 4) {u n : Nat} {g g' : Nat → Int64} (hs : σ v = some (u, n, g)) {e : En} (he : RwX (tyW u) n g' e) : SlX4 (wup w (ra v) e) o ra (slU σ v (u, n, g')) := by
  have hv' : σ v ≠ none := by rw [hs]; exact Option.some_ne_none _
  have hr := h.2.2.2 v hv hv'
  have hu : ∀ x, x < 4 → slU σ v (u, n, g') x ≠ none → σ x ≠ none := fun x hx hn => by
    unfold slU at hn
    by_cases hxv : x = v
    · rw [hxv]; exact hv'
    · rwa [if_neg hxv] at hn
  obtain ⟨⟨f, e1, e2⟩, h2, h3, h4⟩ := h
  refine ⟨⟨f, by rw [wup_o _ _ (by omega)]; exact e1, e2⟩, fun x hx => ?_, fun x y hx hy hnx hny => h3 x y hx hy (hu x hx hnx) (hu y hy hny), fun x hx hnx => h4 x hx (hu x hx hnx)⟩
  unfold slU
  by_cases hxv : x = v
  · rw [if_pos hxv, hxv]
    refine ⟨fun hh => (by cases hh), fun u' n' g'' hh => ?_⟩
    injection hh with hh
    injection hh with q1 hh
    injection hh with q2 q3
    subst q1 q2 q3
    obtain ⟨a1, a2, a3, _⟩ := (h2 v hv).2 u n g hs
    exact ⟨by rw [wup_o _ _ (by omega)]; exact a1, a2, a3, e, wup_s _ _ _, he⟩
  · rw [if_neg hxv]
    have ⟨b1, b2⟩ := h2 x hx
    refine ⟨fun hh => by rw [wup_o _ _ (by omega)]; exact b1 hh, fun u' n' g'' hh => ?_⟩
    obtain ⟨a1, a2, a3, e', a4, a5⟩ := b2 u' n' g'' hh
    have hne := h3 x v hx hv (by rw [hh]; exact Option.some_ne_none _) hv' hxv
    exact ⟨by rw [wup_o _ _ (by omega)]; exact a1, a2, a3, e', by rw [wup_o _ _ hne]; exact a4, a5⟩
def FrR (ra : Nat → Nat) (w w' : Wd) : Prop := ∀ q, (∀ v, v < 4 → q ≠ ra v) → w' q = w q
theorem cut_0 (x : Int64) : cutW 0 x = x.toInt32.toInt8.toInt32.toInt64 := rfl
theorem cut_1 (x : Int64) : cutW 1 x = x.toInt32.toInt16.toInt32.toInt64 := rfl
theorem cut_2 (x : Int64) : cutW 2 x = x.toInt32.toInt64 := rfl
theorem cut_3 (x : Int64) : cutW 3 x = x := rfl
/-- a row of numbers with one of them written -/
theorem Rw_put {F : Nat → Int32} {g : Nat → Int64} {n : Nat} {t : Nat} (ht : t = 0 ∨ t = 2 ∨ t = 4) (hF : ∀ i, i < n → (F i).toInt64 = g i ∧ nar t (F i) = F i) {i : Nat} {x : Int32} {y : Int64} (hx : (nar t x).toInt64 = y) (hn : nar t (nar t x) = nar t x) : RwX t n (vp_updL g i y) (.inl (t, n, .inl (upd F i (nar t x)))) := by
  refine Or.inr ⟨ht, _, rfl, fun j hj => ?_⟩
  unfold upd vp_updL
  by_cases h : j = i
  · rw [if_pos h, if_pos h]; exact ⟨hx, hn⟩
  · rw [if_neg h, if_neg h]; exact hF j hj
theorem nar_2 (x : Int32) : nar 2 x = x.toInt8.toInt32 := vp_nar_byte x
theorem nar_4 (x : Int32) : nar 4 x = x.toInt16.toInt32 := vp_nar_short x
theorem X4_put (h : SlX4 w o ra σ) {v : Nat} (hv : v < 4) {u n : Nat} {g : Nat → Int64} (hs : σ v = some (u, n, g)) {i : Nat} (hi : i < n) (x : Int64) : ∃ e, fX4_put N (emX o S w) (o + 23 + v) (J (i : Int)) x = some (emX o S (wup w (ra v) e)) ∧ RwX (tyW u) n (vp_updL g i (cutW u x)) e := by
  obtain ⟨h1, h2, h3, e, h4, _, h5⟩ := sx_s (S := S) h hv hs
  have hr := (h.2.2.2 v hv (by rw [hs]; exact Option.some_ne_none _)).1
  have hz : 0 ≤ (i : Int) ∧ (i : Int) < (n : Nat) := by omega
  unfold fX4_put
  have hu : u = 0 ∨ u = 1 ∨ u = 2 ∨ u = 3 := by omega
  rcases hu with hu | hu | hu | hu <;> subst hu
  · rcases h5 with ⟨ht, _⟩ | ⟨ht, F, he, hF⟩
    · exact absurd ht (by decide)
    · rw [he] at h4
      have h4' : emX o S w (ra v) = some (.inl (2, n, .inl F)) := h4
      refine ⟨.inl (2, n, .inl (upd F i (nar 2 x.toInt32.toInt8.toInt32))), ?_, Rw_put ht hF (by rw [show tyW 0 = 2 from rfl, nar_2, cut_0]; simp) (by rw [show tyW 0 = 2 from rfl, nar_2, nar_2]; simp)⟩
      simp only [h1, isA_of h4' (by omega), asA_of h4', sI_of _ h4' hz (by omega), emX_wup hr, Int.toNat_natCast, Option.bind_some, Nat.reduceEqDiff, if_false, if_true, reduceIte]
      rfl
  · rcases h5 with ⟨ht, _⟩ | ⟨ht, F, he, hF⟩
    · exact absurd ht (by decide)
    · rw [he] at h4
      have h4' : emX o S w (ra v) = some (.inl (4, n, .inl F)) := h4
      refine ⟨.inl (4, n, .inl (upd F i (nar 4 x.toInt32.toInt16.toInt32))), ?_, Rw_put ht hF (by rw [show tyW 1 = 4 from rfl, nar_4, cut_1]; simp) (by rw [show tyW 1 = 4 from rfl, nar_4, nar_4]; simp)⟩
      simp only [h1, isA_of h4' (by omega), asA_of h4', sI_of _ h4' hz (by omega), emX_wup hr, Int.toNat_natCast, Option.bind_some, Nat.reduceEqDiff, if_false, if_true, reduceIte]
      rfl
  · rcases h5 with ⟨ht, _⟩ | ⟨ht, F, he, hF⟩
    · exact absurd ht (by decide)
    · rw [he] at h4
      have h4' : emX o S w (ra v) = some (.inl (0, n, .inl F)) := h4
      refine ⟨.inl (0, n, .inl (upd F i (nar 0 x.toInt32))), ?_, Rw_put ht hF (by rw [show tyW 2 = 0 from rfl, nar_0, cut_2]) (by rw [show tyW 2 = 0 from rfl, nar_0, nar_0])⟩
      simp only [h1, isA_of h4' (by omega), asA_of h4', sI_of _ h4' hz (by omega), emX_wup hr, Int.toNat_natCast, Option.bind_some, Nat.reduceEqDiff, if_false, if_true, reduceIte]
      rfl
  · rcases h5 with ⟨ht, F, he, hF⟩ | ⟨ht, _⟩
    · rw [he] at h4
      have h4' : emX o S w (ra v) = some (.inl (1, n, .inr (.inl F))) := h4
      refine ⟨.inl (1, n, .inr (.inl (vp_updL F i x))), ?_, Or.inl ⟨rfl, _, rfl, fun j hj => ?_⟩⟩
      · simp only [h1, isA_of h4' (by omega), asA_of h4', sL_of _ h4' hz (by omega), emX_wup hr, Int.toNat_natCast, Option.bind_some, Nat.reduceEqDiff, if_false, if_true, reduceIte]
      · unfold vp_updL
        by_cases hj2 : j = i
        · rw [if_pos hj2, if_pos hj2, cut_3]
        · rw [if_neg hj2, if_neg hj2]; exact hF j hj
    · exact absurd ht (by decide)
/-- what it throws where nothing lies, or nothing is written -/
theorem X4_putN (h : SlX4 w o ra σ) {v : Nat} (hv : v < 4) (hs : σ v = none) (i : Int32) (x : Int64) : fX4_put N (emX o S w) (o + 23 + v) i x = none ∧ fX4_putX (emX o S w) (o + 23 + v) i = some (J (-6)) := by
  have h1 := sx_n (S := S) h hv hs
  constructor
  · unfold fX4_put
    simp only [h1, isA, asA, Option.bind_some, Option.bind_none, if_true]
  · unfold fX4_putX
    rw [h1, Option.bind_some]; rfl
theorem X4_putI (h : SlX4 w o ra σ) {v : Nat} (hv : v < 4) {u n : Nat} {g : Nat → Int64} (hs : σ v = some (u, n, g)) {i : Int} (hb : -2147483648 ≤ i ∧ i ≤ 2147483647) (hi : ¬ (0 ≤ i ∧ i < n)) (x : Int64) : fX4_put N (emX o S w) (o + 23 + v) (J i) x = none ∧ fX4_putX (emX o S w) (o + 23 + v) (J i) = some (J (-7)) := by
  obtain ⟨h1, h2, h3, e, h4, _, h5⟩ := sx_s (S := S) h hv hs
  have hno := ix_no hi hb h3
  rcases h5 with ⟨ht, F, he, hF⟩ | ⟨ht, F, he, hF⟩
  · rw [he] at h4
    have hw : sL (emX o S w) (ra v) (J i) x = none := by
      unfold sL
      rw [h4]
      simp only
      rw [if_neg (fun h => h.2 hno)]
    constructor
    · unfold fX4_put
      simp only [h1, isA_of h4 (by omega), asA_of h4, hw, Option.bind_some, Option.bind_none, Nat.reduceEqDiff, if_false, if_true, reduceIte]
    · unfold fX4_putX
      rw [h1, Option.bind_some]
      simp only [h4]
      rw [if_pos ⟨trivial, hno, by omega⟩]; rfl
  · rw [he] at h4
    have hw : ∀ t y, t = tyW u → sI t (emX o S w) (ra v) (J i) y = none := fun t y ht => by
      unfold sI
      rw [h4]
      simp only
      rw [if_neg (fun h => h.2 hno)]
    constructor
    · unfold fX4_put
      rcases ht with ht | ht | ht <;> rw [ht] at h4 hw <;> simp only [h1, isA_of h4 (by omega), asA_of h4, hw _ _ rfl, Option.bind_some, Option.bind_none, Nat.reduceEqDiff, if_false, if_true, reduceIte]
      all_goals rfl
    · unfold fX4_putX
      rw [h1, Option.bind_some]
      simp only [h4]
      rw [if_pos ⟨ht, hno, by omega⟩]; rfl
theorem X_write (h : SlX4 w o ra σ) (hN : 1000000 ≤ N) {v i : Int} (hv : -2147483648 ≤ v ∧ v ≤ 2147483647) (hi : -2147483648 ≤ i ∧ i ≤ 2147483647) (x : Int64) : ∃ w', fX0_write N (emX o S w) o (J v) (J i) x = some (J (sp_write σ v i x).1, emX o S w') ∧ SlX4 w' o ra (sp_write σ v i x).2 ∧ FrR ra w w' := by
  unfold fX0_write sp_write
  simp only [jn_0, jn_1, jn_2, jn_3, jn_4, jn_5, jn_6, jn_8, jn_9, jn_10, jn_11, jn_12, jn_16, jn_20, jn_24, jn_30, jn_31, jn_32, jn_36, jn_48, jn_57, jn_59, jn_60, jn_63, jn_72, jn_73, jn_96, jn_97, jn_100, jn_122, jn_144, jn_200, jn_240, jn_288, jn_512, jn_840, jn_1200, jn_1600, jn_5040, jn_5390, jn_5400, jn_9999, jn_18688, jn_32400, jn_99999, jn_100000, jn_1000000, jn_858993459, jn_1431655765, jn_252645135, jl_0, jl_1, jl_2, jl_3, jl_8, jl_9, jl_10, jl_20, jl_27, jl_47, jl_96, jl_99, jl_100, jl_200, jl_555, jl_2000, jl_10000, jl_12345, jl_65536, jl_99999, jl_131638, jl_240023, jl_298288, jl_383153, jl_1306021, jl_1960084, jl_4147840, jl_8740238, jl_9872299, jl_175252482, jl_291595537, jl_1103515245, jl_2000000000, jl_2147483648, jl_4721686497, jl_7873079139, J_add, J_sub, J_mul, J_neg, JL_add, JL_sub, JL_mul, JL_neg, J_long, JL_int, ↓remI_fold, ↓remL_fold, Int.reduceAdd, Int.reduceSub, Int.reduceMul, Int.reduceNeg, Int.reduceToNat, Classical.not_not, em_t, Bp_eq0, Bp_eq1, Bp_01, Bp_mk, Bp_mk', Bp_0, Bp_0', Bp_1, Bp_1', if_true, if_false, ite_not, X_isSlot hv, Option.bind_some]
  by_cases h1 : 0 ≤ v ∧ v ≤ 3
  case neg => exact ⟨w, by rw [if_neg h1, if_neg h1]; first | done | rfl, by rw [if_neg h1]; exact h, fun _ _ => rfl⟩
  simp only [if_pos h1]
  obtain ⟨a, ha⟩ : ∃ a : Nat, v = a := ⟨v.toNat, by omega⟩
  subst ha
  have ha4 : a < 4 := by omega
  simp only [Int.toNat_natCast, xg_22, sx_at h ha4, sx_k h ha4, Option.bind_some]
  cases hs : σ a with
  | none =>
    have ⟨e1, e2⟩ := X4_putN (N := N) (S := S) h ha4 hs (J i) x
    simp only [e1, e2, Option.bind_some]
    exact ⟨w, rfl, h, fun _ _ => rfl⟩
  | some y =>
    obtain ⟨u, n, g⟩ := y
    simp only
    by_cases h2 : 0 ≤ i ∧ i < n
    case neg =>
      have ⟨e1, e2⟩ := X4_putI (N := N) (S := S) h ha4 hs hi h2 x
      simp only [e1, e2, Option.bind_some, if_neg h2]
      exact ⟨w, rfl, h, fun _ _ => rfl⟩
    obtain ⟨b, hb⟩ : ∃ a : Nat, i = a := ⟨i.toNat, by omega⟩
    subst hb
    obtain ⟨e, e1, e2⟩ := X4_put (N := N) (S := S) h ha4 hs (i := b) (by omega) x
    simp only [e1, if_pos h2, Int.toNat_natCast]
    exact ⟨_, rfl, SlX4_up h ha4 hs e2, fun q hq => wup_o _ _ (hq a ha4)⟩
end
