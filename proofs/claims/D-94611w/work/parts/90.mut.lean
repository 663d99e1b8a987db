/-! rows that are changed -/
set_option maxRecDepth 100000
/-- a city with another row on a roof -/
def cRow (C : Cy) (r n : Nat) (H T : Nat → Nat) : Cy := fun j k => if j = 1 ∧ k = r then n - 1 else if j = 3 ∧ k / 8 = r then H (k % 8) else if j = 4 ∧ k / 8 = r then T (k % 8) else C j k
section
variable {C : Cy} {r n : Nat} {H T : Nat → Nat}
theorem cRow_R : cR (cRow C r n H T) = cR C := rfl
theorem cRow_K (q : Nat) : cK (cRow C r n H T) q = cK C q := by unfold cK cRow; simp
theorem cRow_X : cX (cRow C r n H T) = cX C := rfl
theorem cRow_Lo (k : Nat) : cLo (cRow C r n H T) k = cLo C k := by unfold cLo cRow; simp
theorem cRow_Hi (k : Nat) : cHi (cRow C r n H T) k = cHi C k := by unfold cHi cRow; simp
theorem cRow_N : cN (cRow C r n H T) = cN C := rfl
theorem cRow_F (k : Nat) : cF (cRow C r n H T) k = cF C k := by unfold cF cRow; simp
theorem cRow_A (k : Nat) : cA (cRow C r n H T) k = cA C k := by unfold cA cRow; simp
theorem cRow_D (k : Nat) : cD (cRow C r n H T) k = cD C k := by unfold cD cRow; simp
theorem cRow_L : cL (cRow C r n H T) = cL C := rfl
theorem cRow_G : cG (cRow C r n H T) = cG C := rfl
theorem cRow_O : cO (cRow C r n H T) = cO C := rfl
theorem cRow_P (hn : 1 ≤ n ∧ n ≤ 8) (q : Nat) : cP (cRow C r n H T) q = if q = r then n else cP C q := by
  unfold cP cRow
  by_cases h : q = r
  · simp [h]; omega
  · simp [h]
theorem cRow_H {i : Nat} (hi : i < 8) (hH : H i ≤ 9) (q : Nat) : cH (cRow C r n H T) q i = if q = r then H i else cH C q i := by
  unfold cH cRow
  have e1 : (8 * q + i) / 8 = q := by omega
  have e2 : (8 * q + i) % 8 = i := by omega
  by_cases h : q = r
  · rw [if_neg (by simp), if_pos ⟨rfl, e1.trans h⟩, e2, if_pos h]; omega
  · simp [e1, h]
theorem cRow_T {i : Nat} (hi : i < 8) (hT : T i ≤ 5) (q : Nat) : cT (cRow C r n H T) q i = if q = r then T i else cT C q i := by
  unfold cT cRow
  have e1 : (8 * q + i) / 8 = q := by omega
  have e2 : (8 * q + i) % 8 = i := by omega
  by_cases h : q = r
  · rw [if_neg (by simp), if_neg (by simp), if_pos ⟨rfl, e1.trans h⟩, e2, if_pos h]; omega
  · simp [e1, h]
theorem cRow_Hq {i : Nat} (hi : i < 8) {q : Nat} (hq : q ≠ r) : cH (cRow C r n H T) q i = cH C q i := by
  unfold cH cRow
  have e1 : (8 * q + i) / 8 = q := by omega
  simp [e1, hq]
theorem cRow_Tq {i : Nat} (hi : i < 8) {q : Nat} (hq : q ≠ r) : cT (cRow C r n H T) q i = cT C q i := by
  unfold cT cRow
  have e1 : (8 * q + i) / 8 = q := by omega
  simp [e1, hq]
theorem cRow_Ok (ho : OkC C) (hn : 1 ≤ n ∧ n ≤ 8) (h : ∀ i, i < n → H i ≤ 9 ∧ T i < cR C ∧ (H i = 0 → T i = r)) : OkC (cRow C r n H T) := by
  have hR := cR_le C
  refine ⟨fun q i hq hi => ?_, fun k hk => ?_, fun h0 => ho.2.2 h0⟩
  · rw [cRow_P hn] at hi
    rw [cRow_R] at hq ⊢
    by_cases hqr : q = r
    · rw [if_pos hqr] at hi
      have := h i hi
      rw [cRow_H (by omega) this.1, cRow_T (by omega) (by omega), if_pos hqr, if_pos hqr, hqr]
      exact this.2
    · rw [if_neg hqr] at hi
      have hP := cP_bd C q
      rw [cRow_Hq (by omega) hqr, cRow_Tq (by omega) hqr]
      exact ho.1 q i hq hi
  · rw [cRow_F, cRow_D, cRow_R]
    exact ho.2.1 k hk
end
/-! the reference -/
def bdS : List Nat := [0, 0, 0, 0, 0, 0, 1, 1, 6, 6, 48, 48, 2, 12, 24, 2]
/-- what the reference must keep when its city changes -/
def FrC (S S' : MS) : Prop := (∀ a, a = 1 ∨ a = 2 ∨ a = 5 ∨ a = 16 → ma S' a = ma S a) ∧ (∀ a i, 6 ≤ a → a ≤ 15 → bdS.getD a 0 ≤ i → i < 4 * bdS.getD a 0 → ma S' a i = ma S a i) ∧ mb S' 3 = mb S 3 ∧ mi S' 6 = mi S 6 ∧ mi S' 14 = mi S 14 ∧ mi S' 15 = mi S 15
theorem FrM_C {S S' : MS} (h : FrM S S') : FrC S S' := ⟨fun a ha => h.1 a (by omega) (by omega), fun a i h1 h2 _ _ => by rw [h.1 a (by omega) (by omega)], h.2.1, h.2.2.1, h.2.2.2.1, h.2.2.2.2⟩
theorem FrC_t {S T U : MS} (h : FrC S T) (h' : FrC T U) : FrC S U := ⟨fun a ha => (h'.1 a ha).trans (h.1 a ha), fun a i h1 h2 h3 h4 => (h'.2.1 a i h1 h2 h3 h4).trans (h.2.1 a i h1 h2 h3 h4), h'.2.2.1.trans h.2.2.1, h'.2.2.2.1.trans h.2.2.2.1, h'.2.2.2.2.1.trans h.2.2.2.2.1, h'.2.2.2.2.2.trans h.2.2.2.2.2⟩
theorem FrC_A (S : MS) (a i : Nat) (x : Int32) (h : 6 ≤ a ∧ a ≤ 15) (hi : i < bdS.getD a 0 ∨ 4 * bdS.getD a 0 ≤ i) : FrC S (mSA S a i x) := by
  refine ⟨fun b hb => ?_, fun b j h1 h2 h3 h4 => ?_, rfl, rfl, rfl, rfl⟩
  · rw [ma_A, if_neg (by omega)]
  · rw [ma_A]
    by_cases hb : b = a
    · subst hb
      rw [if_pos rfl]
      unfold upd
      rw [if_neg (by omega)]
    · rw [if_neg hb]
theorem GdM_row {S S' : MS} {C : Cy} (hG : GdM S 0 C) {r n : Nat} {H T : Nat → Nat} (hr : r < cR C) (hn : 1 ≤ n ∧ n ≤ 8) (h9 : ma S' 9 r = J n) (h9' : ∀ q, q < cR C → q ≠ r → ma S' 9 q = ma S 9 q)
    (hH : ∀ i, i < n → H i ≤ 9 ∧ T i ≤ 5 ∧ ma S' 10 (8 * r + i) = J (H i) ∧ ma S' 11 (8 * r + i) = J (T i))
    (hq : ∀ q i, q < cR C → q ≠ r → i < 8 → ma S' 10 (8 * q + i) = ma S 10 (8 * q + i) ∧ ma S' 11 (8 * q + i) = ma S 11 (8 * q + i))
    (ha : ∀ a, a = 6 ∨ a = 7 ∨ a = 8 ∨ a = 12 ∨ a = 13 ∨ a = 14 ∨ a = 15 → ma S' a = ma S a) : GdM S' 0 (cRow C r n H T) := by
  unfold GdM
  rw [ha 6 (by omega), ha 7 (by omega), ha 8 (by omega), ha 12 (by omega), ha 13 (by omega), ha 14 (by omega), ha 15 (by omega)]
  refine ⟨hG.1, hG.2.1, fun q hq' => ?_, hG.2.2.2.1, hG.2.2.2.2.1, fun k hk => ?_, fun k hk => ?_, hG.2.2.2.2.2.2.2⟩
  · rw [cRow_R] at hq'
    rw [Nat.mul_zero, Nat.zero_add, cRow_K, cRow_P hn]
    refine ⟨gm_K hG hq', ?_, fun i hi => ?_⟩
    · by_cases h : q = r
      · rw [if_pos h, h]; exact h9
      · rw [if_neg h, h9' q hq' h]; exact gm_P hG hq'
    · by_cases h : q = r
      · rw [if_pos h] at hi
        have ⟨a, b, c, d⟩ := hH i hi
        rw [cRow_H (by omega) a, cRow_T (by omega) b, if_pos h, if_pos h, h]
        exact ⟨c, d⟩
      · rw [if_neg h] at hi
        have hP := cP_bd C q
        have ⟨a, b⟩ := hq q i hq' h (by omega)
        rw [cRow_Hq (by omega) h, cRow_Tq (by omega) h, a, b]
        exact ⟨gm_H hG hq' hi, gm_T hG hq' hi⟩
  · rw [cRow_Lo, cRow_Hi]; exact hG.2.2.2.2.2.1 k hk
  · rw [cRow_F, cRow_A, cRow_D]; exact hG.2.2.2.2.2.2.1 k hk
/-! the component -/
def own (o q : Nat) : Prop := q = o ∨ (o + 8 ≤ q ∧ q ≤ o + 21)
def Sep (o c : Nat) (th : Nat → Nat) (R : Nat) : Prop := (∀ d, d ≤ 6 → ¬ own o (c + d)) ∧ (∀ r d, r < R → d ≤ 2 → ¬ own o (th r + d)) ∧ (∀ r d e, r < R → d ≤ 2 → e ≤ 6 → th r + d ≠ c + e) ∧ (∀ r q d e, r < R → q < R → r ≠ q → d ≤ 2 → e ≤ 2 → th r + d ≠ th q + e)
/-- a city's cells -/
def Ft (c : Nat) (th : Nat → Nat) (R q : Nat) : Prop := (∃ d, d ≤ 6 ∧ q = c + d) ∨ ∃ r d, r < R ∧ d ≤ 2 ∧ q = th r + d
theorem Hc_fr {w w' : Wd} {c : Nat} {th : Nat → Nat} {C : Cy} (h : Hc w c th C) (hw : ∀ q, Ft c th (cR C) q → w' q = w q) : Hc w' c th C := by
  have hc : ∀ d, d ≤ 6 → w' (c + d) = w (c + d) := fun d hd => hw _ (Or.inl ⟨d, hd, rfl⟩)
  have ht : ∀ r d, r < cR C → d ≤ 2 → w' (th r + d) = w (th r + d) := fun r d hr hd => hw _ (Or.inr ⟨r, d, hr, hd, rfl⟩)
  unfold Hc at h ⊢
  rw [show w' c = w c from hc 0 (by omega), hc 1 (by omega), hc 2 (by omega), hc 3 (by omega), hc 4 (by omega), hc 5 (by omega), hc 6 (by omega)]
  refine ⟨h.1, h.2.1, h.2.2.1, h.2.2.2.1, h.2.2.2.2.1, h.2.2.2.2.2.1, h.2.2.2.2.2.2.1, fun r hr => ?_⟩
  rw [show w' (th r) = w (th r) from ht r 0 hr (by omega), ht r 1 hr (by omega), ht r 2 hr (by omega)]
  exact h.2.2.2.2.2.2.2 r hr
theorem hX_of {o c : Nat} {w : Wd} {th : Nat → Nat} {C : Cy} (h : Hc w c th C) (hs : Sep o c th (cR C)) : ∀ S, Hc (emX o S w) c th C := by
  intro S
  refine Hc_fr h (fun q hq => ?_)
  apply emX_out
  rcases hq with ⟨d, hd, e⟩ | ⟨r, d, hr, hd, e⟩
  · rw [e]; exact hs.1 d hd
  · rw [e]; exact hs.2.1 r d hr hd
/-- a world with another thrower at an address -/
def wT (w : Wd) (a k r : Nat) (n : Int32) (F G : Nat → Int32) : Wd := fun q => if q = a then some (.inr (k, [.int (J r), .ref (a + 1), .ref (a + 2), .int n])) else if q = a + 1 then some (.inl (0, 8, .inl F)) else if q = a + 2 then some (.inl (0, 8, .inl G)) else w q
theorem wT_0 (w : Wd) (a k r : Nat) (n : Int32) (F G : Nat → Int32) : wT w a k r n F G a = some (.inr (k, [.int (J r), .ref (a + 1), .ref (a + 2), .int n])) := by unfold wT; rw [if_pos rfl]
theorem wT_1 (w : Wd) (a k r : Nat) (n : Int32) (F G : Nat → Int32) : wT w a k r n F G (a + 1) = some (.inl (0, 8, .inl F)) := by unfold wT; rw [if_neg (by omega), if_pos rfl]
theorem wT_2 (w : Wd) (a k r : Nat) (n : Int32) (F G : Nat → Int32) : wT w a k r n F G (a + 2) = some (.inl (0, 8, .inl G)) := by unfold wT; rw [if_neg (by omega), if_neg (by omega), if_pos rfl]
theorem wT_o (w : Wd) (a k r : Nat) (n : Int32) (F G : Nat → Int32) {q : Nat} (h : ¬ (a ≤ q ∧ q ≤ a + 2)) : wT w a k r n F G q = w q := by unfold wT; rw [if_neg (by omega), if_neg (by omega), if_neg (by omega)]
theorem wT_id {w : Wd} {a k r : Nat} {n : Int32} {F G : Nat → Int32} (h0 : w a = some (.inr (k, [.int (J r), .ref (a + 1), .ref (a + 2), .int n]))) (h1 : w (a + 1) = some (.inl (0, 8, .inl F))) (h2 : w (a + 2) = some (.inl (0, 8, .inl G))) : wT w a k r n F G = w := by
  funext q
  unfold wT
  by_cases e0 : q = a
  · rw [if_pos e0, e0, h0]
  · by_cases e1 : q = a + 1
    · rw [if_neg e0, if_pos e1, e1, h1]
    · by_cases e2 : q = a + 2
      · rw [if_neg e0, if_neg e1, if_pos e2, e2, h2]
      · rw [if_neg e0, if_neg e1, if_neg e2]
theorem wT_up1 (w : Wd) (a k r : Nat) (n : Int32) (F G F' : Nat → Int32) : wup (wT w a k r n F G) (a + 1) (.inl (0, 8, .inl F')) = wT w a k r n F' G := by
  funext q
  unfold wup wT
  by_cases e1 : q = a + 1
  · rw [if_pos e1, if_neg (by omega), if_pos e1]
  · rw [if_neg e1]
    by_cases e0 : q = a
    · rw [if_pos e0, if_pos e0]
    · rw [if_neg e0, if_neg e0, if_neg e1, if_neg e1]
theorem wT_up2 (w : Wd) (a k r : Nat) (n : Int32) (F G G' : Nat → Int32) : wup (wT w a k r n F G) (a + 2) (.inl (0, 8, .inl G')) = wT w a k r n F G' := by
  funext q
  unfold wup wT
  by_cases e2 : q = a + 2
  · rw [if_pos e2, if_neg (by omega), if_neg (by omega), if_pos e2]
  · rw [if_neg e2]
    by_cases e0 : q = a
    · rw [if_pos e0, if_pos e0]
    · rw [if_neg e0, if_neg e0, if_neg e2, if_neg e2]
theorem wT_up0 (w : Wd) (a k r : Nat) (n n' : Int32) (F G : Nat → Int32) : wup (wT w a k r n F G) a (.inr (k, [.int (J r), .ref (a + 1), .ref (a + 2), .int n'])) = wT w a k r n' F G := by
  funext q
  unfold wup wT
  by_cases e0 : q = a
  · rw [if_pos e0, if_pos e0]
  · rw [if_neg e0, if_neg e0, if_neg e0]
section
variable {N o : Nat} {S : XS} {w : Wd} {a k r : Nat} {m : Int32} {F G : Nat → Int32}
theorem emT_0 (h : ∀ d, d ≤ 2 → ¬ own o (a + d)) : emX o S (wT w a k r m F G) a = some (.inr (k, [.int (J r), .ref (a + 1), .ref (a + 2), .int m])) := by
  rw [emX_out o S _ a (h 0 (by omega)), wT_0]
theorem emT_1 (h : ∀ d, d ≤ 2 → ¬ own o (a + d)) : emX o S (wT w a k r m F G) (a + 1) = some (.inl (0, 8, .inl F)) := by
  rw [emX_out o S _ (a + 1) (h 1 (by omega)), wT_1]
theorem emT_2 (h : ∀ d, d ≤ 2 → ¬ own o (a + d)) : emX o S (wT w a k r m F G) (a + 2) = some (.inl (0, 8, .inl G)) := by
  rw [emX_out o S _ (a + 2) (h 2 (by omega)), wT_2]
theorem T_set (h : ∀ d, d ≤ 2 → ¬ own o (a + d)) (hk : k ∈ [2, 8, 9, 10, 11]) {i : Int} (hi : 0 ≤ i ∧ i < 8) (x y : Int32) : fX2_set N (emX o S (wT w a k r m F G)) a (J i) x y = some (emX o S (wT w a k r m (upd F i.toNat x) (upd G i.toNat y))) := by
  unfold fX2_set
  rw [gR_of (emT_0 h) hk rfl, Option.bind_some, sI_of x (emT_1 h) hi (by decide), Option.bind_some, nar_0, emX_wup (h 1 (by omega)), wT_up1, gR_of (emT_0 h) hk rfl, Option.bind_some, sI_of y (emT_2 h) hi (by decide), Option.bind_some, nar_0, emX_wup (h 2 (by omega)), wT_up2]
theorem T_many (h : ∀ d, d ≤ 2 → ¬ own o (a + d)) (hk : k ∈ [2, 8, 9, 10, 11]) (x : Int32) : pF (emX o S (wT w a k r m F G)) [2, 8, 9, 10, 11] a 3 (.int x) = some (emX o S (wT w a k r x F G)) := by
  rw [pF_of (.int x) (emT_0 h) hk (show 3 < 4 by decide), emX_wup (show ¬ (a = o ∨ (o + 8 ≤ a ∧ a ≤ o + 21)) from h 0 (by omega))]
  exact congrArg (fun z => some (emX o S z)) (wT_up0 w a k r m x F G)
theorem T_k (h : ∀ d, d ≤ 2 → ¬ own o (a + d)) (hk : k ∈ [2, 8, 9, 10, 11]) : ckC (emX o S (wT w a k r m F G)) famT a = some k := ckC_of (emT_0 h) hk
theorem T_3 (h : ∀ d, d ≤ 2 → ¬ own o (a + d)) (hk : k ∈ [2, 8, 9, 10, 11]) : gI (emX o S (wT w a k r m F G)) [2, 8, 9, 10, 11] a 3 = some m := gI_of (emT_0 h) hk rfl
end
theorem Hc_row {w : Wd} {o c : Nat} {th : Nat → Nat} {C : Cy} (h : Hc w c th C) (hs : Sep o c th (cR C)) {r : Nat} (hr : r < cR C) {n : Nat} (hn : 1 ≤ n ∧ n ≤ 8) {H T : Nat → Nat} {F G : Nat → Int32} (hF : ∀ i, i < n → H i ≤ 9 ∧ T i ≤ 5 ∧ F i = J (H i) ∧ G i = J (T i)) : Hc (wT w (th r) (kc (cK C r)) r (J n) F G) c th (cRow C r n H T) := by
  have hc : ∀ d, d ≤ 6 → wT w (th r) (kc (cK C r)) r (J n) F G (c + d) = w (c + d) := fun d hd => wT_o _ _ _ _ _ _ _ (by
    have h0 := hs.2.2.1 r 0 d hr (by omega) hd
    have h1 := hs.2.2.1 r 1 d hr (by omega) hd
    have h2 := hs.2.2.1 r 2 d hr (by omega) hd
    omega)
  unfold Hc
  rw [show wT w (th r) (kc (cK C r)) r (J n) F G c = w c from hc 0 (by omega), hc 1 (by omega), hc 2 (by omega), hc 3 (by omega), hc 4 (by omega), hc 5 (by omega), hc 6 (by omega)]
  refine ⟨h.1, h.2.1, ?_, ?_, ?_, ?_, ?_, fun q hq => ?_⟩
  · have ⟨f, e, hf⟩ := h.2.2.1; exact ⟨f, e, fun k hk => by rw [cRow_Lo]; exact hf k hk⟩
  · have ⟨f, e, hf⟩ := h.2.2.2.1; exact ⟨f, e, fun k hk => by rw [cRow_Hi]; exact hf k hk⟩
  · have ⟨f, e, hf⟩ := h.2.2.2.2.1; exact ⟨f, e, fun k hk => by rw [cRow_F]; exact hf k hk⟩
  · have ⟨f, e, hf⟩ := h.2.2.2.2.2.1; exact ⟨f, e, fun k hk => by rw [cRow_A]; exact hf k hk⟩
  · have ⟨f, e, hf⟩ := h.2.2.2.2.2.2.1; exact ⟨f, e, fun k hk => by rw [cRow_D]; exact hf k hk⟩
  · rw [cRow_R] at hq
    rw [cRow_K, cRow_P hn]
    by_cases hqr : q = r
    · subst hqr
      rw [if_pos rfl, wT_0, wT_1, wT_2]
      refine ⟨rfl, ⟨F, rfl, fun i hi => ?_⟩, ⟨G, rfl, fun i hi => ?_⟩⟩
      · have ⟨a, b, c, d⟩ := hF i hi
        rw [cRow_H (by omega) a, if_pos rfl]; exact c
      · have ⟨a, b, c, d⟩ := hF i hi
        rw [cRow_T (by omega) b, if_pos rfl]; exact d
    · have ho : ∀ d, d ≤ 2 → wT w (th r) (kc (cK C r)) r (J n) F G (th q + d) = w (th q + d) := fun d hd => wT_o _ _ _ _ _ _ _ (by
        have h0 := hs.2.2.2 r q 0 d hr hq (fun e => hqr e.symm) (by omega) hd
        have h1 := hs.2.2.2 r q 1 d hr hq (fun e => hqr e.symm) (by omega) hd
        have h2 := hs.2.2.2 r q 2 d hr hq (fun e => hqr e.symm) (by omega) hd
        omega)
      have hP := cP_bd C q
      rw [if_neg hqr, show wT w (th r) (kc (cK C r)) r (J n) F G (th q) = w (th q) from ho 0 (by omega), ho 1 (by omega), ho 2 (by omega)]
      have ⟨a, ⟨f, e, hf⟩, ⟨g, e', hg⟩⟩ := h.2.2.2.2.2.2.2 q hq
      exact ⟨a, ⟨f, e, fun i hi => by rw [cRow_Hq (by omega) hqr]; exact hf i hi⟩, ⟨g, e', fun i hi => by rw [cRow_Tq (by omega) hqr]; exact hg i hi⟩⟩
/-- the thrower on a roof, opened -/
theorem Hc_thr {w : Wd} {c : Nat} {th : Nat → Nat} {C : Cy} (h : Hc w c th C) {r : Nat} (hr : r < cR C) : ∃ F G, wT w (th r) (kc (cK C r)) r (J (cP C r)) F G = w ∧ ∀ i, i < cP C r → F i = J (cH C r i) ∧ G i = J (cT C r i) := by
  have ⟨a, ⟨f, e, hf⟩, ⟨g, e', hg⟩⟩ := h.2.2.2.2.2.2.2 r hr
  exact ⟨f, g, wT_id a e e', fun i hi => ⟨hf i hi, hg i hi⟩⟩
/-- what the component must keep when its city changes: all but the city's cells -/
def FrW (c : Nat) (th : Nat → Nat) (R : Nat) (w w' : Wd) : Prop := ∀ q, ¬ Ft c th R q → w' q = w q
theorem FrW_T {c : Nat} {th : Nat → Nat} {R : Nat} {w : Wd} {r k : Nat} {n : Int32} {F G : Nat → Int32} (hr : r < R) : FrW c th R w (wT w (th r) k r n F G) := by
  intro q hq
  apply wT_o
  intro h
  exact hq (Or.inr ⟨r, q - th r, hr, by omega, by omega⟩)
theorem FrW_r (c : Nat) (th : Nat → Nat) (R : Nat) (w : Wd) : FrW c th R w w := fun _ _ => rfl
theorem FrW_t {c : Nat} {th : Nat → Nat} {R : Nat} {w w' w'' : Wd} (h : FrW c th R w w') (h' : FrW c th R w' w'') : FrW c th R w w'' := fun q hq => (h' q hq).trans (h q hq)
