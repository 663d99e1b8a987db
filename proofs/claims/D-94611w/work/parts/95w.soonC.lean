/-! ways: where one can be, the soonest, the fewest throws -/
set_option maxRecDepth 100000
noncomputable def cB (P : Prop) : Bool := @decide P (Classical.propDecidable P)
theorem cB_t {P : Prop} : cB P = true ↔ P := @decide_eq_true_iff P (Classical.propDecidable P)
def rc (C : Cy) : Nat → Nat × Int → Nat × Int → Prop
  | 0, p, q => p = q
  | n + 1, p, q => ∃ m, rc C n p m ∧ (q = (m.1, m.2 + 1) ∨ (0 < hh C m.1 m.2 ∧ q = bgo C m))
def Rc (C : Cy) (p q : Nat × Int) : Prop := ∃ n, rc C n p q
theorem Rc_r (C : Cy) (p : Nat × Int) : Rc C p p := ⟨0, rfl⟩
theorem Rc_w {C : Cy} {p q : Nat × Int} (h : Rc C p q) : Rc C p (q.1, q.2 + 1) := by
  obtain ⟨n, h⟩ := h
  exact ⟨n + 1, q, h, Or.inl rfl⟩
theorem Rc_th {C : Cy} {p q : Nat × Int} (h : Rc C p q) (h0 : 0 < hh C q.1 q.2) : Rc C p (bgo C q) := by
  obtain ⟨n, h⟩ := h
  exact ⟨n + 1, q, h, Or.inr ⟨h0, rfl⟩⟩
theorem Rc_wn {C : Cy} {p : Nat × Int} {q : Nat} {b b' : Int} (h : Rc C p (q, b)) (hb : b ≤ b') : Rc C p (q, b') := by
  have key : ∀ k : Nat, Rc C p (q, b + k) := by
    intro k
    induction k with
    | zero => rw [show b + ((0 : Nat) : Int) = b by omega]; exact h
    | succ k ih => have := Rc_w ih; rw [show b + ((k + 1 : Nat) : Int) = b + k + 1 by omega]; exact this
  have := key (b' - b).toNat
  rwa [show b + (((b' - b).toNat : Nat) : Int) = b' by omega] at this
theorem Rc_ind {C : Cy} {p : Nat × Int} (I : Nat × Int → Prop) (h0 : I p) (hw : ∀ m, I m → I (m.1, m.2 + 1)) (ht : ∀ m, I m → 0 < hh C m.1 m.2 → I (bgo C m)) {q : Nat × Int} (h : Rc C p q) : I q := by
  obtain ⟨n, h⟩ := h
  induction n generalizing q with
  | zero =>
    have e : p = q := h
    rw [← e]; exact h0
  | succ n ih =>
    obtain ⟨m, hm, h⟩ := h
    rcases h with h | ⟨h1, h⟩
    · rw [h]; exact hw m (ih hm)
    · rw [h]; exact ht m (ih hm) h1
theorem Rc_in {C : Cy} (ho : OkC C) {p q : Nat × Int} (hp : p.1 < cR C) (h : Rc C p q) : q.1 < cR C ∧ p.2 ≤ q.2 := by
  refine Rc_ind (fun m => m.1 < cR C ∧ p.2 ≤ m.2) ⟨hp, Int.le_refl _⟩ (fun m hm => ⟨hm.1, ?_⟩) (fun m hm _ => ⟨tt_lt ho hm.1 _, ?_⟩) h
  · have := hm.2
    show p.2 ≤ m.2 + 1
    omega
  · have := hm.2
    show p.2 ≤ m.2 + hh C m.1 m.2
    omega
theorem Rc_sh {C : Cy} (ho : OkC C) {p q : Nat × Int} (hp : p.1 < cR C) (h : Rc C p q) (k : Int) : Rc C (p.1, p.2 + (rnd C : Int) * k) (q.1, q.2 + (rnd C : Int) * k) := by
  have := Rc_ind (C := C) (p := p) (fun m => m.1 < cR C ∧ Rc C (p.1, p.2 + (rnd C : Int) * k) (m.1, m.2 + (rnd C : Int) * k)) ⟨hp, Rc_r C _⟩ (fun m hm => ⟨hm.1, ?_⟩) (fun m hm h0 => ⟨tt_lt ho hm.1 _, ?_⟩) h
  · exact this.2
  · have h1 := Rc_w hm.2
    simp only at h1 ⊢
    rwa [show m.2 + 1 + (rnd C : Int) * k = m.2 + (rnd C : Int) * k + 1 by omega]
  · have h1 := Rc_th hm.2 (by simp only; rw [hh_per C hm.1]; exact h0)
    unfold bgo at h1 ⊢
    simp only [hh_per C hm.1, tt_per C hm.1] at h1 ⊢
    rwa [show m.2 + (hh C m.1 m.2 : Int) + (rnd C : Int) * k = m.2 + (rnd C : Int) * k + (hh C m.1 m.2 : Int) by omega]
theorem pl_cg {C : Cy} {r : Nat} {b b' : Int} (h : b % (cP C r : Int) = b' % (cP C r : Int)) : hh C r b = hh C r b' ∧ tt C r b = tt C r b' := by
  unfold hh tt pl
  rw [h]
  exact ⟨rfl, rfl⟩
theorem nx_cg (x y p : Int) (hp : 0 < p) : (x + (y - x) % p) % p = y % p ∧ 0 ≤ (y - x) % p ∧ (y - x) % p < p := by
  refine ⟨?_, Int.emod_nonneg _ (by omega), Int.emod_lt_of_pos _ hp⟩
  have h := Int.emod_add_mul_ediv (y - x) p
  have e : x + (y - x) % p = y + p * (-((y - x) / p)) := by
    rw [Int.mul_neg]; omega
  rw [e, Int.add_mul_emod_self_left]
def Sj (C : Cy) (a : Nat) (t : Int) (j q : Nat) : Prop := Rc C (a, t) (q, t + 16 * (j : Int))
theorem Sj_up {C : Cy} {a : Nat} {t : Int} {j i q : Nat} (h : Sj C a t j q) (hj : j ≤ i) : Sj C a t i q := Rc_wn h (by omega)
theorem Sj_lv {C : Cy} (ho : OkC C) {a : Nat} (ha : a < cR C) {t : Int} (j : Nat) {m : Nat × Int} (h : Rc C (a, t) m) : Sj C a t j m.1 ∨ ∃ q, q < cR C ∧ ¬ Sj C a t j q ∧ Sj C a t (j + 1) q := by
  have := Rc_ind (C := C) (p := (a, t)) (fun m => m.1 < cR C ∧ (Sj C a t j m.1 ∨ ∃ q, q < cR C ∧ ¬ Sj C a t j q ∧ Sj C a t (j + 1) q)) ⟨ha, Or.inl (Rc_wn (Rc_r C _) (by omega))⟩ (fun m hm => hm) (fun m hm h0 => ⟨tt_lt ho hm.1 _, ?_⟩) h
  · exact this.2
  · rcases hm.2 with hs | hs
    · by_cases hq : Sj C a t j (bgo C m).1
      · exact Or.inl hq
      · refine Or.inr ⟨(bgo C m).1, tt_lt ho hm.1 _, hq, ?_⟩
        have hP := cP_bd C m.1
        have ⟨n1, n2, n3⟩ := nx_cg (t + 16 * (j : Int)) m.2 (cP C m.1 : Int) (by omega)
        have ⟨c1, c2⟩ := pl_cg (C := C) (r := m.1) n1
        have h9 := hh_le C m.1 m.2
        have hw := Rc_wn (b' := t + 16 * (j : Int) + (m.2 - (t + 16 * (j : Int))) % (cP C m.1 : Int)) hs (by omega)
        have ht := Rc_th hw (by simp only; rw [c1]; exact h0)
        unfold bgo at ht ⊢
        simp only [c1, c2] at ht ⊢
        exact Rc_wn ht (by omega)
    · exact Or.inr hs
theorem sm_lt1 (f g : Nat → Int) (m i : Nat) (hi : i < m) (h : ∀ j, j < m → f j ≤ g j) (h1 : f i + 1 ≤ g i) : sm f m + 1 ≤ sm g m := by
  induction m with
  | zero => omega
  | succ m ih =>
    simp only [sm]
    by_cases e : i = m
    · have := sm_le f g m (fun j hj => h j (by omega))
      rw [e] at h1
      omega
    · have := ih (by omega) (fun j hj => h j (by omega))
      have := h m (by omega)
      omega
theorem indC_bd (P : Prop) : 0 ≤ indC P ∧ indC P ≤ 1 := by
  by_cases h : P
  · rw [indC_t h]; omega
  · rw [indC_f h]; omega
theorem Rc_80 {C : Cy} (ho : OkC C) {a : Nat} (ha : a < cR C) {t b : Int} {d : Nat} (h : Rc C (a, t) (d, b)) : Rc C (a, t) (d, t + 80) := by
  by_cases h5 : Sj C a t 5 d
  · exact h5
  · exfalso
    have hR := cR_le C
    have key : ∀ j : Nat, j ≤ 6 → (j : Int) + 1 ≤ sm (fun q => indC (Sj C a t j q)) (cR C) := by
      intro j
      induction j with
      | zero =>
        intro _
        have := sm_ge (fun q => indC (Sj C a t 0 q)) (cR C) a (fun q _ => (indC_bd _).1) ha
        rw [indC_t (show Sj C a t 0 a from Rc_wn (Rc_r C _) (by omega))] at this
        omega
      | succ j ih =>
        intro hj
        have i1 := ih (by omega)
        rcases Sj_lv ho ha j h with hs | ⟨q, hq, q1, q2⟩
        · exact absurd (Sj_up hs (by omega)) h5
        · have := sm_lt1 (fun q => indC (Sj C a t j q)) (fun q => indC (Sj C a t (j + 1) q)) (cR C) q hq (fun x _ => ?_) (by rw [indC_f q1, indC_t q2]; omega)
          · omega
          · by_cases hx : Sj C a t j x
            · rw [indC_t hx, indC_t (Sj_up hx (by omega))]; omega
            · rw [indC_f hx]; exact (indC_bd _).1
    have k6 := key 6 (by omega)
    have := sm_bd (fun q => indC (Sj C a t 6 q)) (cR C) 0 1 (fun q _ => indC_bd _)
    omega
/-- the soonest beat, counted from the first -/
noncomputable def sn (C : Cy) (a : Nat) (t : Int) (d : Nat) : Option Nat := fi (fun i => cB (Rc C (a, t) (d, t + (i : Int)))) 100
theorem sn_none {C : Cy} (ho : OkC C) {a : Nat} (ha : a < cR C) {t : Int} {d : Nat} (h : sn C a t d = none) (b : Int) : ¬ Rc C (a, t) (d, b) := by
  intro hr
  exact (fi_none _ _).1 h 80 (by omega) (cB_t.2 (Rc_80 ho ha hr))
theorem sn_some {C : Cy} (ho : OkC C) {a : Nat} (ha : a < cR C) {t : Int} {d L : Nat} (h : sn C a t d = some L) : L ≤ 80 ∧ Rc C (a, t) (d, t + (L : Int)) ∧ ∀ i : Nat, i < L → ¬ Rc C (a, t) (d, t + (i : Int)) := by
  have ⟨h1, h2, h3⟩ := (fi_some _ _ _).1 h
  refine ⟨?_, cB_t.1 h2, fun i hi hr => h3 i hi (cB_t.2 hr)⟩
  by_cases hl : L ≤ 80
  · exact hl
  · exfalso
    exact h3 80 (by omega) (cB_t.2 (Rc_80 ho ha (cB_t.1 h2)))
theorem sn_any {C : Cy} (ho : OkC C) {a : Nat} (ha : a < cR C) {t : Int} {d m : Nat} (hm : 100 ≤ m) : fi (fun i => cB (Rc C (a, t) (d, t + (i : Int)))) m = sn C a t d := by
  cases h : sn C a t d with
  | none =>
    rw [fi_none]
    intro i _ hc
    exact sn_none ho ha h _ (cB_t.1 hc)
  | some L =>
    have ⟨h1, h2, h3⟩ := (fi_some _ _ _).1 h
    exact (fi_some _ _ _).2 ⟨by omega, h2, h3⟩
/-- the least e is where one is soonest -/
theorem sn_is {C : Cy} (ho : OkC C) {a : Nat} (ha : a < cR C) {t : Int} {d L : Nat} (h1 : Rc C (a, t) (d, t + (L : Int))) (h2 : ∀ b, Rc C (a, t) (d, b) → t + (L : Int) ≤ b) : sn C a t d = some L := by
  have h80 := h2 _ (Rc_80 ho ha h1)
  refine (fi_some _ _ _).2 ⟨by omega, cB_t.2 h1, fun j hj hc => ?_⟩
  have := h2 _ (cB_t.1 hc)
  omega
/-- the fewest throws from where one has e beats left -/
def lfT (C : Cy) (t : Int) (L d : Nat) : Nat → Nat → Nat → Nat
  | 0 => fun _ r => if r = d then 0 else 1000000
  | m + 1 => fun e r => if e = m + 1 then
      (if 0 < hh C r (t + ((L : Int) - ((m + 1 : Nat) : Int))) ∧ hh C r (t + ((L : Int) - ((m + 1 : Nat) : Int))) ≤ m + 1 ∧ 1 + lfT C t L d m (m + 1 - hh C r (t + ((L : Int) - ((m + 1 : Nat) : Int)))) (tt C r (t + ((L : Int) - ((m + 1 : Nat) : Int)))) < lfT C t L d m m r then 1 + lfT C t L d m (m + 1 - hh C r (t + ((L : Int) - ((m + 1 : Nat) : Int)))) (tt C r (t + ((L : Int) - ((m + 1 : Nat) : Int)))) else lfT C t L d m m r)
      else lfT C t L d m e r
def lf (C : Cy) (t : Int) (L d e r : Nat) : Nat := lfT C t L d e e r
theorem lfT_eq (C : Cy) (t : Int) (L d : Nat) : ∀ m e r, e ≤ m → lfT C t L d m e r = lf C t L d e r := by
  intro m
  induction m with
  | zero => intro e r he; rw [show e = 0 by omega]; rfl
  | succ m ih =>
    intro e r he
    by_cases h : e = m + 1
    · rw [h]; rfl
    · rw [show lfT C t L d (m + 1) e r = lfT C t L d m e r from if_neg h]
      exact ih e r (by omega)
theorem lf_0 (C : Cy) (t : Int) (L d r : Nat) : lf C t L d 0 r = if r = d then 0 else 1000000 := rfl
theorem lf_s (C : Cy) (t : Int) (L d e r : Nat) : lf C t L d (e + 1) r = if 0 < hh C r (t + ((L : Int) - ((e + 1 : Nat) : Int))) ∧ hh C r (t + ((L : Int) - ((e + 1 : Nat) : Int))) ≤ e + 1 ∧ 1 + lf C t L d (e + 1 - hh C r (t + ((L : Int) - ((e + 1 : Nat) : Int)))) (tt C r (t + ((L : Int) - ((e + 1 : Nat) : Int)))) < lf C t L d e r then 1 + lf C t L d (e + 1 - hh C r (t + ((L : Int) - ((e + 1 : Nat) : Int)))) (tt C r (t + ((L : Int) - ((e + 1 : Nat) : Int)))) else lf C t L d e r := by
  have e1 : lf C t L d (e + 1) r = lfT C t L d (e + 1) (e + 1) r := rfl
  rw [e1]
  simp only [lfT, if_true]
  by_cases h0 : 0 < hh C r (t + ((L : Int) - ((e + 1 : Nat) : Int)))
  · rw [lfT_eq C t L d e _ _ (by omega), lfT_eq C t L d e e r (Nat.le_refl _)]
  · rw [if_neg (fun h => h0 h.1), if_neg (fun h => h0 h.1), lfT_eq C t L d e e r (Nat.le_refl _)]
theorem lf_bd (C : Cy) (t : Int) (L d : Nat) : ∀ e r, lf C t L d e r = 1000000 ∨ lf C t L d e r ≤ e := by
  intro e
  induction e using Nat.strongRecOn with
  | _ e ih =>
    intro r
    cases e with
    | zero => rw [lf_0]; split <;> omega
    | succ e =>
      rw [lf_s]
      by_cases h : 0 < hh C r (t + ((L : Int) - ((e + 1 : Nat) : Int))) ∧ hh C r (t + ((L : Int) - ((e + 1 : Nat) : Int))) ≤ e + 1 ∧ 1 + lf C t L d (e + 1 - hh C r (t + ((L : Int) - ((e + 1 : Nat) : Int)))) (tt C r (t + ((L : Int) - ((e + 1 : Nat) : Int)))) < lf C t L d e r
      · rw [if_pos h]
        have i1 := ih (e + 1 - hh C r (t + ((L : Int) - ((e + 1 : Nat) : Int)))) (by omega) (tt C r (t + ((L : Int) - ((e + 1 : Nat) : Int))))
        have i2 := ih e (by omega) r
        omega
      · rw [if_neg h]
        have i2 := ih e (by omega) r
        omega
theorem lf_d (C : Cy) (t : Int) (L d : Nat) : ∀ e, lf C t L d e d = 0 := by
  intro e
  induction e with
  | zero => rw [lf_0, if_pos rfl]
  | succ e ih => rw [lf_s, ih, if_neg (by omega)]
theorem lf_up (C : Cy) (t : Int) (L d e r : Nat) : lf C t L d (e + 1) r ≤ lf C t L d e r := by
  rw [lf_s]; split <;> omega
theorem lf_go {C : Cy} {t : Int} {L d e r : Nat} (h0 : 0 < hh C r (t + ((L : Int) - ((e + 1 : Nat) : Int)))) (h1 : hh C r (t + ((L : Int) - ((e + 1 : Nat) : Int))) ≤ e + 1) : lf C t L d (e + 1) r ≤ 1 + lf C t L d (e + 1 - hh C r (t + ((L : Int) - ((e + 1 : Nat) : Int)))) (tt C r (t + ((L : Int) - ((e + 1 : Nat) : Int)))) := by
  rw [lf_s]
  split
  · omega
  · rename_i h
    have : ¬ 1 + lf C t L d (e + 1 - hh C r (t + ((L : Int) - ((e + 1 : Nat) : Int)))) (tt C r (t + ((L : Int) - ((e + 1 : Nat) : Int)))) < lf C t L d e r := fun h2 => h ⟨h0, h1, h2⟩
    omega
theorem lf_fin {C : Cy} (ho : OkC C) {a : Nat} (ha : a < cR C) {t : Int} {L d : Nat} (hL : L ≤ 100) (h : Rc C (a, t) (d, t + (L : Int))) : lf C t L d L a < 1000000 := by
  have key := Rc_ind (C := C) (p := (a, t)) (fun m => t ≤ m.2 ∧ (m.2 ≤ t + (L : Int) → lf C t L d (t + (L : Int) - m.2).toNat m.1 < 1000000 → lf C t L d L a < 1000000)) ⟨Int.le_refl _, fun _ h => by rwa [show (t + (L : Int) - (a, t).2).toNat = L by simp only; omega] at h⟩ (fun m hm => ⟨by have := hm.1; simp only; omega, fun h1 h2 => ?_⟩) (fun m hm h0 => ⟨by have := hm.1; show t ≤ m.2 + hh C m.1 m.2; omega, fun h1 h2 => ?_⟩) h
  · refine key.2 (Int.le_refl _) ?_
    rw [show (t + (L : Int) - (d, t + (L : Int)).2).toNat = 0 by simp only; omega, lf_0, if_pos rfl]
    omega
  · obtain ⟨m1, m2⟩ := hm
    simp only at h1 h2
    refine m2 (by omega) ?_
    have e1 : (t + (L : Int) - m.2).toNat = (t + (L : Int) - (m.2 + 1)).toNat + 1 := by omega
    rw [e1]
    have := lf_up C t L d (t + (L : Int) - (m.2 + 1)).toNat m.1
    omega
  · obtain ⟨m1, m2⟩ := hm
    unfold bgo at h1 h2
    simp only at h1 h2
    refine m2 (by omega) ?_
    obtain ⟨e, he⟩ : ∃ e, (t + (L : Int) - m.2).toNat = e + 1 := ⟨(t + (L : Int) - m.2).toNat - 1, by omega⟩
    rw [he]
    have eb : t + ((L : Int) - ((e + 1 : Nat) : Int)) = m.2 := by omega
    have g := lf_go (C := C) (t := t) (L := L) (d := d) (e := e) (r := m.1) (by rw [eb]; exact h0) (by rw [eb]; omega)
    rw [eb, show e + 1 - hh C m.1 m.2 = (t + (L : Int) - (m.2 + (hh C m.1 m.2 : Int))).toNat by omega] at g
    have b1 := lf_bd C t L d (t + (L : Int) - (m.2 + (hh C m.1 m.2 : Int))).toNat (tt C m.1 m.2)
    omega
/-! the way that is gone: beats gone, roof, throws, where they were -/
abbrev Wy : Type := Nat × Nat × Nat × (Nat → Int)
def wgo (C : Cy) (t : Int) (L d : Nat) (s : Wy) : Prop := 0 < hh C s.2.1 (t + (s.1 : Int)) ∧ s.1 + hh C s.2.1 (t + (s.1 : Int)) ≤ L ∧ 1 + lf C t L d (L - (s.1 + hh C s.2.1 (t + (s.1 : Int)))) (tt C s.2.1 (t + (s.1 : Int))) = lf C t L d (L - s.1) s.2.1
def wys (C : Cy) (t : Int) (L d : Nat) (s : Wy) : Wy := if 0 < hh C s.2.1 (t + (s.1 : Int)) ∧ s.1 + hh C s.2.1 (t + (s.1 : Int)) ≤ L ∧ 1 + lf C t L d (L - (s.1 + hh C s.2.1 (t + (s.1 : Int)))) (tt C s.2.1 (t + (s.1 : Int))) = lf C t L d (L - s.1) s.2.1 then (s.1 + hh C s.2.1 (t + (s.1 : Int)), tt C s.2.1 (t + (s.1 : Int)), s.2.2.1 + 1, fun j => if j = s.2.2.1 then 10 * (t + (s.1 : Int)) + (s.2.1 : Int) else s.2.2.2 j) else (s.1 + 1, s.2.1, s.2.2.1, s.2.2.2)
def wk (C : Cy) (t : Int) (L d a : Nat) : Nat → Wy
  | 0 => (0, a, 0, fun _ => 0)
  | n + 1 => wys C t L d (wk C t L d a n)
/-- how many steps -/
def wkN (C : Cy) (t : Int) (L d a : Nat) : Nat := (fi (fun n => decide (L ≤ (wk C t L d a n).1)) (L + 1)).getD 0
theorem wys_t {C : Cy} {t : Int} {L d : Nat} {s : Wy} (h : wgo C t L d s) : wys C t L d s = (s.1 + hh C s.2.1 (t + (s.1 : Int)), tt C s.2.1 (t + (s.1 : Int)), s.2.2.1 + 1, fun j => if j = s.2.2.1 then 10 * (t + (s.1 : Int)) + (s.2.1 : Int) else s.2.2.2 j) := if_pos h
theorem wys_f {C : Cy} {t : Int} {L d : Nat} {s : Wy} (h : ¬ wgo C t L d s) : wys C t L d s = (s.1 + 1, s.2.1, s.2.2.1, s.2.2.2) := if_neg h
theorem wk_lo (C : Cy) (t : Int) (L d a : Nat) (n : Nat) : n ≤ (wk C t L d a n).1 := by
  induction n with
  | zero => exact Nat.zero_le _
  | succ n ih =>
    show _ ≤ (wys C t L d (wk C t L d a n)).1
    by_cases h : wgo C t L d (wk C t L d a n)
    · have := h.1
      rw [wys_t h]; simp only; omega
    · rw [wys_f h]; simp only; omega
theorem wkN_is (C : Cy) (t : Int) (L d a : Nat) : wkN C t L d a ≤ L ∧ L ≤ (wk C t L d a (wkN C t L d a)).1 ∧ ∀ n, n < wkN C t L d a → (wk C t L d a n).1 < L := by
  unfold wkN
  cases h : fi (fun n => decide (L ≤ (wk C t L d a n).1)) (L + 1) with
  | none =>
    exfalso
    have h1 := (fi_none _ _).1 h L (by omega)
    rw [decide_eq_true_iff] at h1
    exact h1 (wk_lo C t L d a L)
  | some n =>
    have ⟨h1, h2, h3⟩ := (fi_some _ _ _).1 h
    rw [decide_eq_true_iff] at h2
    refine ⟨by simp only [Option.getD_some]; omega, h2, fun m hm => ?_⟩
    have := h3 m hm
    rw [decide_eq_true_iff] at this
    omega
/-- what holds on the way -/
theorem wk_inv {C : Cy} (ho : OkC C) {a : Nat} (ha : a < cR C) {t : Int} {L d : Nat} (hs : sn C a t d = some L) : ∀ n, n ≤ wkN C t L d a → (wk C t L d a n).1 ≤ L ∧ (wk C t L d a n).2.1 < cR C ∧ lf C t L d (L - (wk C t L d a n).1) (wk C t L d a n).2.1 < 1000000 ∧ Rc C (a, t) ((wk C t L d a n).2.1, t + ((wk C t L d a n).1 : Int)) ∧ (wk C t L d a n).2.2.1 ≤ n ∧ n ≤ (wk C t L d a n).2.2.1 + (wk C t L d a n).1 := by
  have ⟨h1, h2, h3⟩ := sn_some ho ha hs
  have ⟨_, _, hN⟩ := wkN_is C t L d a
  intro n
  induction n with
  | zero =>
    intro _
    refine ⟨Nat.zero_le _, ha, lf_fin ho ha (by omega) h2, ?_, Nat.le_refl _, Nat.zero_le _⟩
    show Rc C (a, t) (a, t + ((0 : Nat) : Int))
    exact Rc_wn (Rc_r C _) (by omega)
  | succ n ih =>
    intro hn
    have ⟨i1, i2, i3, i4, i5, i6⟩ := ih (by omega)
    have hlt := hN n (by omega)
    have e : wk C t L d a (n + 1) = wys C t L d (wk C t L d a n) := rfl
    rw [e]
    generalize wk C t L d a n = s at *
    by_cases h : wgo C t L d s
    · obtain ⟨g1, g2, g3⟩ := h
      rw [wys_t ⟨g1, g2, g3⟩]
      refine ⟨g2, tt_lt ho i2 _, by simp only; omega, ?_, by simp only; omega, by simp only; omega⟩
      have := Rc_th i4 g1
      unfold bgo at this
      simp only at this ⊢
      exact Rc_wn this (by omega)
    · rw [wys_f h]
      refine ⟨by simp only; omega, i2, ?_, ?_, by simp only; omega, by simp only; omega⟩
      · simp only
        obtain ⟨e, he⟩ : ∃ e, L - s.1 = e + 1 := ⟨L - s.1 - 1, by omega⟩
        rw [show L - (s.1 + 1) = e by omega]
        rw [he, lf_s] at i3
        have eb : t + ((L : Int) - ((e + 1 : Nat) : Int)) = t + (s.1 : Int) := by omega
        rw [eb] at i3
        by_cases hg : 0 < hh C s.2.1 (t + (s.1 : Int)) ∧ hh C s.2.1 (t + (s.1 : Int)) ≤ e + 1 ∧ 1 + lf C t L d (e + 1 - hh C s.2.1 (t + (s.1 : Int))) (tt C s.2.1 (t + (s.1 : Int))) < lf C t L d e s.2.1
        · exfalso
          apply h
          refine ⟨hg.1, by omega, ?_⟩
          rw [he, lf_s, eb, if_pos hg, show L - (s.1 + hh C s.2.1 (t + (s.1 : Int))) = e + 1 - hh C s.2.1 (t + (s.1 : Int)) by omega]
        · rw [if_neg hg] at i3
          exact i3
      · have := Rc_w i4
        simp only at this ⊢
        exact Rc_wn this (by omega)
theorem wk_end {C : Cy} (ho : OkC C) {a : Nat} (ha : a < cR C) {t : Int} {L d : Nat} (hs : sn C a t d = some L) : (wk C t L d a (wkN C t L d a)).1 = L ∧ (wk C t L d a (wkN C t L d a)).2.1 = d := by
  have ⟨i1, i2, i3, _⟩ := wk_inv ho ha hs _ (Nat.le_refl _)
  have ⟨_, h2, _⟩ := wkN_is C t L d a
  have e : (wk C t L d a (wkN C t L d a)).1 = L := by omega
  refine ⟨e, ?_⟩
  rw [e, Nat.sub_self, lf_0] at i3
  by_cases h : (wk C t L d a (wkN C t L d a)).2.1 = d
  · exact h
  · rw [if_neg h] at i3; omega
theorem wk_mid {C : Cy} (ho : OkC C) {a : Nat} (ha : a < cR C) {t : Int} {L d : Nat} (hs : sn C a t d = some L) {n : Nat} (hn : n < wkN C t L d a) : (wk C t L d a n).1 < L ∧ (wk C t L d a n).2.1 ≠ d := by
  have ⟨_, _, hN⟩ := wkN_is C t L d a
  have ⟨_, _, _, i4, _⟩ := wk_inv ho ha hs n (by omega)
  have ⟨_, _, h3⟩ := sn_some ho ha hs
  refine ⟨hN n hn, fun e => ?_⟩
  rw [e] at i4
  exact h3 _ (hN n hn) i4
/-- throws: how many so far, what is told of them -/
theorem wk_mono (C : Cy) (t : Int) (L d a : Nat) (n : Nat) : ∀ m, n ≤ m → (wk C t L d a n).2.2.1 ≤ (wk C t L d a m).2.2.1 ∧ ∀ j, j < (wk C t L d a n).2.2.1 → (wk C t L d a m).2.2.2 j = (wk C t L d a n).2.2.2 j := by
  intro m
  induction m with
  | zero => intro h; rw [show n = 0 by omega]; exact ⟨Nat.le_refl _, fun _ _ => rfl⟩
  | succ m ih =>
    intro h
    by_cases e : n = m + 1
    · rw [e]; exact ⟨Nat.le_refl _, fun _ _ => rfl⟩
    · have ⟨i1, i2⟩ := ih (by omega)
      have e : wk C t L d a (m + 1) = wys C t L d (wk C t L d a m) := rfl
      rw [e]
      by_cases hg : wgo C t L d (wk C t L d a m)
      · rw [wys_t hg]
        refine ⟨by simp only; omega, fun j hj => ?_⟩
        simp only
        rw [if_neg (by omega)]
        exact i2 j hj
      · rw [wys_f hg]
        exact ⟨i1, i2⟩
noncomputable def sp_soonest (C : Cy) (k x : Int) : Int := if 0 ≤ k ∧ k < cN C then if 0 ≤ x ∧ x ≤ 2 then (match sn C (cF C k.toNat) (cA C k.toNat) (cD C k.toNat) with
  | none => -1
  | some L => if x = 0 then (cA C k.toNat : Int) + L else if x = 1 then ((wk C (cA C k.toNat) L (cD C k.toNat) (cF C k.toNat) (wkN C (cA C k.toNat) L (cD C k.toNat) (cF C k.toNat))).2.2.1 : Int) else (wkN C (cA C k.toNat) L (cD C k.toNat) (cF C k.toNat) : Int) - ((wk C (cA C k.toNat) L (cD C k.toNat) (cF C k.toNat) (wkN C (cA C k.toNat) L (cD C k.toNat) (cF C k.toNat))).2.2.1 : Int)) else -2 else -2
noncomputable def sp_way (C : Cy) (k i : Int) : Int := if 0 ≤ k ∧ k < cN C then (match sn C (cF C k.toNat) (cA C k.toNat) (cD C k.toNat) with
  | none => -1
  | some L => if 0 ≤ i ∧ i < ((wk C (cA C k.toNat) L (cD C k.toNat) (cF C k.toNat) (wkN C (cA C k.toNat) L (cD C k.toNat) (cF C k.toNat))).2.2.1 : Int) then (wk C (cA C k.toNat) L (cD C k.toNat) (cF C k.toNat) (wkN C (cA C k.toNat) L (cD C k.toNat) (cF C k.toNat))).2.2.2 i.toNat else -1) else -2
/-- the latest beat from which one comes there in time -/
noncomputable def sp_latest (C : Cy) (k b : Int) : Int := if 0 ≤ k ∧ k < cN C then if 0 ≤ b ∧ b ≤ 99999 then (match fi (fun i => cB ((cA C k.toNat : Int) ≤ b - (i : Int) ∧ Rc C (cF C k.toNat, b - (i : Int)) (cD C k.toNat, b))) 100 with
  | none => -1
  | some i => b - (i : Int)) else -2 else -2
