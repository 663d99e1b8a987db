/-! loops -/
set_option maxRecDepth 100000
def fo {σ : Type} (g : Nat → σ → σ) : Nat → σ → σ
  | 0, s => s
  | m + 1, s => g m (fo g m s)
def fi (p : Nat → Bool) : Nat → Option Nat
  | 0 => none
  | m + 1 => match fi p m with
    | some i => some i
    | none => if p m then some m else none
def sm (f : Nat → Int) : Nat → Int
  | 0 => 0
  | m + 1 => sm f m + f m
/-- a loop that goes through 0 .. m - 1 -/
theorem lp_fold {σ β : Type} (F : Nat → Nat → σ → Option β) (k : σ → Option β) (m : Nat) (g : Nat → σ → σ) (I : Nat → σ → Prop)
    (hs : ∀ n i s, i < m → I i s → F (n + 1) i s = F n (i + 1) (g i s) ∧ I (i + 1) (g i s))
    (he : ∀ n s, I m s → F (n + 1) m s = k s) (n : Nat) (s : σ) (hn : m < n) (h0 : I 0 s) :
    F n 0 s = k (fo g m s) ∧ I m (fo g m s) := by
  have key : ∀ i, i ≤ m → F n 0 s = F (n - i) i (fo g i s) ∧ I i (fo g i s) := by
    intro i
    induction i with
    | zero => intro _; exact ⟨rfl, h0⟩
    | succ i ih =>
      intro hi
      have ⟨e, hI⟩ := ih (by omega)
      have hs' := hs (n - (i + 1)) i (fo g i s) (by omega) hI
      rw [show n - (i + 1) + 1 = n - i by omega] at hs'
      exact ⟨e.trans hs'.1, hs'.2⟩
  have ⟨e, hI⟩ := key m (Nat.le_refl m)
  refine ⟨?_, hI⟩
  rw [e, show n - m = (n - m - 1) + 1 by omega]
  exact he _ _ hI
/-- the same without an invariant -/
theorem lp_fold' {σ β : Type} (F : Nat → Nat → σ → Option β) (k : σ → Option β) (m : Nat) (g : Nat → σ → σ)
    (hs : ∀ n i s, i < m → F (n + 1) i s = F n (i + 1) (g i s))
    (he : ∀ n s, F (n + 1) m s = k s) (n : Nat) (s : σ) (hn : m < n) :
    F n 0 s = k (fo g m s) :=
  (lp_fold F k m g (fun _ _ => True) (fun n i s hi _ => ⟨hs n i s hi, trivial⟩) (fun n s _ => he n s) n s hn trivial).1
theorem fo_sm (f : Nat → Int) (m : Nat) (s : Int) : fo (fun i s => s + f i) m s = s + sm f m := by
  induction m with
  | zero => simp [fo, sm]
  | succ m ih => simp only [fo, sm, ih]; omega
/-- a loop that adds up -/
theorem lp_sum {β : Type} (F : Nat → Nat → Int → Option β) (k : Int → Option β) (m : Nat) (f : Nat → Int)
    (hs : ∀ n i s, i < m → F (n + 1) i s = F n (i + 1) (s + f i))
    (he : ∀ n s, F (n + 1) m s = k s) (n : Nat) (s : Int) (hn : m < n) :
    F n 0 s = k (s + sm f m) := by
  rw [lp_fold' F k m (fun i s => s + f i) hs he n s hn, fo_sm]
theorem lp_key {β : Type} (F : Nat → Nat → Option β) (kf : Nat → Option β) (m : Nat) (p : Nat → Bool)
    (hs : ∀ n i, i < m → F (n + 1) i = if p i = true then kf i else F n (i + 1)) (n : Nat) (hn : m ≤ n) :
    F n 0 = match fi p m with | some j => kf j | none => F (n - m) m := by
  have key : ∀ i, i ≤ m → F n 0 = match fi p i with | some j => kf j | none => F (n - i) i := by
    intro i
    induction i with
    | zero => intro _; rfl
    | succ i ih =>
      intro hi
      rw [ih (by omega)]
      simp only [fi]
      cases fi p i with
      | some j => rfl
      | none =>
        have hs' := hs (n - (i + 1)) i (by omega)
        rw [show n - (i + 1) + 1 = n - i by omega] at hs'
        simp only [hs']
        by_cases hp : p i = true <;> simp [hp]
  exact key m (Nat.le_refl m)
/-- a loop that seeks the first -/
theorem lp_find {β : Type} (F : Nat → Nat → Option β) (kf : Nat → Option β) (ke : Option β) (m : Nat) (p : Nat → Bool)
    (hs : ∀ n i, i < m → F (n + 1) i = if p i = true then kf i else F n (i + 1))
    (he : ∀ n, F (n + 1) m = ke) (n : Nat) (hn : m < n) :
    F n 0 = match fi p m with | some i => kf i | none => ke := by
  rw [lp_key F kf m p hs n (by omega), show n - m = (n - m - 1) + 1 by omega, he]
/-- a loop that seeks what is there -/
theorem lp_seek {β : Type} (F : Nat → Nat → Option β) (kf : Nat → Option β) (m : Nat) (p : Nat → Bool)
    (hs : ∀ n i, i < m → F (n + 1) i = if p i = true then kf i else F n (i + 1)) {i : Nat} (hf : fi p m = some i) (n : Nat) (hn : m ≤ n) :
    F n 0 = kf i := by
  rw [lp_key F kf m p hs n hn, hf]
theorem fi_none (p : Nat → Bool) (m : Nat) : fi p m = none ↔ ∀ i, i < m → ¬ p i = true := by
  induction m with
  | zero => simp [fi]
  | succ m ih =>
    simp only [fi]
    cases h : fi p m with
    | some j =>
      simp only [reduceCtorEq, false_iff]
      intro hh
      have := ih.2 (fun i hi => hh i (by omega))
      rw [h] at this
      cases this
    | none =>
      have := ih.1 h
      constructor
      · intro h2 i hi
        rcases Nat.lt_succ_iff_lt_or_eq.1 hi with h3 | h3
        · exact this i h3
        · subst h3
          intro h4
          simp [h4] at h2
      · intro h2
        simp [h2 m (by omega)]
theorem fi_some (p : Nat → Bool) (m i : Nat) : fi p m = some i ↔ i < m ∧ p i = true ∧ ∀ j, j < i → ¬ p j = true := by
  induction m with
  | zero => simp [fi]
  | succ m ih =>
    simp only [fi]
    cases h : fi p m with
    | some j =>
      simp only [h] at ih
      constructor
      · intro h2
        have := ih.1 h2
        exact ⟨by omega, this.2⟩
      · intro h2
        apply ih.2
        refine ⟨?_, h2.2⟩
        by_cases hm : i = m
        · exfalso
          subst hm
          have h3 : ¬ ∀ k, k < i → ¬ p k = true := by
            intro h4
            have := (fi_none p i).2 h4
            rw [h] at this
            cases this
          exact h3 h2.2.2
        · omega
    | none =>
      have hn := (fi_none p m).1 h
      by_cases hp : p m = true
      · simp only [hp, if_true, Option.some.injEq]
        constructor
        · intro e
          subst e
          exact ⟨by omega, hp, hn⟩
        · intro h2
          by_cases hm : i = m
          · exact hm.symm
          · exact absurd h2.2.1 (hn i (by omega))
      · simp only [hp]
        simp only [Bool.false_eq_true, if_false, reduceCtorEq, false_iff]
        intro h2
        by_cases hm : i = m
        · subst hm; exact hp h2.2.1
        · exact hn i (by omega) h2.2.1
theorem fi_congr {p q : Nat → Bool} {m : Nat} (h : ∀ i, i < m → p i = q i) : fi p m = fi q m := by
  induction m with
  | zero => rfl
  | succ m ih => simp only [fi, ih (fun i hi => h i (by omega)), h m (by omega)]
theorem sm_congr {f g : Nat → Int} {m : Nat} (h : ∀ i, i < m → f i = g i) : sm f m = sm g m := by
  induction m with
  | zero => rfl
  | succ m ih => simp only [sm, ih (fun i hi => h i (by omega)), h m (by omega)]
theorem fo_congr {σ : Type} {f g : Nat → σ → σ} {m : Nat} (h : ∀ i s, i < m → f i s = g i s) (s : σ) : fo f m s = fo g m s := by
  induction m with
  | zero => rfl
  | succ m ih => simp only [fo, ih (fun i s hi => h i s (by omega)), h m _ (by omega)]
theorem fo_inv {σ : Type} (g : Nat → σ → σ) (I : Nat → σ → Prop) (m : Nat) (s : σ) (h0 : I 0 s) (hs : ∀ i s, i < m → I i s → I (i + 1) (g i s)) : I m (fo g m s) := by
  induction m with
  | zero => exact h0
  | succ m ih => exact hs m _ (by omega) (ih (fun i s hi => hs i s (by omega)))
theorem sm_zero (m : Nat) : sm (fun _ => 0) m = 0 := by
  induction m with
  | zero => rfl
  | succ m ih => simp only [sm, ih]; rfl
theorem sm_add (f g : Nat → Int) (m : Nat) : sm (fun i => f i + g i) m = sm f m + sm g m := by
  induction m with
  | zero => rfl
  | succ m ih => simp only [sm, ih]; omega
theorem sm_swap (f : Nat → Nat → Int) (m n : Nat) : sm (fun i => sm (fun j => f i j) n) m = sm (fun j => sm (fun i => f i j) m) n := by
  induction m with
  | zero => simp only [sm]; exact (sm_zero n).symm
  | succ m ih => simp only [sm, ih]; rw [← sm_add]
theorem sm_bd (f : Nat → Int) (m : Nat) (a b : Int) (h : ∀ i, i < m → a ≤ f i ∧ f i ≤ b) : m * a ≤ sm f m ∧ sm f m ≤ m * b := by
  induction m with
  | zero => simp [sm]
  | succ m ih =>
    have h1 := ih (fun i hi => h i (by omega))
    have h2 := h m (by omega)
    simp only [sm]
    have e1 : ((m + 1 : Nat) : Int) * a = m * a + a := by rw [Int.natCast_succ, Int.add_mul, Int.one_mul]
    have e2 : ((m + 1 : Nat) : Int) * b = m * b + b := by rw [Int.natCast_succ, Int.add_mul, Int.one_mul]
    omega
theorem sm_nn (f : Nat → Int) (m : Nat) (h : ∀ i, i < m → 0 ≤ f i) : 0 ≤ sm f m := by
  induction m with
  | zero => simp [sm]
  | succ m ih =>
    have h1 := ih (fun i hi => h i (by omega))
    have h2 := h m (by omega)
    simp only [sm]; omega
theorem sm_le (f g : Nat → Int) (m : Nat) (h : ∀ i, i < m → f i ≤ g i) : sm f m ≤ sm g m := by
  induction m with
  | zero => simp [sm]
  | succ m ih =>
    have h1 := ih (fun i hi => h i (by omega))
    have h2 := h m (by omega)
    simp only [sm]; omega
/-- a loop that ends by a falling measure -/
theorem lp_while {σ β : Type} (F : Nat → σ → Option β) (k : σ → Option β) (μ : σ → Nat) (I : σ → Prop) (Q : σ → Prop)
    (hs : ∀ n s, I s → (∃ t, F (n + 1) s = F n t ∧ I t ∧ μ t < μ s) ∨ (∃ t, F (n + 1) s = k t ∧ Q t))
    (n : Nat) (s : σ) (hn : μ s < n) (h0 : I s) : ∃ t, F n s = k t ∧ Q t := by
  induction n generalizing s with
  | zero => omega
  | succ n ih =>
    rcases hs n s h0 with ⟨t, e, hI, hm⟩ | ⟨t, e, hQ⟩
    · have ⟨u, e2, h2⟩ := ih t (by omega) hI
      exact ⟨u, e.trans e2, h2⟩
    · exact ⟨t, e, hQ⟩
/-- a loop that only counts -/
theorem lp_cnt {β : Type} (F : Nat → Nat → Option β) (K : Option β) (m : Nat)
    (hs : ∀ n i, i < m → F (n + 1) i = F n (i + 1)) (he : ∀ n, F (n + 1) m = K) (n : Nat) (hn : m < n) : F n 0 = K := by
  have h := lp_find F (fun _ => none) K m (fun _ => false) (fun n i hi => by simpa using hs n i hi) he n hn
  have e : fi (fun _ => false) m = none := (fi_none _ _).2 (fun _ _ => by simp)
  rw [e] at h
  exact h
theorem fi_cut {p : Nat → Bool} {m i : Nat} (h : fi p m = some i) : fi p (i + 1) = some i := by
  have ⟨h1, h2, h3⟩ := (fi_some _ _ _).1 h
  exact (fi_some _ _ _).2 ⟨by omega, h2, h3⟩
