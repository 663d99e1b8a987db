/-! backwards: what is laid -/
set_option maxRecDepth 100000
/-- the last match is the only one -/
def bwM (C : Cy) (r : Nat) (b : Int) : Int × Int := match ldM C r b with
  | some (q, h) => (((1 + h : Nat) : Int), (q : Int))
  | none => (0, (r : Int))
theorem fo_none {σ : Type} (g : Nat → σ → σ) (m : Nat) (s : σ) (h : ∀ i s, i < m → g i s = s) : fo g m s = s := by
  induction m with
  | zero => rfl
  | succ m ih => simp only [fo]; rw [ih (fun i s hi => h i s (by omega)), h m s (by omega)]
theorem fo_only {σ : Type} (g : Nat → σ → σ) (m j : Nat) (v : σ) (hj : j < m) (hv : ∀ s, g j s = v) (h : ∀ i s, i < m → i ≠ j → g i s = s) (s : σ) : fo g m s = v := by
  induction m with
  | zero => omega
  | succ m ih =>
    simp only [fo]
    by_cases e : j = m
    · rw [← e, hv]
    · rw [ih (by omega) (fun i s hi hne => h i s (by omega) hne), h m v (by omega) (fun x => e x.symm)]
theorem bwQ_eq {C : Cy} (hk : kp C = true) (ho : OkC C) (r : Nat) (b : Int) : bwQ C r b = bwM C r b := by
  unfold bwQ bwM
  cases hl : ldM C r b with
  | some p =>
    obtain ⟨q, h⟩ := p
    have ⟨h1, h2, h3⟩ := fi2_some (fun q h => lnd C r b q h) (cR C) 9 q h hl
    refine fo_only _ _ q _ h1 (fun s => ?_) (fun i s hi hne => ?_) _
    · exact fo_only _ _ h _ h2 (fun s => by rw [if_pos h3]) (fun i s hi hne => by rw [if_neg (fun e => hne (lnd_u hk ho h1 h1 e h3).2)]) s
    · exact fo_none _ _ _ (fun j s hj => by rw [if_neg (fun e => hne (lnd_u hk ho hi h1 e h3).1)])
  | none =>
    refine fo_none _ _ _ (fun q s hq => fo_none _ _ _ (fun h s hh => ?_))
    rw [if_neg]
    intro e
    have hi : (fi (fun h => lnd C r b q h) 9).isSome = true := by
      cases hf : fi (fun h => lnd C r b q h) 9 with
      | some _ => rfl
      | none => exact absurd e ((fi_none _ _).1 hf h hh)
    unfold ldM at hl
    cases hf : fi (fun q => (fi (fun h => lnd C r b q h) 9).isSome) (cR C) with
    | none => exact (fi_none _ _).1 hf q hq hi
    | some q' =>
      have ⟨_, b2, _⟩ := (fi_some _ _ _).1 hf
      rw [hf] at hl
      simp only [Option.bind_some] at hl
      cases hg : fi (fun h => lnd C r b q' h) 9 with
      | none => rw [hg] at b2; exact absurd b2 (by decide)
      | some _ => rw [hg] at hl; simp at hl
