/-! what questions about rows answer -/
set_option maxRecDepth 100000
def ind (P : Prop) [Decidable P] : Int := if P then 1 else 0
def thr0 (C : Cy) (b : Int) : Int := sm (fun r => ind (0 < hh C r b)) (cR C)
theorem thr0_bd (C : Cy) (b : Int) : 0 ≤ thr0 C b ∧ thr0 C b ≤ 6 := by
  have h := sm_bd (fun r => ind (0 < hh C r b)) (cR C) 0 1 (fun r _ => by unfold ind; split <;> omega)
  have := cR_le C
  unfold thr0; omega
/-- the first of the busiest among m + 1 beats -/
def bst (C : Cy) : Nat → Nat
  | 0 => 0
  | m + 1 => if thr0 C (bst C m) < thr0 C ((m + 1 : Nat) : Int) then m + 1 else bst C m
theorem bst_le (C : Cy) (m : Nat) : bst C m ≤ m := by
  induction m with
  | zero => exact Nat.le_refl 0
  | succ m ih => simp only [bst]; split <;> omega
def sp_busiest (C : Cy) (x : Int) : Int := if 0 < cR C then if 0 ≤ x ∧ x ≤ 1 then if x = 0 then bst C (rnd C - 1) else thr0 C (bst C (rnd C - 1)) else -2 else -2
def sp_balls (C : Cy) : Int := if 0 < cR C then if kp C = true then bls C else -1 else -2
def sp_tosses (C : Cy) (v b x : Int) : Int := if 0 ≤ v ∧ v < cR C then if 0 ≤ b ∧ b ≤ 99999 then if 0 ≤ x ∧ x ≤ 2 then if x = 0 then hh C v.toNat b else if x = 1 then tt C v.toNat b else if cK C v.toNat = 1 then 1 - b % 2 else b % 2 else -2 else -2 else -2
def sp_period (C : Cy) (v : Int) : Int := if 0 ≤ v ∧ v < cR C then cP C v.toNat else -2
def sp_turn (C : Cy) : Int := if 0 < cR C then rnd C else -2
def sp_keeps (C : Cy) : Int := if 0 < cR C then if kp C = true then 1 else 0 else -2
def sp_clash (C : Cy) (x : Int) : Int := if 0 < cR C then if 0 ≤ x ∧ x ≤ 2 then (match fi (clB C) (rnd C) with
  | none => -1
  | some b => if x = 0 then b else match fi (fun r => clash C r b) (cR C) with
    | none => -1
    | some r => if x = 1 then r else cd C r b) else -2 else -2
def sp_air (C : Cy) (b : Int) : Int := if 0 < cR C then if 0 ≤ b ∧ b ≤ 99999 then if kp C = true then sm (fun q => sm (fun i => ind (b < b - 8 + i + hh C q (b - 8 + i))) 9) (cR C) else -1 else -2 else -2
def sp_carries (C : Cy) (v u : Int) : Int := if 0 ≤ v ∧ v < cR C then if 0 ≤ u ∧ u < cR C then sm (fun b => ind (0 < hh C v.toNat b ∧ tt C v.toNat b = u.toNat)) (rnd C) else -2 else -2
def sp_silent (C : Cy) (v : Int) : Int := if 0 ≤ v ∧ v < cR C then sm (fun b => ind (hh C v.toNat b = 0)) (rnd C) else -2
def wg (C : Cy) (r b : Nat) : Int := (if tt C r b = r then 1 else 2) * (hh C r b : Int) * (hh C r b : Int)
def sp_wages (C : Cy) (v n : Int) : Int := if 0 ≤ v ∧ v < cR C then if 0 ≤ n ∧ n ≤ 10000 then sm (wg C v.toNat) n.toNat else -2 else -2
def sp_letter (C : Cy) (k x : Int) : Int := if 0 ≤ k ∧ k < cN C then if 0 ≤ x ∧ x ≤ 2 then if x = 0 then cF C k.toNat else if x = 1 then cA C k.toNat else cD C k.toNat else -2 else -2
def isX (C : Cy) (a b : Nat) : Bool := (fi (fun k => decide (cLo C k = a ∧ cHi C k = b)) (cX C)).isSome
/-- crossings so far: how many, the first -/
def crS (C : Cy) (t a b : Nat) (s : Int × Int) : Int × Int := if isX C a b = true ∧ tt C a t = b ∧ tt C b t = a then (s.1 + 1, if s.2 = -1 then 100 * t + 10 * a + b else s.2) else s
def crA (C : Cy) (t a : Nat) (s : Int × Int) : Int × Int := fo (fun j s => crS C t a (a + 1 + j) s) (cR C - (a + 1)) s
def crT (C : Cy) (t : Nat) (s : Int × Int) : Int × Int := fo (fun a s => crA C t a s) (cR C) s
def crs (C : Cy) : Int × Int := fo (fun t s => crT C t s) (rnd C) (0, -1)
def sp_crossings (C : Cy) (x : Int) : Int := if 0 < cR C then if 0 ≤ x ∧ x ≤ 3 then if x = 0 then (crs C).1 else if (crs C).2 = -1 then -1 else if x = 1 then (crs C).2 / 100 else if x = 2 then (crs C).2 / 10 % 10 else (crs C).2 % 10 else -2 else -2
/-- the first height of a row that is none of 0 -/
def fH (C : Cy) (r : Nat) : Nat := match fi (fun i => decide (0 < cH C r i)) (cP C r) with
  | some i => cH C r i
  | none => 0
def uns (C : Cy) (r : Nat) (t : Nat) : Bool := decide (if cK C r = 3 then ∃ q, q < cR C ∧ (1 ≤ hh C q t ∧ hh C q t ≤ 2) ∧ tt C q t = r else (tt C r t ≠ r ∧ t % 2 = 1) ∨ (cK C r = 2 ∧ 5 < hh C r t) ∨ (cK C r = 4 ∧ 0 < hh C r t ∧ hh C r t ≠ fH C r))
def fU (C : Cy) (r : Nat) : Int := match fi (uns C r) (2 * rnd C) with
  | some b => b
  | none => -1
def sp_unsuited (C : Cy) (v : Int) : Int := if 0 ≤ v ∧ v < cR C then fU C v.toNat else -2
def sp_suits (C : Cy) (v : Int) : Int := if 0 ≤ v ∧ v < cR C then if fU C v.toNat = -1 then 1 else 0 else -2
def prs (C : Cy) : Int := sm (fun a => sm (fun j => ind (isX C a (a + 1 + j) = true)) (cR C - (a + 1))) (cR C)
def thw (C : Cy) : Nat := fo (fun r s => if 0 < fH C r then s ||| 1 <<< r else s) (cR C) 0
def lnd (C : Cy) (r : Nat) (b : Int) (q h : Nat) : Bool := decide (hh C q (b - (1 + h)) = 1 + h ∧ tt C q (b - (1 + h)) = r)
def ldM (C : Cy) (r : Nat) (b : Int) : Option (Nat × Nat) := (fi (fun q => (fi (fun h => lnd C r b q h) 9).isSome) (cR C)).bind fun q => (fi (fun h => lnd C r b q h) 9).map fun h => (q, h)
def ldX (C : Cy) (r : Nat) (b : Int) : Option (Nat × Nat) := (fi (fun h => (fi (fun q => lnd C r b q h) (cR C)).isSome) 9).bind fun h => (fi (fun q => lnd C r b q h) (cR C)).map fun q => (q, h)
theorem fi2_some (P : Nat → Nat → Bool) (m n i j : Nat) (h : ((fi (fun i => (fi (fun j => P i j) n).isSome) m).bind fun i => (fi (fun j => P i j) n).map fun j => (i, j)) = some (i, j)) : i < m ∧ j < n ∧ P i j = true := by
  cases h1 : fi (fun i => (fi (fun j => P i j) n).isSome) m with
  | none => rw [h1] at h; cases h
  | some i' =>
    rw [h1, Option.bind_some] at h
    cases h2 : fi (fun j => P i' j) n with
    | none => rw [h2] at h; cases h
    | some j' =>
      rw [h2] at h
      cases h
      exact ⟨((fi_some _ _ _).1 h1).1, ((fi_some _ _ _).1 h2).1, ((fi_some _ _ _).1 h2).2.1⟩
theorem fi2_none (P : Nat → Nat → Bool) (m n : Nat) (h : ((fi (fun i => (fi (fun j => P i j) n).isSome) m).bind fun i => (fi (fun j => P i j) n).map fun j => (i, j)) = none) (i j : Nat) (hi : i < m) (hj : j < n) : ¬ P i j = true := by
  cases h1 : fi (fun i => (fi (fun j => P i j) n).isSome) m with
  | none =>
    have h2 := (fi_none _ _).1 h1 i hi
    rw [Option.isSome_iff_ne_none] at h2
    exact (fi_none _ _).1 (Classical.not_not.1 h2) j hj
  | some i' =>
    rw [h1, Option.bind_some] at h
    have h2 := ((fi_some _ _ _).1 h1).2.1
    cases h3 : fi (fun j => P i' j) n with
    | none => rw [h3] at h2; cases h2
    | some j' => rw [h3] at h; cases h
theorem lnd_u {C : Cy} (hk : kp C = true) (ho : OkC C) {r : Nat} {b : Int} {q h q' h' : Nat} (hq : q < cR C) (hq' : q' < cR C) (e : lnd C r b q h = true) (e' : lnd C r b q' h' = true) : q = q' ∧ h = h' := by
  unfold lnd at e e'
  rw [decide_eq_true_iff] at e e'
  have := inj hk ho hq hq' (b := b - (1 + h)) (c := b - (1 + h')) (by omega) (by omega) (by rw [e.2, e'.2]) (by rw [e.1, e'.1]; omega)
  refine ⟨this.1, ?_⟩
  have := this.2
  omega
theorem ld_eq {C : Cy} (hk : kp C = true) (ho : OkC C) (r : Nat) (b : Int) : ldX C r b = ldM C r b := by
  cases hM : ldM C r b with
  | none =>
    have hn := fi2_none _ _ _ hM
    cases hX : ldX C r b with
    | none => rfl
    | some p =>
      have hx : ((fi (fun h => (fi (fun q => lnd C r b q h) (cR C)).isSome) 9).bind fun h => (fi (fun q => lnd C r b q h) (cR C)).map fun q => (h, q)) = some (p.2, p.1) := by
        unfold ldX at hX
        cases h1 : fi (fun h => (fi (fun q => lnd C r b q h) (cR C)).isSome) 9 with
        | none => rw [h1] at hX; cases hX
        | some h =>
          rw [h1, Option.bind_some] at hX
          rw [Option.bind_some]
          cases h2 : fi (fun q => lnd C r b q h) (cR C) with
          | none => rw [h2] at hX; cases hX
          | some q => rw [h2] at hX; cases hX; rfl
      have ⟨a1, a2, a3⟩ := fi2_some (fun h q => lnd C r b q h) _ _ _ _ hx
      exact absurd a3 (hn _ _ a2 a1)
  | some p =>
    have ⟨b1, b2, b3⟩ := fi2_some (fun q h => lnd C r b q h) _ _ p.1 p.2 hM
    cases hX : ldX C r b with
    | none =>
      have hx : ((fi (fun h => (fi (fun q => lnd C r b q h) (cR C)).isSome) 9).bind fun h => (fi (fun q => lnd C r b q h) (cR C)).map fun q => (h, q)) = none := by
        unfold ldX at hX
        cases h1 : fi (fun h => (fi (fun q => lnd C r b q h) (cR C)).isSome) 9 with
        | none => rfl
        | some h =>
          rw [h1, Option.bind_some] at hX
          rw [Option.bind_some]
          cases h2 : fi (fun q => lnd C r b q h) (cR C) with
          | none => rfl
          | some q => rw [h2] at hX; cases hX
      exact absurd b3 (fi2_none (fun h q => lnd C r b q h) _ _ hx _ _ b2 b1)
    | some p' =>
      have hx : ((fi (fun h => (fi (fun q => lnd C r b q h) (cR C)).isSome) 9).bind fun h => (fi (fun q => lnd C r b q h) (cR C)).map fun q => (h, q)) = some (p'.2, p'.1) := by
        unfold ldX at hX
        cases h1 : fi (fun h => (fi (fun q => lnd C r b q h) (cR C)).isSome) 9 with
        | none => rw [h1] at hX; cases hX
        | some h =>
          rw [h1, Option.bind_some] at hX
          rw [Option.bind_some]
          cases h2 : fi (fun q => lnd C r b q h) (cR C) with
          | none => rw [h2] at hX; cases hX
          | some q => rw [h2] at hX; cases hX; rfl
      have ⟨a1, a2, a3⟩ := fi2_some (fun h q => lnd C r b q h) _ _ _ _ hx
      have := lnd_u hk ho a2 b1 a3 b3
      congr 1
      exact Prod.ext this.1 this.2
def sp_lands (C : Cy) (v b : Int) : Int := if 0 ≤ v ∧ v < cR C then if 0 ≤ b ∧ b ≤ 99999 then if kp C = true then (match ldM C v.toNat b with
  | some p => 10 * (1 + p.2) + p.1
  | none => -1) else -1 else -2 else -2
