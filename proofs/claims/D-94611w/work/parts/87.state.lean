/-! rows of one alone: states, ways between them -/
set_option maxRecDepth 100000
def popc (n : Nat) : Nat := fo (fun i s => if n.testBit i then s + 1 else s) 9 0
theorem popc_lt (n : Nat) : popc n ≤ 9 := by
  unfold popc
  exact fo_inv (fun i s => if n.testBit i then s + 1 else s) (fun i s => s ≤ i) 9 0 (Nat.le_refl 0) (fun i s _ h => by show (if n.testBit i then s + 1 else s) ≤ i + 1; split <;> omega)
theorem popc_step : ∀ n : Fin 512, n.1 ≠ 0 → popc n.1 = popc (n.1 &&& (n.1 - 1)) + 1 ∧ n.1 &&& (n.1 - 1) < n.1 := by decide +kernel
theorem popc_full : ∀ p : Fin 9, ∀ s : Fin 256, s.1 < 2 ^ p.1 → (popc s.1 = p.1 ↔ s.1 = 2 ^ p.1 - 1) := by decide +kernel
def cnt (C : Cy) (r : Nat) (t : Int) : Int := sm (fun h => ind (hh C r (t - (1 + h)) = 1 + h)) 9
def sol1 (C : Cy) (r : Nat) : Bool := (fi (fun i => decide (cT C r i ≠ r)) (cP C r)).isNone
def sol2 (C : Cy) (r : Nat) : Bool := (fi (fun t => decide (cnt C r t ≠ if 0 < hh C r t then 1 else 0)) (cP C r)).isNone
def solo (C : Cy) (r : Nat) : Bool := sol1 C r && sol2 C r
/-- where throws of a row come down, as bits -/
def alS (C : Cy) (r : Nat) : Nat := fo (fun i s => s ||| 1 <<< ((i + cH C r i) % cP C r)) (cP C r) 0
def hits (C : Cy) (r t : Nat) : Int := sm (fun i => ind ((i + cH C r i) % cP C r = t)) (cP C r)
theorem sm_one (m k : Nat) (h : k < m) : sm (fun t => ind (k = t)) m = 1 := by
  induction m with
  | zero => omega
  | succ m ih =>
    simp only [sm]
    by_cases hk : k = m
    · subst hk
      have : sm (fun t => ind (k = t)) k = 0 := by
        rw [← sm_zero k]
        exact sm_congr (fun i hi => by unfold ind; rw [if_neg (by omega)])
      rw [this]; simp [ind]
    · rw [ih (by omega)]; simp [ind, hk]
theorem sm_const (m : Nat) (k : Int) : sm (fun _ => k) m = m * k := by
  induction m with
  | zero => simp [sm]
  | succ m ih => simp only [sm, ih]; rw [Int.natCast_succ, Int.add_mul, Int.one_mul]
theorem hits_all (C : Cy) (r : Nat) : sm (fun t => hits C r t) (cP C r) = cP C r := by
  unfold hits
  have hP := cP_bd C r
  rw [sm_swap]
  have : sm (fun j => sm (fun i => ind ((j + cH C r j) % cP C r = i)) (cP C r)) (cP C r) = sm (fun _ => 1) (cP C r) := sm_congr (fun j _ => sm_one _ _ (Nat.mod_lt _ (by omega)))
  rw [this, sm_const]; omega
theorem sm_sub (f g : Nat → Int) (m : Nat) : sm (fun i => f i - g i) m = sm f m - sm g m := by
  induction m with
  | zero => rfl
  | succ m ih => simp only [sm, ih]; omega
theorem hits_one (C : Cy) (r : Nat) (h : ∀ t, t < cP C r → 1 ≤ hits C r t) (t : Nat) (ht : t < cP C r) : hits C r t = 1 := by
  have h1 := hits_all C r
  have h2 := sm_sub (fun t => hits C r t) (fun _ => 1) (cP C r)
  rw [h1, sm_const] at h2
  have h3 := sm_ge (fun t => hits C r t - 1) (cP C r) t (fun j hj => by have := h j hj; omega) ht
  have h4 := h t ht
  omega
/-- those that come down at a beat, by how high and by which -/
theorem cnt_hits (C : Cy) (r t : Nat) (ht : t < cP C r) : cnt C r t + ind (hh C r t = 0) = hits C r t := by
  have hP := cP_bd C r
  have e1 : hh C r t = cH C r t := by unfold hh; rw [pl_nat C r t ht]
  have e2 : ∀ h : Nat, h < 9 → ind (hh C r (t - (1 + h)) = 1 + h) = sm (fun i => ind (cH C r i = 1 + h ∧ (i + (1 + h)) % cP C r = t)) (cP C r) := by
    intro h _
    have hl := pl_lt C r ((t : Int) - (1 + h))
    have hc := pl_cast C r ((t : Int) - (1 + h))
    have key : ∀ i, i < cP C r → ((i + (1 + h)) % cP C r = t ↔ pl C r ((t : Int) - (1 + h)) = i) := by
      intro i hi
      have a1 := Int.emod_nonneg ((t : Int) - (1 + h)) (show (cP C r : Int) ≠ 0 by omega)
      have a2 := Int.emod_add_mul_ediv ((t : Int) - (1 + h)) (cP C r : Int)
      constructor
      · intro e
        have b1 := Nat.div_add_mod (i + (1 + h)) (cP C r)
        rw [e] at b1
        have b2 : (t : Int) - (1 + h) = i + (cP C r : Int) * (-((i + (1 + h)) / cP C r : Nat) : Int) := by
          have : ((cP C r * ((i + (1 + h)) / cP C r) + t : Nat) : Int) = ((i + (1 + h) : Nat) : Int) := by rw [b1]
          rw [Int.natCast_add, Int.natCast_mul] at this
          rw [Int.mul_neg]
          omega
        have b3 : ((t : Int) - (1 + h)) % (cP C r : Int) = i := by
          rw [b2, Int.add_mul_emod_self_left]
          exact Int.emod_eq_of_lt (by omega) (by omega)
        omega
      · intro e
        have c1 : ((i + (1 + h) : Nat) : Int) = t + (cP C r : Int) * (-(((t : Int) - (1 + h)) / (cP C r : Int))) := by
          rw [Int.mul_neg]
          omega
        have c2 : ((i + (1 + h) : Nat) : Int) % (cP C r : Int) = t := by
          rw [c1, Int.add_mul_emod_self_left]
          exact Int.emod_eq_of_lt (by omega) (by omega)
        have c3 : (((i + (1 + h)) % cP C r : Nat) : Int) = t := by rw [Int.natCast_emod]; exact c2
        omega
    have e3 : sm (fun i => ind (cH C r i = 1 + h ∧ (i + (1 + h)) % cP C r = t)) (cP C r) = sm (fun i => (ind (cH C r (pl C r ((t : Int) - (1 + h))) = 1 + h)) * ind (pl C r ((t : Int) - (1 + h)) = i)) (cP C r) := by
      apply sm_congr
      intro i hi
      have := key i hi
      unfold ind
      by_cases k1 : pl C r ((t : Int) - (1 + h)) = i
      · rw [k1]
        have k2 := this.2 k1
        by_cases k3 : cH C r i = 1 + h
        · rw [if_pos ⟨k3, k2⟩, if_pos k3, if_pos rfl]; rfl
        · rw [if_neg (fun h => k3 h.1), if_neg k3, Int.zero_mul]
      · rw [if_neg (fun h => k1 (this.1 h.2)), if_neg k1, Int.mul_zero]
    rw [e3]
    have e4 : ∀ (k : Int) (f : Nat → Int) (m : Nat), sm (fun i => k * f i) m = k * sm f m := by
      intro k f m
      induction m with
      | zero => simp [sm]
      | succ m ih => simp only [sm, ih]; rw [Int.mul_add]
    rw [e4, sm_one _ _ hl, Int.mul_one]
    rfl
  unfold cnt
  rw [sm_congr e2, sm_swap]
  have e5 : ind (hh C r t = 0) = sm (fun i => ind (cH C r i = 0 ∧ i % cP C r = t)) (cP C r) := by
    have : sm (fun i => ind (cH C r i = 0 ∧ i % cP C r = t)) (cP C r) = sm (fun i => ind (cH C r t = 0) * ind (t = i)) (cP C r) := by
      apply sm_congr
      intro i hi
      rw [Nat.mod_eq_of_lt hi]
      unfold ind
      by_cases k1 : t = i
      · subst k1
        by_cases k3 : cH C r t = 0
        · rw [if_pos ⟨k3, rfl⟩, if_pos k3, if_pos rfl]; rfl
        · rw [if_neg (fun h => k3 h.1), if_neg k3, Int.zero_mul]
      · rw [if_neg (fun h => k1 h.2.symm), if_neg k1, Int.mul_zero]
    have e4 : ∀ (k : Int) (f : Nat → Int) (m : Nat), sm (fun i => k * f i) m = k * sm f m := by
      intro k f m
      induction m with
      | zero => simp [sm]
      | succ m ih => simp only [sm, ih]; rw [Int.mul_add]
    rw [this, e4, sm_one _ _ ht, Int.mul_one, e1]
  rw [e5, ← sm_add]
  unfold hits
  apply sm_congr
  intro i _
  have h9 := cH_le C r i
  have e6 : ∀ (m : Nat), sm (fun h => ind (cH C r i = 1 + h ∧ (i + (1 + h)) % cP C r = t)) m = ind ((1 ≤ cH C r i ∧ cH C r i ≤ m) ∧ (i + cH C r i) % cP C r = t) := by
    intro m
    induction m with
    | zero => simp only [sm]; unfold ind; rw [if_neg (by omega)]
    | succ m ih =>
      simp only [sm, ih]
      unfold ind
      by_cases k1 : cH C r i = 1 + m
      · rw [k1]
        by_cases k2 : (i + (1 + m)) % cP C r = t
        · rw [if_neg (by omega), if_pos ⟨rfl, k2⟩, if_pos (by omega)]; rfl
        · rw [if_neg (fun h => k2 h.2), if_neg (fun h => k2 h.2), if_neg (fun h => k2 h.2)]; rfl
      · rw [if_neg (show ¬ (cH C r i = 1 + m ∧ (i + (1 + m)) % cP C r = t) from fun h => k1 h.1)]
        by_cases k2 : (1 ≤ cH C r i ∧ cH C r i ≤ m) ∧ (i + cH C r i) % cP C r = t
        · rw [if_pos k2, if_pos (show (1 ≤ cH C r i ∧ cH C r i ≤ m + 1) ∧ (i + cH C r i) % cP C r = t from ⟨⟨k2.1.1, by omega⟩, k2.2⟩)]; rfl
        · rw [if_neg k2, if_neg (show ¬ ((1 ≤ cH C r i ∧ cH C r i ≤ m + 1) ∧ (i + cH C r i) % cP C r = t) from fun h => k2 ⟨⟨h.1.1, by omega⟩, h.2⟩)]; rfl
  rw [e6]
  unfold ind
  by_cases k1 : cH C r i = 0
  · rw [k1, Nat.add_zero]
    by_cases k2 : i % cP C r = t
    · rw [if_neg (by omega), if_pos ⟨rfl, k2⟩, if_pos k2]; rfl
    · rw [if_neg (by omega), if_neg (fun h => k2 h.2), if_neg k2]; rfl
  · by_cases k2 : (i + cH C r i) % cP C r = t
    · rw [if_pos ⟨by omega, k2⟩, if_neg (by omega), if_pos k2]; rfl
    · rw [if_neg (fun h => k2 h.2), if_neg (by omega), if_neg k2]; rfl
theorem sol2_iff (C : Cy) (r : Nat) : sol2 C r = true ↔ ∀ t, t < cP C r → hits C r t = 1 := by
  unfold sol2
  rw [Option.isNone_iff_eq_none, fi_none]
  constructor
  · intro h t ht
    have h1 := h t ht
    rw [decide_eq_true_iff] at h1
    have h2 := Classical.not_not.1 h1
    rw [← cnt_hits C r t ht, h2]
    unfold ind
    by_cases k : 0 < hh C r t
    · rw [if_pos k, if_neg (by omega)]; rfl
    · rw [if_neg k, if_pos (by omega)]; rfl
  · intro h t ht
    rw [decide_eq_true_iff]
    intro h1
    apply h1
    have h2 := h t ht
    rw [← cnt_hits C r t ht] at h2
    unfold ind at h2
    by_cases k : 0 < hh C r t
    · rw [if_pos k]; rw [if_neg (by omega)] at h2; omega
    · rw [if_neg k]; rw [if_pos (by omega)] at h2; omega
theorem alS_bit (C : Cy) (r t m : Nat) : (fo (fun i s => s ||| 1 <<< ((i + cH C r i) % cP C r)) m 0).testBit t = true ↔ ∃ i, i < m ∧ (i + cH C r i) % cP C r = t := by
  induction m with
  | zero => simp [fo]
  | succ m ih =>
    simp only [fo, Nat.testBit_or, Bool.or_eq_true, ih]
    rw [Nat.shiftLeft_eq, Nat.one_mul, Nat.testBit_two_pow]
    constructor
    · rintro (⟨i, h1, h2⟩ | h)
      · exact ⟨i, by omega, h2⟩
      · exact ⟨m, by omega, by simpa using h⟩
    · rintro ⟨i, h1, h2⟩
      rcases Nat.lt_succ_iff_lt_or_eq.1 h1 with h | h
      · exact Or.inl ⟨i, h, h2⟩
      · subst h; exact Or.inr (by simpa using h2)
theorem alS_lt (C : Cy) (r : Nat) : alS C r < 2 ^ cP C r := by
  have hP := cP_bd C r
  unfold alS
  refine fo_inv (fun i s => s ||| 1 <<< ((i + cH C r i) % cP C r)) (fun _ s => s < 2 ^ cP C r) _ 0 (Nat.two_pow_pos _) (fun i s _ hs => ?_)
  apply Nat.or_lt_two_pow hs
  rw [Nat.shiftLeft_eq, Nat.one_mul]
  exact Nat.pow_lt_pow_right (by decide) (Nat.mod_lt _ (by omega))
theorem alS_iff (C : Cy) (r : Nat) : popc (alS C r) = cP C r ↔ sol2 C r = true := by
  have hP := cP_bd C r
  have hl := alS_lt C r
  have h256 : alS C r < 256 := Nat.lt_of_lt_of_le hl (by have := Nat.pow_le_pow_right (show 2 > 0 by decide) hP.2; omega)
  rw [popc_full ⟨cP C r, by omega⟩ ⟨alS C r, h256⟩ hl, sol2_iff]
  constructor
  · intro h t ht
    apply hits_one C r (fun t ht => ?_) t ht
    have hb : (alS C r).testBit t = true := by
      have : alS C r = 2 ^ cP C r - 1 := h
      rw [this, Nat.testBit_two_pow_sub_one]
      simpa using ht
    have ⟨i, hi, e⟩ := (alS_bit C r t (cP C r)).1 hb
    have := sm_ge (fun i => ind ((i + cH C r i) % cP C r = t)) (cP C r) i (fun j _ => by unfold ind; split <;> omega) hi
    unfold hits
    simp only [ind, if_pos e] at this
    unfold ind
    exact this
  · intro h
    show alS C r = 2 ^ cP C r - 1
    apply Nat.eq_of_testBit_eq
    intro t
    rw [Nat.testBit_two_pow_sub_one]
    by_cases ht : t < cP C r
    · have h1 := h t ht
      have ⟨i, hi, h2⟩ := sm_pos (fun i => ind ((i + cH C r i) % cP C r = t)) (cP C r) (by unfold hits at h1; omega)
      have h3 : (i + cH C r i) % cP C r = t := by
        simp only [ind] at h2
        split at h2
        · assumption
        · omega
      rw [show (alS C r).testBit t = true from (alS_bit C r t (cP C r)).2 ⟨i, hi, h3⟩]
      simpa using ht
    · rw [Nat.testBit_lt_two_pow (Nat.lt_of_lt_of_le hl (Nat.pow_le_pow_right (by decide) (by omega)))]
      simpa using ht
/-- the state of a row ahead of its i-th throw -/
def st1 (C : Cy) (r : Nat) (i : Int) (u : Int) (s : Nat) : Nat := if 0 < hh C r u ∧ i ≤ u + hh C r u then s ||| 1 <<< (u + hh C r u - i).toNat else s
def st (C : Cy) (r : Nat) (i : Int) : Nat := fo (fun j s => st1 C r i (i - 9 + j) s) 9 0
theorem st_lt (C : Cy) (r : Nat) (i : Int) : st C r i < 512 := by
  unfold st
  refine fo_inv (fun j s => st1 C r i (i - 9 + j) s) (fun _ s => s < 2 ^ 9) 9 0 (by decide) (fun j s hj hs => ?_)
  have h9 := hh_le C r (i - 9 + j)
  show st1 C r i (i - 9 + j) s < 2 ^ 9
  unfold st1
  split
  · apply Nat.or_lt_two_pow hs
    rw [Nat.shiftLeft_eq, Nat.one_mul]
    exact Nat.pow_lt_pow_right (by decide) (by omega)
  · exact hs
def okS (s h : Nat) : Bool := if s % 2 = 0 then decide (h = 0) else decide (0 < h ∧ s.testBit h = false)
def nxS (s h : Nat) : Nat := if h = 0 then s >>> 1 else (s ||| 1 <<< h) >>> 1
theorem nxS_lt : ∀ s : Fin 512, ∀ h : Fin 10, nxS s.1 h.1 < 512 := by decide +kernel
theorem nxS_b : ∀ s : Fin 512, ∀ h : Fin 10, 0 < h.1 → nxS s.1 h.1 = s.1 >>> 1 ||| 1 <<< (h.1 - 1) := by decide +kernel
def rch (g : Nat) : Nat → Nat → Bool
  | 0, s => decide (s = g)
  | d + 1, s => rch g d s || (fi (fun h => okS s h && rch g d (nxS s h)) 10).isSome
/-- how far states are from one, when it is laid out -/
def Dst (g : Nat) (A : Nat → Int) : Prop := A g = 0 ∧ (∀ s, s < 512 → A s = 1000000 ∨ (0 ≤ A s ∧ A s < 1000000 ∧ rch g (A s).toNat s = true)) ∧
  ∀ s h, s < 512 → h < 10 → okS s h = true → A s ≤ A (nxS s h) + 1
theorem Dst_le {g : Nat} {A : Nat → Int} (hA : Dst g A) : ∀ (d s : Nat), s < 512 → rch g d s = true → A s ≤ d := by
  intro d
  induction d with
  | zero =>
    intro s hs h
    simp only [rch, decide_eq_true_iff] at h
    subst h
    rw [hA.1]; exact Int.le_refl 0
  | succ d ih =>
    intro s hs h
    simp only [rch, Bool.or_eq_true] at h
    rcases h with h | h
    · have := ih s hs h
      omega
    · rw [Option.isSome_iff_exists] at h
      have ⟨k, hk⟩ := h
      have ⟨h1, h2, _⟩ := (fi_some _ _ _).1 hk
      rw [Bool.and_eq_true] at h2
      have h3 := hA.2.2 s k hs h1 h2.1
      have h4 := ih (nxS s k) (nxS_lt ⟨s, hs⟩ ⟨k, h1⟩) h2.2
      omega
theorem Dst_eq {g : Nat} {A B : Nat → Int} (hA : Dst g A) (hB : Dst g B) (s : Nat) (hs : s < 512) : A s = B s := by
  have h1 : A s ≤ B s := by
    rcases hB.2.1 s hs with h | ⟨h0, h1, h2⟩
    · rcases hA.2.1 s hs with h' | h' <;> omega
    · have := Dst_le hA _ s hs h2
      omega
  have h2 : B s ≤ A s := by
    rcases hA.2.1 s hs with h | ⟨h0, h1, h2⟩
    · rcases hB.2.1 s hs with h' | h' <;> omega
    · have := Dst_le hB _ s hs h2
      omega
  omega
noncomputable def dist (g s : Nat) : Int := @dite Int (∃ A, Dst g A) (Classical.propDecidable _) (fun h => Classical.choose h s) (fun _ => 0)
theorem Dst_dist {g : Nat} {A : Nat → Int} (hA : Dst g A) {s : Nat} (hs : s < 512) : A s = dist g s := by
  unfold dist
  rw [dif_pos ⟨A, hA⟩]
  exact Dst_eq hA (Classical.choose_spec (⟨A, hA⟩ : ∃ A, Dst g A)) s hs
theorem dist_bd {g : Nat} {A : Nat → Int} (hA : Dst g A) {s : Nat} (hs : s < 512) : 0 ≤ dist g s ∧ dist g s ≤ 1000000 := by
  rw [← Dst_dist hA hs]
  rcases hA.2.1 s hs with h | h <;> omega
/-- the least throw to a state that is so far -/
noncomputable def stp (g s : Nat) (d : Int) : Option Nat := fi (fun h => okS s h && decide (dist g (nxS s h) = d)) 10
def thr1 (C : Cy) (v i : Int) : Prop := (0 ≤ v ∧ v < cR C) ∧ 0 ≤ i ∧ i < cP C v.toNat
def sp_state (C : Cy) (v i : Int) : Int := if (0 ≤ v ∧ v < cR C) ∧ 0 ≤ i ∧ i < cP C v.toNat then if solo C v.toNat = true then st C v.toNat i else -1 else -2
noncomputable def sp_change (C : Cy) (v i u k : Int) : Int := if (0 ≤ v ∧ v < cR C) ∧ 0 ≤ i ∧ i < cP C v.toNat then if (0 ≤ u ∧ u < cR C) ∧ 0 ≤ k ∧ k < cP C u.toNat then if solo C v.toNat = true then if solo C u.toNat = true then if dist (st C u.toNat k) (st C v.toNat i) = 1000000 then -1 else dist (st C u.toNat k) (st C v.toNat i) else -1 else -1 else -2 else -2
noncomputable def sp_ground (C : Cy) (v i : Int) : Int := if (0 ≤ v ∧ v < cR C) ∧ 0 ≤ i ∧ i < cP C v.toNat then if solo C v.toNat = true then dist (1 <<< popc (st C v.toNat i) - 1) (st C v.toNat i) else -1 else -2
/-- the state behind n least throws -/
noncomputable def wlk (g : Nat) : Nat → Nat → Nat
  | 0, s => s
  | n + 1, s => nxS (wlk g n s) ((stp g (wlk g n s) (dist g (wlk g n s) - 1)).getD 0)
noncomputable def sp_changes (C : Cy) (v i u k n : Int) : Int := if (0 ≤ v ∧ v < cR C) ∧ 0 ≤ i ∧ i < cP C v.toNat then if (0 ≤ u ∧ u < cR C) ∧ 0 ≤ k ∧ k < cP C u.toNat then if solo C v.toNat = true then if solo C u.toNat = true then if dist (st C u.toNat k) (st C v.toNat i) = 1000000 then -1 else if 0 ≤ n ∧ n < dist (st C u.toNat k) (st C v.toNat i) then (stp (st C u.toNat k) (wlk (st C u.toNat k) n.toNat (st C v.toNat i)) (dist (st C u.toNat k) (wlk (st C u.toNat k) n.toNat (st C v.toNat i)) - 1)).getD 0 else -1 else -1 else -1 else -2 else -2
theorem rch_mono {g : Nat} {d s : Nat} (h : rch g d s = true) : rch g (d + 1) s = true := by simp only [rch, h, Bool.true_or]
/-- from a state that is so far a throw leads to one less far -/
theorem stp_ok {g s : Nat} (hs : s < 512) {A : Nat → Int} (hA : Dst g A) (h0 : 0 < dist g s) (h1 : dist g s < 1000000) : ∃ h, stp g s (dist g s - 1) = some h ∧ h < 10 ∧ okS s h = true ∧ dist g (nxS s h) = dist g s - 1 := by
  cases hf : stp g s (dist g s - 1) with
  | some h =>
    have ⟨a1, a2, _⟩ := (fi_some _ _ _).1 hf
    rw [Bool.and_eq_true, decide_eq_true_iff] at a2
    exact ⟨h, rfl, a1, a2.1, a2.2⟩
  | none =>
    exfalso
    have hn := (fi_none _ _).1 hf
    have e := Dst_dist hA hs
    have ⟨d, hd⟩ : ∃ d : Nat, dist g s = d + 1 := ⟨(dist g s - 1).toNat, by omega⟩
    rcases hA.2.1 s hs with h' | ⟨b0, b1, b2⟩
    · omega
    · rw [show (A s).toNat = d + 1 by omega] at b2
      simp only [rch, Bool.or_eq_true] at b2
      rcases b2 with b2 | b2
      · have := Dst_le hA d s hs b2
        omega
      · rw [Option.isSome_iff_exists] at b2
        have ⟨k, hk⟩ := b2
        have ⟨c1, c2, _⟩ := (fi_some _ _ _).1 hk
        rw [Bool.and_eq_true] at c2
        have hl : nxS s k < 512 := nxS_lt ⟨s, hs⟩ ⟨k, c1⟩
        have c3 := Dst_le hA d (nxS s k) hl c2.2
        have c4 := hA.2.2 s k hs c1 c2.1
        have c5 := Dst_dist hA hl
        have := hn k c1
        apply this
        rw [Bool.and_eq_true, decide_eq_true_iff]
        exact ⟨c2.1, by omega⟩
theorem wlk_ok {g s : Nat} (hs : s < 512) {A : Nat → Int} (hA : Dst g A) (h1 : dist g s < 1000000) : ∀ n : Nat, (n : Int) ≤ dist g s → wlk g n s < 512 ∧ dist g (wlk g n s) = dist g s - n := by
  intro n
  induction n with
  | zero => intro _; exact ⟨hs, by simp [wlk]⟩
  | succ n ih =>
    intro hn
    have ⟨a1, a2⟩ := ih (by omega)
    have ⟨h, e, b1, b2, b3⟩ := stp_ok a1 hA (by omega) (by omega)
    simp only [wlk, e, Option.getD_some]
    exact ⟨nxS_lt ⟨_, a1⟩ ⟨h, b1⟩, by omega⟩
