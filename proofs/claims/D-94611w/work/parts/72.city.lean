/-! cities as tables of numbers, clipped so that their bounds need no premise -/
set_option maxRecDepth 100000
abbrev Cy : Type := Nat → Nat → Nat
def cR (C : Cy) : Nat := C 0 0 % 7
def cP (C : Cy) (r : Nat) : Nat := C 1 r % 8 + 1
def cK (C : Cy) (r : Nat) : Nat := C 2 r % 5
def cH (C : Cy) (r i : Nat) : Nat := C 3 (8 * r + i) % 10
def cT (C : Cy) (r i : Nat) : Nat := C 4 (8 * r + i) % 6
def cX (C : Cy) : Nat := C 5 0 % 7
def cLo (C : Cy) (k : Nat) : Nat := C 6 k % 6
def cHi (C : Cy) (k : Nat) : Nat := C 7 k % 6
def cN (C : Cy) : Nat := C 8 0 % 9
def cF (C : Cy) (k : Nat) : Nat := C 9 k % 6
def cA (C : Cy) (k : Nat) : Nat := C 10 k % 100000
def cD (C : Cy) (k : Nat) : Nat := C 11 k % 6
def cL (C : Cy) : Nat := C 12 0 % 2000
def cG (C : Cy) : Nat := C 13 0 % 9 + 1
def cO (C : Cy) : Nat := C 14 0 % 101
theorem cR_le (C : Cy) : cR C ≤ 6 := by unfold cR; omega
theorem cP_bd (C : Cy) (r : Nat) : 1 ≤ cP C r ∧ cP C r ≤ 8 := by unfold cP; omega
theorem cK_le (C : Cy) (r : Nat) : cK C r ≤ 4 := by unfold cK; omega
theorem cH_le (C : Cy) (r i : Nat) : cH C r i ≤ 9 := by unfold cH; omega
theorem cT_le (C : Cy) (r i : Nat) : cT C r i ≤ 5 := by unfold cT; omega
theorem cX_le (C : Cy) : cX C ≤ 6 := by unfold cX; omega
theorem cLo_le (C : Cy) (k : Nat) : cLo C k ≤ 5 := by unfold cLo; omega
theorem cHi_le (C : Cy) (k : Nat) : cHi C k ≤ 5 := by unfold cHi; omega
theorem cN_le (C : Cy) : cN C ≤ 8 := by unfold cN; omega
theorem cF_le (C : Cy) (k : Nat) : cF C k ≤ 5 := by unfold cF; omega
theorem cA_le (C : Cy) (k : Nat) : cA C k ≤ 99999 := by unfold cA; omega
theorem cD_le (C : Cy) (k : Nat) : cD C k ≤ 5 := by unfold cD; omega
theorem cL_le (C : Cy) : cL C ≤ 1999 := by unfold cL; omega
theorem cG_bd (C : Cy) : 1 ≤ cG C ∧ cG C ≤ 9 := by unfold cG; omega
theorem cO_le (C : Cy) : cO C ≤ 100 := by unfold cO; omega
/-- what holds of every city that was read -/
def OkC (C : Cy) : Prop := (∀ r i, r < cR C → i < cP C r → cT C r i < cR C ∧ (cH C r i = 0 → cT C r i = r)) ∧
  (∀ k, k < cN C → cF C k < cR C ∧ cD C k < cR C ∧ cF C k ≠ cD C k) ∧ (cR C = 0 → cO C = 0)
def pl (C : Cy) (r : Nat) (b : Int) : Nat := (b % (cP C r : Int)).toNat
def hh (C : Cy) (r : Nat) (b : Int) : Nat := cH C r (pl C r b)
def tt (C : Cy) (r : Nat) (b : Int) : Nat := cT C r (pl C r b)
theorem pl_lt (C : Cy) (r : Nat) (b : Int) : pl C r b < cP C r := by
  have h := cP_bd C r
  have h1 := Int.emod_nonneg b (show (cP C r : Int) ≠ 0 by omega)
  have h2 := Int.emod_lt_of_pos b (show (0 : Int) < (cP C r : Int) by omega)
  unfold pl; omega
theorem pl_cast (C : Cy) (r : Nat) (b : Int) : ((pl C r b : Nat) : Int) = b % (cP C r : Int) := by
  have h := cP_bd C r
  have h1 := Int.emod_nonneg b (show (cP C r : Int) ≠ 0 by omega)
  unfold pl; omega
theorem pl_nat (C : Cy) (r i : Nat) (h : i < cP C r) : pl C r (i : Int) = i := by
  unfold pl
  rw [Int.emod_eq_of_lt (by omega) (by omega)]; rfl
theorem hh_le (C : Cy) (r : Nat) (b : Int) : hh C r b ≤ 9 := cH_le _ _ _
theorem tt_le (C : Cy) (r : Nat) (b : Int) : tt C r b ≤ 5 := cT_le _ _ _
theorem tt_lt {C : Cy} (h : OkC C) {r : Nat} (hr : r < cR C) (b : Int) : tt C r b < cR C := (h.1 r _ hr (pl_lt C r b)).1
theorem tt_self {C : Cy} (h : OkC C) {r : Nat} (hr : r < cR C) {b : Int} (h0 : hh C r b = 0) : tt C r b = r := (h.1 r _ hr (pl_lt C r b)).2 h0
def rnd (C : Cy) : Nat := fo (fun r n => Nat.lcm n (cP C r)) (cR C) 1
theorem cP_840 (C : Cy) (r : Nat) : cP C r ∣ 840 := by
  have h := cP_bd C r
  generalize cP C r = p at *
  have : p = 1 ∨ p = 2 ∨ p = 3 ∨ p = 4 ∨ p = 5 ∨ p = 6 ∨ p = 7 ∨ p = 8 := by omega
  rcases this with h | h | h | h | h | h | h | h <;> subst h <;> decide
theorem rnd_up (C : Cy) (m : Nat) : fo (fun r n => Nat.lcm n (cP C r)) m 1 ∣ 840 ∧ 0 < fo (fun r n => Nat.lcm n (cP C r)) m 1 ∧ ∀ r, r < m → cP C r ∣ fo (fun r n => Nat.lcm n (cP C r)) m 1 := by
  induction m with
  | zero => exact ⟨Nat.one_dvd 840, Nat.one_pos, fun r h => absurd h (Nat.not_lt_zero r)⟩
  | succ m ih =>
    refine ⟨Nat.lcm_dvd ih.1 (cP_840 C m), Nat.lcm_pos ih.2.1 (by have := cP_bd C m; omega), ?_⟩
    intro r hr
    rcases Nat.lt_succ_iff_lt_or_eq.1 hr with h | h
    · exact Nat.dvd_trans (ih.2.2 r h) (Nat.dvd_lcm_left _ _)
    · subst h; exact Nat.dvd_lcm_right _ _
theorem rnd_bd (C : Cy) : 1 ≤ rnd C ∧ rnd C ≤ 840 := ⟨(rnd_up C (cR C)).2.1, Nat.le_of_dvd (by decide) (rnd_up C (cR C)).1⟩
theorem rnd_dvd (C : Cy) {r : Nat} (h : r < cR C) : cP C r ∣ rnd C := (rnd_up C (cR C)).2.2 r h
theorem pl_per (C : Cy) {r : Nat} (h : r < cR C) (b k : Int) : pl C r (b + (rnd C : Int) * k) = pl C r b := by
  unfold pl
  congr 1
  have ⟨c, hc⟩ := rnd_dvd C h
  rw [hc, Int.natCast_mul, Int.mul_assoc, Int.add_mul_emod_self_left]
theorem hh_per (C : Cy) {r : Nat} (h : r < cR C) (b k : Int) : hh C r (b + (rnd C : Int) * k) = hh C r b := by unfold hh; rw [pl_per C h]
theorem tt_per (C : Cy) {r : Nat} (h : r < cR C) (b k : Int) : tt C r (b + (rnd C : Int) * k) = tt C r b := by unfold tt; rw [pl_per C h]
theorem hh_mod (C : Cy) {r : Nat} (h : r < cR C) (b : Int) : hh C r (b % (rnd C : Int)) = hh C r b := by
  have := hh_per C h (b % (rnd C : Int)) (b / (rnd C : Int))
  rw [Int.emod_add_mul_ediv] at this
  exact this.symm
theorem tt_mod (C : Cy) {r : Nat} (h : r < cR C) (b : Int) : tt C r (b % (rnd C : Int)) = tt C r b := by
  have := tt_per C h (b % (rnd C : Int)) (b / (rnd C : Int))
  rw [Int.emod_add_mul_ediv] at this
  exact this.symm
/-- what comes down on a roof at a beat -/
def dn (C : Cy) (r : Nat) (b : Int) (q h : Nat) : Int := if hh C q (b - (1 + h)) = 1 + h ∧ tt C q (b - (1 + h)) = r then 1 else 0
def cd (C : Cy) (r : Nat) (b : Int) : Int := sm (fun q => sm (fun h => dn C r b q h) 9) (cR C)
theorem dn_bd (C : Cy) (r : Nat) (b : Int) (q h : Nat) : 0 ≤ dn C r b q h ∧ dn C r b q h ≤ 1 := by unfold dn; split <;> omega
theorem cd_bd (C : Cy) (r : Nat) (b : Int) : 0 ≤ cd C r b ∧ cd C r b ≤ 54 := by
  have h := sm_bd (fun q => sm (fun h => dn C r b q h) 9) (cR C) 0 9 (fun q _ => by
    have := sm_bd (fun h => dn C r b q h) 9 0 1 (fun h _ => dn_bd C r b q h)
    simpa using this)
  have := cR_le C
  unfold cd; omega
theorem cd_sw (C : Cy) (r : Nat) (b : Int) : sm (fun h => sm (fun q => dn C r b q h) (cR C)) 9 = cd C r b := (sm_swap _ _ _).symm
def clash (C : Cy) (r : Nat) (b : Int) : Bool := decide (cd C r b ≠ if 0 < hh C r b then 1 else 0)
def clB (C : Cy) (b : Nat) : Bool := (fi (fun r => clash C r b) (cR C)).isSome
def kp (C : Cy) : Bool := (fi (clB C) (rnd C)).isNone
theorem kp_iff (C : Cy) : kp C = true ↔ ∀ b r : Nat, b < rnd C → r < cR C → cd C r b = if 0 < hh C r b then 1 else 0 := by
  unfold kp
  rw [Option.isNone_iff_eq_none, fi_none]
  constructor
  · intro h b r hb hr
    have h1 := h b hb
    unfold clB at h1
    rw [Option.isSome_iff_ne_none] at h1
    have h2 := Classical.not_not.1 h1
    have h3 := (fi_none _ _).1 h2 r hr
    unfold clash at h3
    rw [decide_eq_true_iff] at h3
    exact Classical.not_not.1 h3
  · intro h b hb
    unfold clB
    rw [Option.isSome_iff_ne_none]
    intro h1
    apply h1
    rw [fi_none]
    intro r hr
    unfold clash
    rw [decide_eq_true_iff]
    intro h2
    exact h2 (h b r hb hr)
theorem cd_mod (C : Cy) (r : Nat) (b : Int) : cd C r (b % (rnd C : Int)) = cd C r b := by
  unfold cd
  apply sm_congr
  intro q hq
  apply sm_congr
  intro h _
  unfold dn
  have e : b - (1 + h) = b % (rnd C : Int) - (1 + h) + (rnd C : Int) * (b / (rnd C : Int)) := by
    have := Int.emod_add_mul_ediv b (rnd C : Int)
    omega
  rw [e, hh_per C hq, tt_per C hq]
theorem kp_all {C : Cy} (h : kp C = true) {r : Nat} (hr : r < cR C) (b : Int) : cd C r b = if 0 < hh C r b then 1 else 0 := by
  have hp := rnd_bd C
  have h1 := Int.emod_nonneg b (show (rnd C : Int) ≠ 0 by omega)
  have h2 := Int.emod_lt_of_pos b (show (0 : Int) < (rnd C : Int) by omega)
  have := (kp_iff C).1 h (b % (rnd C : Int)).toNat r (by omega) hr
  rw [Int.toNat_of_nonneg h1, cd_mod, hh_mod C hr] at this
  exact this
/-! sums of yes and no -/
theorem sm_ge (f : Nat → Int) (m i : Nat) (hf : ∀ j, j < m → 0 ≤ f j) (hi : i < m) : f i ≤ sm f m := by
  induction m with
  | zero => omega
  | succ m ih =>
    have h2 := hf m (by omega)
    have h3 := sm_nn f m (fun j hj => hf j (by omega))
    simp only [sm]
    rcases Nat.lt_succ_iff_lt_or_eq.1 hi with h | h
    · have := ih (fun j hj => hf j (by omega)) h
      omega
    · subst h; omega
theorem sm_two (f : Nat → Int) (m i j : Nat) (hf : ∀ j, j < m → 0 ≤ f j) (hi : i < m) (hj : j < m) (hij : i ≠ j) : f i + f j ≤ sm f m := by
  induction m with
  | zero => omega
  | succ m ih =>
    have h2 := hf m (by omega)
    simp only [sm]
    by_cases h : i = m
    · subst h
      have := sm_ge f i j (fun j hj => hf j (by omega)) (by omega)
      omega
    · by_cases h' : j = m
      · subst h'
        have := sm_ge f j i (fun j hj => hf j (by omega)) (by omega)
        omega
      · have := ih (fun j hj => hf j (by omega)) (by omega) (by omega)
        omega
theorem sm_pos (f : Nat → Int) (m : Nat) (h : 0 < sm f m) : ∃ i, i < m ∧ 0 < f i := by
  induction m with
  | zero => simp [sm] at h
  | succ m ih =>
    simp only [sm] at h
    by_cases h1 : 0 < f m
    · exact ⟨m, by omega, h1⟩
    · have ⟨i, hi, h2⟩ := ih (by omega)
      exact ⟨i, by omega, h2⟩
theorem cd_ge {C : Cy} {r : Nat} {b : Int} {q : Nat} (hq : q < cR C) {h : Nat} (h9 : h < 9) (h1 : hh C q (b - (1 + h)) = 1 + h) (h2 : tt C q (b - (1 + h)) = r) : 1 ≤ cd C r b := by
  have e1 := sm_ge (fun h => dn C r b q h) 9 h (fun j _ => (dn_bd C r b q j).1) h9
  have e2 := sm_ge (fun q => sm (fun h => dn C r b q h) 9) (cR C) q (fun j _ => sm_nn _ _ (fun i _ => (dn_bd C r b j i).1)) hq
  have e3 : dn C r b q h = 1 := by unfold dn; rw [if_pos ⟨h1, h2⟩]
  unfold cd
  omega
/-- a ball that is thrown comes down where one is thrown -/
theorem land {C : Cy} (hk : kp C = true) (ho : OkC C) {r : Nat} (hr : r < cR C) {b : Int} (h : 0 < hh C r b) : 0 < hh C (tt C r b) (b + hh C r b) := by
  have h9 := hh_le C r b
  have e1 : b + hh C r b - (1 + (hh C r b - 1 : Nat)) = b := by omega
  have := cd_ge (C := C) (r := tt C r b) (b := b + hh C r b) hr (h := hh C r b - 1) (by omega) (by rw [e1]; omega) (by rw [e1])
  rw [kp_all hk (tt_lt ho hr b)] at this
  split at this <;> omega
/-- two balls do not come down together -/
theorem inj {C : Cy} (hk : kp C = true) (ho : OkC C) {r q : Nat} (hr : r < cR C) (hq : q < cR C) {b c : Int} (h : 0 < hh C r b) (h' : 0 < hh C q c)
    (e1 : tt C r b = tt C q c) (e2 : b + hh C r b = c + hh C q c) : r = q ∧ b = c := by
  have h9 := hh_le C r b
  have h9' := hh_le C q c
  have k1 := kp_all hk (tt_lt ho hr b) (b + hh C r b)
  have k2 : cd C (tt C r b) (b + hh C r b) ≤ 1 := by rw [k1]; split <;> omega
  have d1 : dn C (tt C r b) (b + hh C r b) r (hh C r b - 1) = 1 := by
    unfold dn
    have e : b + hh C r b - (1 + (hh C r b - 1 : Nat)) = b := by omega
    rw [e, if_pos ⟨by omega, rfl⟩]
  have d2 : dn C (tt C r b) (b + hh C r b) q (hh C q c - 1) = 1 := by
    unfold dn
    have e : b + hh C r b - (1 + (hh C q c - 1 : Nat)) = c := by omega
    rw [e, if_pos ⟨by omega, e1.symm⟩]
  by_cases hrq : r = q
  · subst hrq
    refine ⟨rfl, ?_⟩
    by_cases hbc : hh C r b = hh C r c
    · omega
    · exfalso
      have e1 := sm_two (fun h => dn C (tt C r b) (b + hh C r b) r h) 9 (hh C r b - 1) (hh C r c - 1) (fun j _ => (dn_bd _ _ _ _ j).1) (by omega) (by omega) (by omega)
      have e2 := sm_ge (fun q => sm (fun h => dn C (tt C r b) (b + hh C r b) q h) 9) (cR C) r (fun j _ => sm_nn _ _ (fun i _ => (dn_bd _ _ _ j i).1)) hr
      unfold cd at k2
      omega
  · exfalso
    have e1 := sm_ge (fun h => dn C (tt C r b) (b + hh C r b) r h) 9 (hh C r b - 1) (fun j _ => (dn_bd _ _ _ _ j).1) (by omega)
    have e1' := sm_ge (fun h => dn C (tt C r b) (b + hh C r b) q h) 9 (hh C q c - 1) (fun j _ => (dn_bd _ _ _ _ j).1) (by omega)
    have e2 := sm_two (fun q => sm (fun h => dn C (tt C r b) (b + hh C r b) q h) 9) (cR C) r q (fun j _ => sm_nn _ _ (fun i _ => (dn_bd _ _ _ j i).1)) hr hq hrq
    unfold cd at k2
    omega
/-- where one is thrown one came down -/
theorem came {C : Cy} (hk : kp C = true) {r : Nat} (hr : r < cR C) {b : Int} (h : 0 < hh C r b) : ∃ q h : Nat, q < cR C ∧ h < 9 ∧ hh C q (b - (1 + h)) = 1 + h ∧ tt C q (b - (1 + h)) = r := by
  have k := kp_all hk hr b
  rw [if_pos h] at k
  have ⟨q, hq, h1⟩ := sm_pos (fun q => sm (fun h => dn C r b q h) 9) (cR C) (by unfold cd at k; omega)
  have ⟨i, hi, h2⟩ := sm_pos (fun h => dn C r b q h) 9 h1
  refine ⟨q, i, hq, hi, ?_⟩
  simp only [dn] at h2
  split at h2
  · assumption
  · omega
