/-! the text's tokens -/
set_option maxRecDepth 100000
/-- a text: its bytes as numbers, how many -/
abbrev Tx : Type := (Nat → Int32) × Nat
def tz (T : Tx) (i : Nat) : Int := (T.1 i).toInt
theorem tz_J (T : Tx) (i : Nat) : T.1 i = J (tz T i) := (J_of _).symm
theorem tz_bd (T : Tx) (i : Nat) : -2147483648 ≤ tz T i ∧ tz T i ≤ 2147483647 := J_bd _
/-- how many bytes of a kind lie there -/
def ru (T : Tx) (P : Int → Bool) (p : Nat) : Nat := (fi (fun j => decide (¬ (p + j < T.2 ∧ P (tz T (p + j)) = true))) 1601).getD 0
theorem ru_is {T : Tx} (hn : T.2 ≤ 1600) (P : Int → Bool) (p : Nat) : fi (fun j => decide (¬ (p + j < T.2 ∧ P (tz T (p + j)) = true))) 1601 = some (ru T P p) := by
  unfold ru
  cases h : fi (fun j => decide (¬ (p + j < T.2 ∧ P (tz T (p + j)) = true))) 1601 with
  | some j => rfl
  | none =>
    have := (fi_none _ _).1 h 1600 (by omega)
    rw [decide_eq_true_iff] at this
    exact absurd (fun hh => by have := hh.1; omega) this
theorem ru_spec {T : Tx} (hn : T.2 ≤ 1600) (P : Int → Bool) (p : Nat) : ru T P p ≤ 1600 ∧ ¬ (p + ru T P p < T.2 ∧ P (tz T (p + ru T P p)) = true) ∧ ∀ j, j < ru T P p → p + j < T.2 ∧ P (tz T (p + j)) = true := by
  have ⟨h1, h2, h3⟩ := (fi_some _ _ _).1 (ru_is hn P p)
  rw [decide_eq_true_iff] at h2
  refine ⟨by omega, h2, fun j hj => ?_⟩
  have := h3 j hj
  rw [decide_eq_true_iff] at this
  exact Classical.not_not.1 this
theorem ru_le {T : Tx} (hn : T.2 ≤ 1600) (P : Int → Bool) {p : Nat} (hp : p ≤ T.2) : p + ru T P p ≤ T.2 := by
  have ⟨_, _, h3⟩ := ru_spec hn P p
  by_cases h : ru T P p = 0
  · omega
  · have := (h3 (ru T P p - 1) (by omega)).1
    omega
def isB (a b : Int) (z : Int) : Bool := decide (a ≤ z ∧ z ≤ b)
def isWs (z : Int) : Bool := decide (z = 32 ∨ z = 10)
def sk (T : Tx) (p : Nat) : Nat := p + ru T isWs p
def kd (T : Tx) (q : Nat) : Nat := if T.2 ≤ q then 0 else if isB 97 122 (tz T q) = true then 1 else if isB 48 57 (tz T q) = true then 2 else if tz T q = 59 then 3 else 4
def en (T : Tx) (q : Nat) : Nat := if kd T q = 0 then q else if kd T q = 1 then q + ru T (isB 97 122) q else if kd T q = 2 then q + ru T (isB 48 57) q else q + 1
def nx (T : Tx) (q : Nat) : Nat := sk T (en T q)
def vlS (T : Tx) (q : Nat) : Nat → Int
  | 0 => 0
  | m + 1 => if 10 * vlS T q m + tz T (q + m) - 48 < 99999 then 10 * vlS T q m + tz T (q + m) - 48 else 99999
def vl (T : Tx) (q : Nat) : Int := vlS T q (ru T (isB 48 57) q)
def vmS (T : Tx) (q : Nat) : Nat → Int
  | 0 => 0
  | m + 1 => if vmS T q m ≤ 100000 then 10 * vmS T q m + tz T (q + m) - 48 else 1000000
def vm (T : Tx) (q : Nat) : Int := vmS T q (ru T (isB 48 57) q)
def wcS (T : Tx) (q : Nat) : Nat → Int
  | 0 => 0
  | m + 1 => 27 * wcS T q m + tz T (q + m) - 96
def wc (T : Tx) (q : Nat) : Int := if ru T (isB 97 122) q ≤ 12 then wcS T q (ru T (isB 97 122) q) else -1
theorem sk_le {T : Tx} (hn : T.2 ≤ 1600) {p : Nat} (hp : p ≤ T.2) : p ≤ sk T p ∧ sk T p ≤ T.2 := by
  have := ru_le hn isWs hp
  unfold sk; omega
theorem en_le {T : Tx} (hn : T.2 ≤ 1600) {q : Nat} (hq : q ≤ T.2) : q ≤ en T q ∧ en T q ≤ T.2 := by
  unfold en
  by_cases h0 : kd T q = 0
  · rw [if_pos h0]; omega
  · rw [if_neg h0]
    have hlt : q < T.2 := by
      by_cases h : T.2 ≤ q
      · exact absurd (if_pos h) h0
      · omega
    by_cases h1 : kd T q = 1
    · rw [if_pos h1]; have := ru_le hn (isB 97 122) hq; omega
    · rw [if_neg h1]
      by_cases h2 : kd T q = 2
      · rw [if_pos h2]; have := ru_le hn (isB 48 57) hq; omega
      · rw [if_neg h2]; omega
theorem nx_le {T : Tx} (hn : T.2 ≤ 1600) {q : Nat} (hq : q ≤ T.2) : q ≤ nx T q ∧ nx T q ≤ T.2 := by
  have h1 := en_le hn hq
  have h2 := sk_le hn h1.2
  unfold nx; omega
theorem kd_le (T : Tx) (q : Nat) : kd T q ≤ 4 := by unfold kd; (repeat' split) <;> omega
theorem kd_lt {T : Tx} {q : Nat} (h : kd T q ≠ 0) : q < T.2 := by
  by_cases hh : T.2 ≤ q
  · exact absurd (if_pos hh) h
  · omega
theorem kd_1 {T : Tx} {q : Nat} : kd T q = 1 ↔ q < T.2 ∧ isB 97 122 (tz T q) = true := by
  unfold kd
  by_cases h : T.2 ≤ q
  · rw [if_pos h]; constructor <;> intro h' <;> omega
  · rw [if_neg h]
    by_cases h1 : isB 97 122 (tz T q) = true
    · rw [if_pos h1]; exact ⟨fun _ => ⟨by omega, h1⟩, fun _ => rfl⟩
    · rw [if_neg h1]
      refine ⟨fun h' => ?_, fun h' => absurd h'.2 h1⟩
      (repeat' split at h') <;> omega
theorem isB_t {a b z : Int} : isB a b z = true ↔ a ≤ z ∧ z ≤ b := by unfold isB; rw [decide_eq_true_iff]
theorem kd_2 {T : Tx} {q : Nat} : kd T q = 2 ↔ q < T.2 ∧ isB 48 57 (tz T q) = true := by
  unfold kd
  by_cases h : T.2 ≤ q
  · rw [if_pos h]; constructor <;> intro h' <;> omega
  · rw [if_neg h]
    by_cases h1 : isB 97 122 (tz T q) = true
    · rw [if_pos h1]
      refine ⟨fun h' => by omega, fun h' => ?_⟩
      have a1 := isB_t.1 h1
      have a2 := isB_t.1 h'.2
      omega
    · rw [if_neg h1]
      by_cases h2 : isB 48 57 (tz T q) = true
      · rw [if_pos h2]; exact ⟨fun _ => ⟨by omega, h2⟩, fun _ => rfl⟩
      · rw [if_neg h2]
        refine ⟨fun h' => ?_, fun h' => absurd h'.2 h2⟩
        split at h' <;> omega
theorem vlS_bd {T : Tx} {q : Nat} {m : Nat} (h : ∀ j, j < m → isB 48 57 (tz T (q + j)) = true) : 0 ≤ vlS T q m ∧ vlS T q m ≤ 99999 := by
  induction m with
  | zero => simp [vlS]
  | succ m ih =>
    have h1 := ih (fun j hj => h j (by omega))
    have h2 := isB_t.1 (h m (by omega))
    simp only [vlS]
    split <;> omega
/-- both ways of reading a number say the same but beyond 99998 -/
theorem vmS_vl {T : Tx} {q : Nat} {m : Nat} (h : ∀ j, j < m → isB 48 57 (tz T (q + j)) = true) : (vmS T q m = vlS T q m ∨ (99999 ≤ vmS T q m ∧ 99999 ≤ vlS T q m)) ∧ 0 ≤ vmS T q m ∧ vmS T q m ≤ 1000009 := by
  induction m with
  | zero => simp [vlS, vmS]
  | succ m ih =>
    have h1 := ih (fun j hj => h j (by omega))
    have h2 := isB_t.1 (h m (by omega))
    have h3 := vlS_bd (T := T) (q := q) (m := m) (fun j hj => h j (by omega))
    simp only [vlS, vmS]
    split <;> split <;> omega
theorem wcS_bd {T : Tx} {q : Nat} {m : Nat} (h : ∀ j, j < m → isB 97 122 (tz T (q + j)) = true) : 0 ≤ wcS T q m ∧ wcS T q m < 27 ^ m := by
  induction m with
  | zero => simp [wcS]
  | succ m ih =>
    have h1 := ih (fun j hj => h j (by omega))
    have h2 := isB_t.1 (h m (by omega))
    simp only [wcS]
    rw [Int.pow_succ]
    omega
theorem wc_bd {T : Tx} (hn : T.2 ≤ 1600) (q : Nat) : -1 ≤ wc T q ∧ wc T q < 27 ^ 12 := by
  unfold wc
  by_cases h : ru T (isB 97 122) q ≤ 12
  · rw [if_pos h]
    have h1 := wcS_bd (T := T) (q := q) (fun j hj => ((ru_spec hn (isB 97 122) q).2.2 j hj).2)
    have h2 : (27 : Int) ^ ru T (isB 97 122) q ≤ 27 ^ 12 := by
      have := Nat.pow_le_pow_right (show 0 < 27 by decide) h
      exact_mod_cast this
    omega
  · rw [if_neg h]; exact ⟨by decide, by decide⟩
/-- a word's code by its letters -/
def wcL : List Int32 → Int := fun l => l.foldl (fun s x => 27 * s + x.toInt - 96) 0
