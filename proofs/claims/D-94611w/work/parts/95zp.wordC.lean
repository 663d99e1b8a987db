/-! words and their codes -/
set_option maxRecDepth 100000
def wb (i j : Nat) : Int := ((txByt.getD i []).getD j 0).toInt
def wl (i : Nat) : Nat := txLen.getD i 0
def wK (i : Nat) : Int := [9872299, 8740238, 240023, 383153, 1306021, 4721686497, 555, 47, 131638, 298288, 7873079139, 291595537, 1960084, 175252482, 4147840].getD i 0
def cdW (f : Nat → Int) : Nat → Int
  | 0 => 0
  | m + 1 => 27 * cdW f m + f m
theorem wK_code : ∀ i : Fin 15, cdW (fun j => wb i.1 j - 96) (wl i.1) = wK i.1 := by decide +kernel
theorem wb_bd : ∀ i : Fin 15, ∀ j : Fin 7, j.1 < wl i.1 → 97 ≤ wb i.1 j.1 ∧ wb i.1 j.1 ≤ 122 := by decide +kernel
theorem wl_bd : ∀ i : Fin 15, 2 ≤ wl i.1 ∧ wl i.1 ≤ 7 := by decide +kernel
theorem tx_all : ∀ i : Fin 15, ∀ j : Fin 7, j.1 < wl i.1 → ((((txByt.getD i.1 []).getD j.1 0) &&& 255).toUInt32 % 65536).toInt32 = (txByt.getD i.1 []).getD j.1 0 := by decide +kernel
theorem txAt_J {i j : Nat} (hi : i < 15) (hj : j < wl i) : txAt i (J (j : Int)) = some (J (wb i j)) := by
  have h7 := wl_bd ⟨i, hi⟩
  simp only at h7
  have hj7 : j < 7 := by omega
  unfold txAt
  rw [J_nn (by omega), Int.toNat_natCast, if_neg (by rw [jn_0, J_lt (by omega)]; show ¬ ((j : Int) < 0 ∨ wl i ≤ j); omega)]
  congr 1
  refine (tx_all ⟨i, hi⟩ ⟨j, hj7⟩ hj).trans ?_
  exact (J_of _).symm
theorem txL_J {i : Nat} : txL i = J (wl i : Int) := by
  unfold txL wl
  rw [← Int32.ofInt_eq_ofNat]; rfl
theorem cdW_inj {f g : Nat → Int} : ∀ m n, (∀ j, j < m → 1 ≤ f j ∧ f j ≤ 26) → (∀ j, j < n → 1 ≤ g j ∧ g j ≤ 26) → cdW f m = cdW g n → m = n ∧ ∀ j, j < m → f j = g j := by
  have hnn : ∀ (f : Nat → Int) m, (∀ j, j < m → 1 ≤ f j ∧ f j ≤ 26) → 0 ≤ cdW f m := by
    intro f m
    induction m with
    | zero => intro _; simp [cdW]
    | succ m ih =>
      intro h
      have h1 := ih (fun j hj => h j (by omega))
      have h2 := h m (by omega)
      simp only [cdW]; omega
  intro m
  induction m with
  | zero =>
    intro n _ hg h
    cases n with
    | zero => exact ⟨rfl, fun j hj => by omega⟩
    | succ n =>
      exfalso
      have h1 := hnn g n (fun j hj => hg j (by omega))
      have h2 := hg n (by omega)
      simp only [cdW] at h; omega
  | succ m ih =>
    intro n hf hg h
    have h1 := hnn f m (fun j hj => hf j (by omega))
    have h2 := hf m (by omega)
    cases n with
    | zero => exfalso; simp only [cdW] at h; omega
    | succ n =>
      have h3 := hnn g n (fun j hj => hg j (by omega))
      have h4 := hg n (by omega)
      simp only [cdW] at h
      have e1 : cdW f m = cdW g n := by omega
      have e2 : f m = g n := by omega
      obtain ⟨e3, e4⟩ := ih n (fun j hj => hf j (by omega)) (fun j hj => hg j (by omega)) e1
      subst e3
      refine ⟨rfl, fun j hj => ?_⟩
      by_cases hjm : j = m
      · rw [hjm]; exact e2
      · exact e4 j (by omega)
theorem wcS_cd (T : Tx) (q m : Nat) : wcS T q m = cdW (fun j => tz T (q + j) - 96) m := by
  induction m with
  | zero => rfl
  | succ m ih => simp only [wcS, cdW, ih]; omega
def isW (T : Tx) (i q : Nat) : Bool := decide (kd T q = 1 ∧ ru T (isB 97 122) q = wl i) && (fi (fun j => decide (tz T (q + j) ≠ wb i j)) (wl i)).isNone
theorem isW_t {T : Tx} {i q : Nat} : isW T i q = true ↔ (kd T q = 1 ∧ ru T (isB 97 122) q = wl i) ∧ ∀ j, j < wl i → tz T (q + j) = wb i j := by
  unfold isW
  rw [Bool.and_eq_true, decide_eq_true_iff, Option.isNone_iff_eq_none, fi_none]
  constructor
  · intro h
    refine ⟨h.1, fun j hj => ?_⟩
    have := h.2 j hj
    rw [decide_eq_true_iff] at this
    exact Classical.not_not.1 this
  · intro h
    refine ⟨h.1, fun j hj => ?_⟩
    rw [decide_eq_true_iff]
    exact fun hh => hh (h.2 j hj)
theorem wK_pos : ∀ i : Fin 15, 0 < wK i.1 ∧ wK i.1 < 10000000000 := by decide +kernel
theorem cdW_cg {f g : Nat → Int} {m : Nat} (h : ∀ j, j < m → f j = g j) : cdW f m = cdW g m := by
  induction m with
  | zero => rfl
  | succ m ih => simp only [cdW, ih (fun j hj => h j (by omega)), h m (by omega)]
theorem wb_d {i : Nat} (hi : i < 15) {j : Nat} (hj : j < wl i) : 1 ≤ wb i j - 96 ∧ wb i j - 96 ≤ 26 := by
  have h7 := (wl_bd ⟨i, hi⟩).2
  have := wb_bd ⟨i, hi⟩ ⟨j, Nat.lt_of_lt_of_le hj h7⟩ hj
  generalize wb i j = z at *
  have h1 : 97 ≤ z := this.1
  have h2 : z ≤ 122 := this.2
  omega
theorem isW_a1 {T : Tx} {i q m : Nat} (h12 : m ≤ 12) (K : Int) (hK : cdW (fun j => wb i j - 96) (wl i) = K) (h2 : m = wl i) (h3 : ∀ j, j < wl i → tz T (q + j) = wb i j) : (if m ≤ 12 then wcS T q m else -1) = K := by
  rw [if_pos h12, wcS_cd, h2, ← hK]
  exact cdW_cg (fun j hj => by rw [h3 j hj])
theorem isW_a2 {T : Tx} {i q m : Nat} (hi : i < 15) (K : Int) (hK : cdW (fun j => wb i j - 96) (wl i) = K) (hp : 0 < K) (hm : ∀ j, j < m → isB 97 122 (tz T (q + j)) = true) (h : (if m ≤ 12 then wcS T q m else -1) = K) : m = wl i ∧ ∀ j, j < wl i → tz T (q + j) = wb i j := by
  by_cases h12 : m ≤ 12
  · rw [if_pos h12, wcS_cd, ← hK] at h
    have d1 : ∀ j, j < m → 1 ≤ tz T (q + j) - 96 ∧ tz T (q + j) - 96 ≤ 26 := fun j hj => by
      have := isB_t.1 (hm j hj)
      omega
    obtain ⟨e1, e2⟩ := cdW_inj m (wl i) d1 (fun j hj => wb_d hi hj) h
    refine ⟨e1, fun j hj => ?_⟩
    have := e2 j (by rw [e1]; exact hj)
    generalize wb i j = z at *
    omega
  · rw [if_neg h12] at h; omega
theorem isW_aux {T : Tx} {i q m : Nat} (hi : i < 15) (hm : ∀ j, j < m → isB 97 122 (tz T (q + j)) = true) : (m = wl i ∧ ∀ j, j < wl i → tz T (q + j) = wb i j) ↔ (if m ≤ 12 then wcS T q m else -1) = wK i :=
  ⟨fun h => isW_a1 (by rw [h.1]; exact Nat.le_trans (wl_bd ⟨i, hi⟩).2 (by decide)) _ (wK_code ⟨i, hi⟩) h.1 h.2, fun h => isW_a2 hi _ (wK_code ⟨i, hi⟩) (wK_pos ⟨i, hi⟩).1 hm h⟩
/-- a word is that word just if its code is -/
theorem isW_wc {T : Tx} (hn : T.2 ≤ 1600) {i q : Nat} (hi : i < 15) (hk : kd T q = 1) : isW T i q = true ↔ wc T q = wK i := by
  have hr := (ru_spec hn (isB 97 122) q).2.2
  have h := isW_aux (T := T) (i := i) (q := q) (m := ru T (isB 97 122) q) hi (fun j hj => (hr j hj).2)
  rw [isW_t]
  exact Iff.trans ⟨fun x => ⟨x.1.2, x.2⟩, fun x => ⟨⟨hk, x.1⟩, x.2⟩⟩ h
/-! what a reading step says: a value and where it goes on, or what is wrong where -/
abbrev Pr (α : Type) : Type := (α × Nat) ⊕ (Nat × Nat)
def bnd {α β : Type} (r : Pr α) (f : α → Nat → Pr β) : Pr β := match r with
  | .inl (x, q) => f x q
  | .inr e => .inr e
def aNum (T : Tx) (lo hi : Int) (q : Nat) : Pr Int := if kd T q = 2 then if lo ≤ vl T q ∧ vl T q ≤ hi then .inl (vl T q, nx T q) else .inr (2, q) else .inr (1, q)
def aNeeds (T : Tx) (i q : Nat) : Pr Unit := if isW T i q = true then .inl ((), nx T q) else .inr (1, q)
def aTold (T : Tx) (i : Nat) (lo hi : Int) (q : Nat) : Pr Int := bnd (aNeeds T i q) fun _ q => aNum T lo hi q
def aOther (T : Tx) (R : Nat) (r : Int) (q : Nat) : Pr Int := if kd T q = 2 ∧ vl T q = r then .inr (2, q) else aNum T 0 ((R : Int) - 1) q
theorem vl_bd {T : Tx} (hn : T.2 ≤ 1600) (q : Nat) : 0 ≤ vl T q ∧ vl T q ≤ 99999 := vlS_bd (fun j hj => ((ru_spec hn (isB 48 57) q).2.2 j hj).2)
