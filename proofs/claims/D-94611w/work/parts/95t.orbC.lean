/-! orbits: how many there are does not hang on the order in which they are gone through -/
set_option maxRecDepth 100000
noncomputable def indC (P : Prop) : Int := @ite Int P (Classical.propDecidable P) 1 0
theorem indC_t {P : Prop} (h : P) : indC P = 1 := by unfold indC; exact if_pos h
theorem indC_f {P : Prop} (h : ¬ P) : indC P = 0 := by unfold indC; exact if_neg h
/-- a loop that ends somewhere -/
theorem lp_ex {σ β : Type} (F : Nat → Nat → σ → Option β) (k : σ → Option β) (m : Nat) (I : Nat → σ → Prop)
    (hs : ∀ n i s, i < m → I i s → ∃ s', F (n + 1) i s = F n (i + 1) s' ∧ I (i + 1) s')
    (he : ∀ n s, I m s → F (n + 1) m s = k s) (n : Nat) (s : σ) (hn : m < n) (h0 : I 0 s) : ∃ s', F n 0 s = k s' ∧ I m s' := by
  have key : ∀ i, i ≤ m → ∃ s', F n 0 s = F (n - i) i s' ∧ I i s' := by
    intro i
    induction i with
    | zero => intro _; exact ⟨s, rfl, h0⟩
    | succ i ih =>
      intro hi
      have ⟨t, e, hI⟩ := ih (by omega)
      have ⟨u, e2, hI2⟩ := hs (n - (i + 1)) i t (by omega) hI
      rw [show n - (i + 1) + 1 = n - i by omega] at e2
      exact ⟨u, e.trans e2, hI2⟩
  have ⟨t, e, hI⟩ := key m (Nat.le_refl m)
  refine ⟨t, ?_, hI⟩
  rw [e, show n - m = (n - m - 1) + 1 by omega]
  exact he _ _ hI
theorem sm_1v (f : Nat → Int) (m i : Nat) (v : Int) (hi : i < m) (h1 : f i = v) (h0 : ∀ j, j < m → j ≠ i → f j = 0) : sm f m = v := by
  induction m with
  | zero => omega
  | succ m ih =>
    simp only [sm]
    by_cases h : i = m
    · have e : sm f m = 0 := by
        rw [sm_congr (g := fun _ => 0) (fun j hj => h0 j (by omega) (by omega)), sm_zero]
      rw [e, ← h, h1]; omega
    · rw [ih (by omega) (fun j hj hne => h0 j (by omega) hne), h0 m (by omega) (fun e => h e.symm)]; omega
theorem ex_min (f : Nat → Nat) : ∃ i, ∀ j, f i ≤ f j := by
  have : ∀ v i, f i ≤ v → ∃ i, ∀ j, f i ≤ f j := by
    intro v
    induction v with
    | zero => intro i hi; exact ⟨i, fun j => by omega⟩
    | succ v ih =>
      intro i hi
      by_cases h : ∃ j, f j ≤ v
      · have ⟨j, hj⟩ := h
        exact ih j hj
      · refine ⟨i, fun j => ?_⟩
        have : ¬ f j ≤ v := fun hj => h ⟨j, hj⟩
        omega
  exact this (f 0) 0 (Nat.le_refl _)
def clO (C : Cy) (p : Nat × Int) : Nat := (p.2 % (rnd C : Int)).toNat
theorem clO_cast (C : Cy) (p : Nat × Int) : ((clO C p : Nat) : Int) = p.2 % (rnd C : Int) := by
  have hp := rnd_bd C
  have := Int.emod_nonneg p.2 (show (rnd C : Int) ≠ 0 by omega)
  unfold clO; omega
theorem clO_lt (C : Cy) (p : Nat × Int) : clO C p < rnd C := by
  have hp := rnd_bd C
  have h1 := clO_cast C p
  have h2 := Int.emod_lt_of_pos p.2 (show (0 : Int) < (rnd C : Int) by omega)
  omega
theorem Al_cl (C : Cy) (p : Nat × Int) : Al C p (p.1, ((clO C p : Nat) : Int)) := by
  refine ⟨rfl, ?_⟩
  show p.2 % (rnd C : Int) = ((clO C p : Nat) : Int) % (rnd C : Int)
  rw [clO_cast, Int.emod_emod_of_dvd _ (Int.dvd_refl _)]
theorem cl_eq {C : Cy} {p : Nat × Int} {r b : Nat} (h : Al C p (r, (b : Int))) (hb : b < rnd C) : p.1 = r ∧ clO C p = b := by
  refine ⟨h.1, ?_⟩
  have h1 := clO_cast C p
  have h2 : p.2 % (rnd C : Int) = (b : Int) % (rnd C : Int) := h.2
  have h3 : (b : Int) % (rnd C : Int) = b := Int.emod_eq_of_lt (by omega) (by omega)
  rw [h3] at h2
  omega
/-- the least of its orbit -/
def rpO (C : Cy) (r b : Nat) : Prop := ∀ n, cde C (r, (b : Int)) ≤ cde C (bat C (r, (b : Int)) n)
noncomputable def oc (C : Cy) (M : Nat → Nat → Prop) : Int := sm (fun r => sm (fun b => indC (M r b ∧ rpO C r b)) (rnd C)) (cR C)
def inO (C : Cy) (p : Nat × Int) (r b : Nat) : Prop := b < rnd C ∧ ∃ i, Al C (bat C p i) (r, (b : Int))
def adO (C : Cy) (M : Nat → Nat → Prop) (p : Nat × Int) (r b : Nat) : Prop := M r b ∨ inO C p r b
/-- cells that are thrown from, with all that comes behind them -/
def ClO (C : Cy) (M : Nat → Nat → Prop) : Prop := (∀ r b, M r b → r < cR C ∧ b < rnd C ∧ 0 < hh C r b) ∧ ∀ r b, M r b → ∀ q s, s < rnd C → Al C (bgo C (r, (b : Int))) (q, (s : Int)) → M q s
theorem ClO_go {C : Cy} {M : Nat → Nat → Prop} (hk : kp C = true) (ho : OkC C) (h : ClO C M) {r b : Nat} (hm : M r b) (n : Nat) : ∀ q s, s < rnd C → Al C (bat C (r, (b : Int)) n) (q, (s : Int)) → M q s := by
  have hb := h.1 r b hm
  have hl : Lv C (r, (b : Int)) := ⟨hb.1, hb.2.2⟩
  induction n with
  | zero =>
    intro q s hs ha
    have e1 := cl_eq ha hs
    have e2 := cl_eq (Al_r C (r, (b : Int))) hb.2.1
    have e3 : r = q := e1.1
    have e4 : clO C (r, (b : Int)) = s := e1.2
    rw [← e3, ← e4, e2.2]; exact hm
  | succ n ih =>
    intro q s hs ha
    have hm' := ih _ _ (clO_lt C _) (Al_cl C (bat C (r, (b : Int)) n))
    refine h.2 _ _ hm' q s hs (Al_t (Al_s (Al_go (Al_cl C (bat C (r, (b : Int)) n)) (Lv_at hk ho hl n).1)) ha)
theorem adO_Cl {C : Cy} {M : Nat → Nat → Prop} (hk : kp C = true) (ho : OkC C) (h : ClO C M) {p : Nat × Int} (hp : Lv C p) : ClO C (adO C M p) := by
  refine ⟨fun r b hm => ?_, fun r b hm q s hs ha => ?_⟩
  · rcases hm with hm | ⟨hb, i, hi⟩
    · exact h.1 r b hm
    · have := Al_lv hi (Lv_at hk ho hp i)
      exact ⟨this.1, hb, this.2⟩
  · rcases hm with hm | ⟨hb, i, hi⟩
    · exact Or.inl (h.2 r b hm q s hs ha)
    · exact Or.inr ⟨hs, i + 1, Al_t (Al_go hi (Lv_at hk ho hp i).1) ha⟩
theorem orb_not {C : Cy} {M : Nat → Nat → Prop} (hk : kp C = true) (ho : OkC C) (h : ClO C M) {p : Nat × Int} (hp : Lv C p) (hn : ¬ M p.1 (clO C p)) {r b : Nat} (hi : inO C p r b) : ¬ M r b := by
  intro hm
  obtain ⟨hb, i, hi⟩ := hi
  have ⟨L, _, hL⟩ := comes hk ho hp
  apply hn
  refine ClO_go hk ho h hm ((L + 1) * (i + 1) - i) _ _ (clO_lt C p) ?_
  have hi' := Lv_at hk ho hp i
  have e1 := Al_at hk ho hi hi' ((L + 1) * (i + 1) - i)
  rw [bat_add] at e1
  have hle : i ≤ (L + 1) * (i + 1) := by
    have := Nat.mul_le_mul (show 1 ≤ L + 1 by omega) (Nat.le_refl (i + 1))
    omega
  rw [show i + ((L + 1) * (i + 1) - i) = (L + 1) * (i + 1) + 0 by omega] at e1
  exact Al_t (Al_s e1) (Al_t (per_at hk ho hp hL 0 (i + 1)) (Al_cl C p))
theorem oc_add {C : Cy} {M : Nat → Nat → Prop} (hk : kp C = true) (ho : OkC C) (h : ClO C M) {p : Nat × Int} (hp : Lv C p) (hn : ¬ M p.1 (clO C p)) : oc C (adO C M p) = oc C M + 1 := by
  have e1 : oc C (adO C M p) = sm (fun r => sm (fun b => indC (M r b ∧ rpO C r b)) (rnd C) + sm (fun b => indC (inO C p r b ∧ rpO C r b)) (rnd C)) (cR C) := by
    unfold oc
    apply sm_congr
    intro r _
    rw [← sm_add]
    apply sm_congr
    intro b _
    by_cases hr : rpO C r b
    · by_cases hm : M r b
      · rw [indC_t ⟨Or.inl hm, hr⟩, indC_t ⟨hm, hr⟩, indC_f (fun hx => orb_not hk ho h hp hn hx.1 hm)]; rfl
      · by_cases hi : inO C p r b
        · rw [indC_t ⟨Or.inr hi, hr⟩, indC_f (fun hx => hm hx.1), indC_t ⟨hi, hr⟩]; rfl
        · rw [indC_f (fun hx => hx.1.elim hm hi), indC_f (fun hx => hm hx.1), indC_f (fun hx => hi hx.1)]; rfl
    · rw [indC_f (fun hx => hr hx.2), indC_f (fun hx => hr hx.2), indC_f (fun hx => hr hx.2)]; rfl
  rw [e1, sm_add]
  show oc C M + _ = _
  congr 1
  have ⟨L, _, hL⟩ := comes hk ho hp
  have ⟨i0, h0⟩ := ex_min (fun i => cde C (bat C p i))
  have hq := Lv_at hk ho hp i0
  have huniq : ∀ r b, inO C p r b → rpO C r b → r = (bat C p i0).1 ∧ b = clO C (bat C p i0) := by
    intro r b hi hr
    obtain ⟨hb, i, hi⟩ := hi
    have c1 := hr ((L + 1) * i + i0 - i)
    have e1 := Al_at hk ho hi (Lv_at hk ho hp i) ((L + 1) * i + i0 - i)
    rw [bat_add] at e1
    have hle : i ≤ (L + 1) * i := by
      have := Nat.mul_le_mul (show 1 ≤ L + 1 by omega) (Nat.le_refl i)
      omega
    rw [show i + ((L + 1) * i + i0 - i) = (L + 1) * i + i0 by omega] at e1
    have c2 := cde_al (Al_t (Al_s e1) (per_at hk ho hp hL i0 i))
    have c3 := cde_al hi
    have c4 : cde C (bat C p i0) ≤ cde C (bat C p i) := h0 i
    have c5 : cde C (bat C p i0) = cde C (r, (b : Int)) := by omega
    have := cl_eq (cde_eq c5) hb
    exact ⟨this.1.symm, this.2.symm⟩
  have hrep : rpO C (bat C p i0).1 (clO C (bat C p i0)) := by
    intro n
    have ha := Al_cl C (bat C p i0)
    rw [← cde_al ha, ← cde_al (Al_at hk ho ha hq n), bat_add]
    exact h0 (i0 + n)
  refine sm_1v _ _ (bat C p i0).1 _ hq.1 (sm_1v _ _ (clO C (bat C p i0)) _ (clO_lt C _) (indC_t ⟨⟨clO_lt C _, i0, Al_cl C _⟩, hrep⟩) (fun b _ hne => indC_f (fun hx => hne (huniq _ _ hx.1 hx.2).2))) (fun r _ hne => ?_)
  rw [sm_congr (g := fun _ => 0) (fun b _ => indC_f (fun hx => hne (huniq _ _ hx.1 hx.2).1)), sm_zero]
noncomputable def sp_orbits (C : Cy) : Int := if 0 < cR C then if kp C = true then oc C (fun r b => 0 < hh C r b) else -1 else -2
def RlO (C : Cy) (ix : Nat → Nat → Nat) (f : Nat → Int32) (M : Nat → Nat → Prop) : Prop := ∀ r b, r < cR C → b < rnd C → (M r b → f (ix r b) = J 1) ∧ (¬ M r b → f (ix r b) = J 0)
def miO (C : Cy) (M : Nat → Nat → Prop) (p : Nat × Int) (i r b : Nat) : Prop := M r b ∨ (b < rnd C ∧ ∃ j, j < i ∧ Al C (bat C p j) (r, (b : Int)))
theorem RlO_iff {C : Cy} {ix : Nat → Nat → Nat} {f : Nat → Int32} {M M' : Nat → Nat → Prop} (h : RlO C ix f M) (hm : ∀ r b, r < cR C → b < rnd C → (M r b ↔ M' r b)) : RlO C ix f M' := fun r b hr hb => ⟨fun x => (h r b hr hb).1 ((hm r b hr hb).2 x), fun x => (h r b hr hb).2 (fun y => x ((hm r b hr hb).1 y))⟩
theorem miO_0 {C : Cy} {ix : Nat → Nat → Nat} {f : Nat → Int32} {M : Nat → Nat → Prop} (p : Nat × Int) (h : RlO C ix f M) : RlO C ix f (miO C M p 0) := RlO_iff h (fun r b _ _ => ⟨Or.inl, fun x => x.elim id (fun ⟨_, j, hj, _⟩ => absurd hj (Nat.not_lt_zero j))⟩)
theorem miO_not {C : Cy} {M : Nat → Nat → Prop} (hk : kp C = true) (ho : OkC C) (h : ClO C M) {p : Nat × Int} (hp : Lv C p) (hn : ¬ M p.1 (clO C p)) {i : Nat} (hi : i ≤ obL C p) : ¬ miO C M p i (bat C p i).1 (clO C (bat C p i)) := by
  intro hx
  rcases hx with hx | ⟨_, j, hj, ha⟩
  · exact orb_not hk ho h hp hn ⟨clO_lt C _, i, Al_cl C _⟩ hx
  · have e1 : Al C (bat C p j) (bat C p i) := Al_t ha (Al_s (Al_cl C _))
    have e2 : bat C p i = bat C (bat C p (i - j)) j := by rw [bat_add, show i - j + j = i by omega]
    rw [e2] at e1
    have e3 := Al_back hk ho hp (Lv_at hk ho hp (i - j)) j e1
    have e4 := ((fi_some _ _ _).1 (ob_some hk ho hp)).2.2 (i - j - 1) (by omega)
    rw [decide_eq_true_iff, show i - j - 1 + 1 = i - j by omega] at e4
    exact e4 (Al_s e3)
theorem obL_al {C : Cy} (hk : kp C = true) (ho : OkC C) {p : Nat × Int} (hp : Lv C p) : Al C (bat C p (obL C p + 1)) p := by
  have := ((fi_some _ _ _).1 (ob_some hk ho hp)).2.1
  rwa [decide_eq_true_iff] at this
theorem obL_lt {C : Cy} (hk : kp C = true) (ho : OkC C) {p : Nat × Int} (hp : Lv C p) : obL C p < cR C * rnd C := ((fi_some _ _ _).1 (ob_some hk ho hp)).1
theorem miO_end {C : Cy} (M : Nat → Nat → Prop) (hk : kp C = true) (ho : OkC C) {p : Nat × Int} (hp : Lv C p) : miO C M p (obL C p + 1) (bat C p (obL C p + 1)).1 (clO C (bat C p (obL C p + 1))) := Or.inr ⟨clO_lt C _, 0, Nat.succ_pos _, Al_t (Al_s (obL_al hk ho hp)) (Al_cl C _)⟩
theorem miO_step {C : Cy} {ix : Nat → Nat → Nat} {f : Nat → Int32} {M : Nat → Nat → Prop} (hix : ∀ r b q s, r < cR C → b < rnd C → q < cR C → s < rnd C → ix r b = ix q s → r = q ∧ b = s) {p : Nat × Int} {i : Nat} (hr : (bat C p i).1 < cR C) (h : RlO C ix f (miO C M p i)) : RlO C ix (upd f (ix (bat C p i).1 (clO C (bat C p i))) (J 1)) (miO C M p (i + 1)) := by
  intro r b hr' hb
  by_cases e : ix r b = ix (bat C p i).1 (clO C (bat C p i))
  · have ⟨e1, e2⟩ := hix r b _ _ hr' hb hr (clO_lt C _) e
    refine ⟨fun _ => by unfold upd; rw [if_pos e], fun hx => absurd (Or.inr ⟨hb, i, Nat.lt_succ_self i, ?_⟩) hx⟩
    rw [e1, e2]; exact Al_cl C _
  · have hne : upd f (ix (bat C p i).1 (clO C (bat C p i))) (J 1) (ix r b) = f (ix r b) := by unfold upd; rw [if_neg e]
    rw [hne]
    have h' := h r b hr' hb
    refine ⟨fun hx => h'.1 ?_, fun hx => h'.2 (fun hy => hx ?_)⟩
    · rcases hx with hx | ⟨_, j, hj, ha⟩
      · exact Or.inl hx
      · refine Or.inr ⟨hb, j, ?_, ha⟩
        by_cases hji : j = i
        · exfalso
          subst hji
          have := cl_eq ha hb
          rw [this.1, this.2] at e
          exact e rfl
        · omega
    · rcases hy with hy | ⟨_, j, hj, ha⟩
      · exact Or.inl hy
      · exact Or.inr ⟨hb, j, by omega, ha⟩
theorem miO_full {C : Cy} {ix : Nat → Nat → Nat} {f : Nat → Int32} {M : Nat → Nat → Prop} (hk : kp C = true) (ho : OkC C) {p : Nat × Int} (hp : Lv C p) (h : RlO C ix f (miO C M p (obL C p + 1))) : RlO C ix f (adO C M p) := by
  refine RlO_iff h (fun r b hr hb => ⟨fun x => ?_, fun x => ?_⟩)
  · rcases x with x | ⟨_, j, _, ha⟩
    · exact Or.inl x
    · exact Or.inr ⟨hb, j, ha⟩
  · rcases x with x | ⟨_, j, ha⟩
    · exact Or.inl x
    · refine Or.inr ⟨hb, j % (obL C p + 1), Nat.mod_lt _ (Nat.succ_pos _), ?_⟩
      have e := per_at hk ho hp (obL_al hk ho hp) (j % (obL C p + 1)) (j / (obL C p + 1))
      rw [Nat.div_add_mod] at e
      exact Al_t (Al_s e) ha
/-- cells that were gone through -/
def dnO (C : Cy) (M : Nat → Nat → Prop) (V : Nat → Nat → Prop) : Prop := ∀ r b, r < cR C → b < rnd C → V r b → 0 < hh C r b → M r b
theorem oc_all {C : Cy} {M : Nat → Nat → Prop} (h : ClO C M) (hd : dnO C M (fun _ _ => True)) : oc C M = oc C (fun r b => 0 < hh C r b) := by
  unfold oc
  apply sm_congr
  intro r hr
  apply sm_congr
  intro b hb
  by_cases hm : M r b ∧ rpO C r b
  · rw [indC_t hm, indC_t ⟨(h.1 r b hm.1).2.2, hm.2⟩]
  · rw [indC_f hm, indC_f (fun hx => hm ⟨hd r b hr hb trivial hx.1, hx.2⟩)]
