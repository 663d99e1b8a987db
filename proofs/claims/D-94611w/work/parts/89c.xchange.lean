/-! the component: ways laid out from where they are to end -/
set_option maxRecDepth 100000
def layP (A : Nat → Int) (d : Int) (s : Nat) : Bool := decide (A s = 1000000) && (xst A s d).isSome
theorem xst_congr {A B : Nat → Int} {x : Nat} {d : Int} (h : ∀ q, (A q = d ↔ B q = d)) : xst A x d = xst B x d := by
  unfold xst
  apply fi_congr
  intro i _
  congr 1
  exact decide_eq_decide.2 (h _)
theorem layA_eq (A : Nat → Int) {d : Int} (hd : 0 ≤ d ∧ d < 999999) : ∀ m, ((fo (fun x p => lay1 d x p) m (0, A)).2 = fun s => if s < m ∧ layP A d s = true then d + 1 else A s) ∧ (((fo (fun x p => lay1 d x p) m (0, A)).1 = 0 ∧ ∀ s, s < m → ¬ layP A d s = true) ∨ ((fo (fun x p => lay1 d x p) m (0, A)).1 = 1 ∧ ∃ s, s < m ∧ layP A d s = true)) := by
  intro m
  induction m with
  | zero =>
    refine ⟨?_, Or.inl ⟨rfl, fun s h => by omega⟩⟩
    funext s
    rw [if_neg (by omega)]; rfl
  | succ m ih =>
    have ⟨e, h2⟩ := ih
    have es : fo (fun x p => lay1 d x p) (m + 1) (0, A) = lay1 d m (fo (fun x p => lay1 d x p) m (0, A)) := rfl
    rw [es]
    generalize fo (fun x p => lay1 d x p) m (0, A) = q at e h2 ⊢
    have e1 : q.2 m = A m := by rw [e]; simp only; rw [if_neg (by omega)]
    have e2 : xst q.2 m d = xst A m d := by
      apply xst_congr
      intro s
      rw [e]
      simp only
      by_cases h : s < m ∧ layP A d s = true
      · rw [if_pos h]
        have h3 := h.2
        unfold layP at h3
        rw [Bool.and_eq_true, decide_eq_true_iff] at h3
        omega
      · rw [if_neg h]
    unfold lay1
    rw [e1, e2]
    by_cases hc : A m = 1000000 ∧ (xst A m d).isSome = true
    · have hp : layP A d m = true := by unfold layP; rw [Bool.and_eq_true, decide_eq_true_iff]; exact hc
      rw [if_pos hc]
      refine ⟨?_, Or.inr ⟨rfl, m, by omega, hp⟩⟩
      funext s
      simp only
      by_cases hs : s = m
      · subst hs; rw [if_pos rfl, if_pos ⟨by omega, hp⟩]
      · rw [if_neg hs, e]
        simp only
        by_cases h : s < m ∧ layP A d s = true
        · rw [if_pos h, if_pos ⟨by omega, h.2⟩]
        · rw [if_neg h, if_neg (fun h' => h ⟨by omega, h'.2⟩)]
    · have hp : ¬ layP A d m = true := by unfold layP; rw [Bool.and_eq_true, decide_eq_true_iff]; exact hc
      rw [if_neg hc]
      refine ⟨?_, ?_⟩
      · rw [e]
        funext s
        by_cases h : s < m ∧ layP A d s = true
        · rw [if_pos h, if_pos ⟨by omega, h.2⟩]
        · rw [if_neg h, if_neg (fun h' => by
            rcases Nat.lt_succ_iff_lt_or_eq.1 h'.1 with h3 | h3
            · exact h ⟨h3, h'.2⟩
            · subst h3; exact hp h'.2)]
      · rcases h2 with ⟨a, b⟩ | ⟨a, s, hs, b⟩
        · left
          refine ⟨a, fun s hs => ?_⟩
          rcases Nat.lt_succ_iff_lt_or_eq.1 hs with h3 | h3
          · exact b s h3
          · subst h3; exact hp
        · right; exact ⟨a, s, by omega, b⟩
def Bf (g : Nat) (d : Int) (A : Nat → Int) : Prop := A g = 0 ∧ (∀ s, s < 512 → A s = 1000000 ∨ (0 ≤ A s ∧ A s ≤ d ∧ rch g (A s).toNat s = true)) ∧ ∀ s h, s < 512 → h < 10 → okS s h = true → A (nxS s h) < d → A s ≤ A (nxS s h) + 1
def nfar (A : Nat → Int) : Int := sm (fun s => ind (A s = 1000000)) 512
theorem nfar_bd (A : Nat → Int) : 0 ≤ nfar A ∧ nfar A ≤ 512 := by
  have := sm_bd (fun s => ind (A s = 1000000)) 512 0 1 (fun s _ => by unfold ind; split <;> omega)
  unfold nfar; omega
theorem sm_lt (f g : Nat → Int) (m i : Nat) (hi : i < m) (h : ∀ j, j < m → f j ≤ g j) (h1 : f i < g i) : sm f m < sm g m := by
  induction m with
  | zero => omega
  | succ m ih =>
    simp only [sm]
    have h2 := h m (by omega)
    by_cases hm : i = m
    · subst hm
      have := sm_le f g i (fun j hj => h j (by omega))
      omega
    · have := ih (by omega) (fun j hj => h j (by omega))
      omega
theorem xst_ex {A : Nat → Int} {x : Nat} {d : Int} (h : (xst A x d).isSome = true) : ∃ k, k < 10 ∧ okS x k = true ∧ A (nxS x k) = d := by
  rw [Option.isSome_iff_exists] at h
  have ⟨k, hk⟩ := h
  have ⟨a, b, _⟩ := (fi_some _ _ _).1 hk
  rw [Bool.and_eq_true, decide_eq_true_iff] at b
  exact ⟨k, a, b.1, b.2⟩
theorem xst_no {A : Nat → Int} {x : Nat} {d : Int} {k : Nat} (hk : k < 10) (h1 : okS x k = true) (h2 : A (nxS x k) = d) : (xst A x d).isSome = true := by
  rw [Option.isSome_iff_ne_none]
  intro hn
  have := (fi_none _ _).1 hn k hk
  rw [Bool.and_eq_true, decide_eq_true_iff] at this
  exact this ⟨h1, h2⟩
theorem Bf_next {g : Nat} {d : Int} {A : Nat → Int} (hd : 0 ≤ d ∧ d < 999998) (hg : g < 512) (hA : Bf g d A) : Bf g (d + 1) (fun s => if s < 512 ∧ layP A d s = true then d + 1 else A s) := by
  have ha : ∀ s, layP A d s = true → A s = 1000000 ∧ (xst A s d).isSome = true := by
    intro s h
    unfold layP at h
    rw [Bool.and_eq_true, decide_eq_true_iff] at h
    exact h
  refine ⟨?_, fun s hs => ?_, fun s h hs hh9 hok hlt => ?_⟩
  · simp only
    rw [if_neg (fun h => by have := (ha g h.2).1; have := hA.1; omega)]
    exact hA.1
  · simp only
    by_cases h : s < 512 ∧ layP A d s = true
    · rw [if_pos h]
      right
      refine ⟨by omega, by omega, ?_⟩
      have ⟨k, hk, h1, h2⟩ := xst_ex (ha s h.2).2
      have hl : nxS s k < 512 := nxS_lt ⟨s, hs⟩ ⟨k, hk⟩
      rcases hA.2.1 _ hl with h3 | ⟨_, _, h3⟩
      · omega
      · rw [h2] at h3
        rw [show (d + 1).toNat = d.toNat + 1 by omega]
        exact rch_go hk h1 h3
    · rw [if_neg h]
      rcases hA.2.1 s hs with h1 | ⟨h1, h2, h3⟩
      · exact Or.inl h1
      · exact Or.inr ⟨h1, by omega, h3⟩
  · simp only at hlt ⊢
    have hl : nxS s h < 512 := nxS_lt ⟨s, hs⟩ ⟨h, hh9⟩
    by_cases h1 : nxS s h < 512 ∧ layP A d (nxS s h) = true
    · rw [if_pos h1] at hlt; omega
    · rw [if_neg h1] at hlt ⊢
      by_cases h2 : A (nxS s h) = d
      · by_cases h3 : s < 512 ∧ layP A d s = true
        · rw [if_pos h3]; omega
        · rw [if_neg h3]
          rcases hA.2.1 s hs with h4 | ⟨_, h4, _⟩
          · exfalso
            apply h3
            refine ⟨hs, ?_⟩
            unfold layP
            rw [Bool.and_eq_true, decide_eq_true_iff]
            exact ⟨h4, xst_no hh9 hok h2⟩
          · omega
      · have h3 := hA.2.2 s h hs hh9 hok (by omega)
        by_cases h4 : s < 512 ∧ layP A d s = true
        · have := (ha s h4.2).1
          rcases hA.2.1 _ hl with h5 | ⟨_, h5, _⟩ <;> omega
        · rw [if_neg h4]; exact h3
section
variable {N o c : Nat} {S : XS} {w : Wd} {C : Cy} {th : Nat → Nat}
theorem Bf_bdd {g : Nat} {d : Int} {A : Nat → Int} (hd : d ≤ 1000000) (h : Bf g d A) : Bdd A := by
  intro s hs
  rcases h.2.1 s hs with h1 | ⟨h1, h2, _⟩ <;> omega
theorem X_lay37 (hN : 1000000 ≤ N) {g : Nat} (hg : g < 512) (k : Wd → Option Wd) : ∀ (n : Nat) (d : Nat) (A : Nat → Int), Bf g d A → (d : Int) + nfar A ≤ 512 → (nfar A).toNat + 1 < n → ∃ B, fX0_lays_37 N o k n (J 1) (J d) (emX o (xSR S 16 (fun q => J (A q))) w) = k (emX o (xSR S 16 (fun q => J (B q))) w) ∧ Dst g B := by
  intro n
  induction n with
  | zero => intro d A _ _ h; omega
  | succ n ih =>
    intro d A hB hdn hn
    have hf := nfar_bd A
    rw [fX0_lays_37]
    simp (disch := omega) only [jn_0, jn_1, jn_2, jn_3, jn_4, jn_5, jn_6, jn_8, jn_9, jn_10, jn_11, jn_12, jn_16, jn_20, jn_24, jn_30, jn_31, jn_32, jn_36, jn_48, jn_57, jn_59, jn_60, jn_63, jn_72, jn_73, jn_96, jn_97, jn_100, jn_122, jn_144, jn_200, jn_240, jn_288, jn_512, jn_840, jn_1200, jn_1600, jn_5040, jn_5390, jn_5400, jn_9999, jn_18688, jn_32400, jn_99999, jn_100000, jn_1000000, jn_858993459, jn_1431655765, jn_252645135, jl_0, jl_1, jl_2, jl_3, jl_8, jl_9, jl_10, jl_20, jl_27, jl_47, jl_96, jl_99, jl_100, jl_200, jl_555, jl_2000, jl_10000, jl_12345, jl_65536, jl_99999, jl_131638, jl_240023, jl_298288, jl_383153, jl_1306021, jl_1960084, jl_4147840, jl_8740238, jl_9872299, jl_175252482, jl_291595537, jl_1103515245, jl_2000000000, jl_2147483648, jl_4721686497, jl_7873079139, J_add, J_sub, J_mul, J_neg, JL_add, JL_sub, JL_mul, JL_neg, J_long, JL_int, ↓remI_fold, ↓remL_fold, Int.reduceAdd, Int.reduceSub, Int.reduceMul, Int.reduceNeg, Int.reduceToNat, J_eq, Option.bind_some, castS]
    rw [if_neg (by omega)]
    have hb := Bf_bdd (by omega) hB
    have e := X_lay46 (N := N) (o := o) (S := S) (w := w) hN (d := d) (by omega) (fun y19 w20 => fX0_lays_37 N o k n y19 (J ((d + 1 : Nat) : Int)) w20) (n := N) (by omega) (0, A) hb (Or.inl rfl)
    rw [show J ((0, A) : Int × (Nat → Int)).1 = J 0 from rfl, show ((0, A) : Int × (Nat → Int)).2 = A from rfl] at e
    rw [e]
    have ⟨q1, q2⟩ := layA_eq A (d := d) (by omega) 512
    rw [show fo (fun x p => lay1 d x p) 512 (0, A) = layA d (0, A) from rfl] at q1 q2
    have hnext := Bf_next (by omega) hg hB
    rcases q2 with ⟨q2, q3⟩ | ⟨q2, s, hs, q3⟩
    · rw [q2]
      have eA : (layA d (0, A)).2 = A := by
        rw [q1]; funext s
        rw [if_neg (fun h => q3 s h.1 h.2)]
      rw [eA]
      cases n with
      | zero => omega
      | succ n =>
        refine ⟨A, ?_, hB.1, fun s hs => ?_, fun s h hs hh9 hok => ?_⟩
        · rw [fX0_lays_37, jn_0, if_pos rfl]
        · rcases hB.2.1 s hs with h1 | ⟨h1, h2, h3⟩
          · exact Or.inl h1
          · exact Or.inr ⟨h1, by omega, h3⟩
        · rw [← q1, eA] at hnext
          have hl : nxS s h < 512 := nxS_lt ⟨s, hs⟩ ⟨h, hh9⟩
          rcases hB.2.1 _ hl with h1 | ⟨h1, h2, h3⟩
          · have := hb s hs; omega
          · exact hnext.2.2 s h hs hh9 hok (by omega)
    · rw [q2]
      rw [← q1] at hnext
      have hlt : nfar (layA d (0, A)).2 < nfar A := by
        unfold nfar
        have hp : A s = 1000000 := by
          unfold layP at q3
          rw [Bool.and_eq_true, decide_eq_true_iff] at q3
          exact q3.1
        refine sm_lt _ _ 512 s hs (fun j hj => ?_) ?_
        · rw [q1]
          unfold ind
          by_cases h1 : j < 512 ∧ layP A d j = true
          · simp only [if_pos h1]
            rw [if_neg (by omega)]
            split <;> omega
          · simp only [if_neg h1]; exact Int.le_refl _
        · rw [q1]
          unfold ind
          simp only [if_pos (show s < 512 ∧ layP A d s = true from ⟨hs, q3⟩), if_pos hp]
          rw [if_neg (by omega)]; decide
      have hf' := nfar_bd (layA d (0, A)).2
      exact ih (d + 1) _ (by rw [Int.natCast_add]; exact hnext) (by rw [Int.natCast_add]; omega) (by omega)
theorem X_lays (hN : 1000000 ≤ N) {g : Nat} (hg : g < 512) : ∃ B, fX0_lays N (emX o S w) o (J g) = some (emX o (xSR S 16 (fun q => J (B q))) w) ∧ Dst g B := by
  have e0 : S = xSR S 16 (fun s => J ((xa S 16 s).toInt)) := by
    rw [fun_J]; exact (xSR_id S 16).symm
  unfold fX0_lays
  simp only [jn_0, jn_1, jn_2, jn_3, jn_4, jn_5, jn_6, jn_8, jn_9, jn_10, jn_11, jn_12, jn_16, jn_20, jn_24, jn_30, jn_31, jn_32, jn_36, jn_48, jn_57, jn_59, jn_60, jn_63, jn_72, jn_73, jn_96, jn_97, jn_100, jn_122, jn_144, jn_200, jn_240, jn_288, jn_512, jn_840, jn_1200, jn_1600, jn_5040, jn_5390, jn_5400, jn_9999, jn_18688, jn_32400, jn_99999, jn_100000, jn_1000000, jn_858993459, jn_1431655765, jn_252645135, jl_0, jl_1, jl_2, jl_3, jl_8, jl_9, jl_10, jl_20, jl_27, jl_47, jl_96, jl_99, jl_100, jl_200, jl_555, jl_2000, jl_10000, jl_12345, jl_65536, jl_99999, jl_131638, jl_240023, jl_298288, jl_383153, jl_1306021, jl_1960084, jl_4147840, jl_8740238, jl_9872299, jl_175252482, jl_291595537, jl_1103515245, jl_2000000000, jl_2147483648, jl_4721686497, jl_7873079139, J_add, J_sub, J_mul, J_neg, JL_add, JL_sub, JL_mul, JL_neg, J_long, JL_int, ↓remI_fold, ↓remL_fold, Int.reduceAdd, Int.reduceSub, Int.reduceMul, Int.reduceNeg, Int.reduceToNat]
  have e1 := X_lay2 (N := N) (o := o) (S := S) (w := w) hg (fun w6 => fX0_lays_37 N o (fun w22 => some w22) N (J 1) (J 0) w6) (n := N) (by omega) (fun s => (xa S 16 s).toInt)
  rw [← e0] at e1
  rw [e1]
  have hB : Bf g ((0 : Nat) : Int) (fun s => if s < 512 then (if s = g then 0 else 1000000) else (xa S 16 s).toInt) := by
    refine ⟨by simp only [if_pos hg, if_true], fun s hs => ?_, fun s h hs hh9 hok hlt => ?_⟩
    · simp only [if_pos hs]
      by_cases h : s = g
      · rw [if_pos h]; right; exact ⟨by omega, by omega, by simp [rch, h]⟩
      · rw [if_neg h]; left; rfl
    · exfalso
      have hl : nxS s h < 512 := nxS_lt ⟨s, hs⟩ ⟨h, hh9⟩
      simp only [if_pos hl] at hlt
      split at hlt <;> omega
  have hn : nfar (fun s => if s < 512 then (if s = g then (0 : Int) else 1000000) else (xa S 16 s).toInt) ≤ 512 := (nfar_bd _).2
  exact X_lay37 (N := N) hN hg (fun w22 => some w22) N 0 _ hB (by omega) (by omega)
theorem X_state (hg : gR w [0] o 0 = some c) (h : Hc w c th C) (ho : OkC C) (hN : 1000000 ≤ N) {v i : Int} (hv : -2147483648 ≤ v ∧ v ≤ 2147483647) (hi : -2147483648 ≤ i ∧ i ≤ 2147483647) : fX0_state N w o (J v) (J i) = some (J (sp_state C v i)) := by
  have hP := cP_bd C v.toNat
  unfold fX0_state sp_state
  simp (disch := omega) only [jn_0, jn_1, jn_2, jn_3, jn_4, jn_5, jn_6, jn_8, jn_9, jn_10, jn_11, jn_12, jn_16, jn_20, jn_24, jn_30, jn_31, jn_32, jn_36, jn_48, jn_57, jn_59, jn_60, jn_63, jn_72, jn_73, jn_96, jn_97, jn_100, jn_122, jn_144, jn_200, jn_240, jn_288, jn_512, jn_840, jn_1200, jn_1600, jn_5040, jn_5390, jn_5400, jn_9999, jn_18688, jn_32400, jn_99999, jn_100000, jn_1000000, jn_858993459, jn_1431655765, jn_252645135, jl_0, jl_1, jl_2, jl_3, jl_8, jl_9, jl_10, jl_20, jl_27, jl_47, jl_96, jl_99, jl_100, jl_200, jl_555, jl_2000, jl_10000, jl_12345, jl_65536, jl_99999, jl_131638, jl_240023, jl_298288, jl_383153, jl_1306021, jl_1960084, jl_4147840, jl_8740238, jl_9872299, jl_175252482, jl_291595537, jl_1103515245, jl_2000000000, jl_2147483648, jl_4721686497, jl_7873079139, J_add, J_sub, J_mul, J_neg, JL_add, JL_sub, JL_mul, JL_neg, J_long, JL_int, ↓remI_fold, ↓remL_fold, Int.reduceAdd, Int.reduceSub, Int.reduceMul, Int.reduceNeg, Int.reduceToNat, Classical.not_not, em_t, Bp_eq0, Bp_eq1, Bp_01, Bp_mk, Bp_mk', Bp_0, Bp_0', Bp_1, Bp_1', if_true, if_false, ite_not, X_isThrow hg h, Option.bind_some]
  by_cases h1 : (0 ≤ v ∧ v < cR C) ∧ 0 ≤ i ∧ i < cP C v.toNat
  case neg => simp only [if_neg h1, ite_self]
  simp only [if_pos h1]
  obtain ⟨r, hr⟩ : ∃ r : Nat, v = r := ⟨v.toNat, by omega⟩
  subst hr
  simp only [Int.toNat_natCast] at h1 hP ⊢
  have hr' : r < cR C := by omega
  simp (disch := omega) only [Classical.not_not, em_t, Bp_eq0, Bp_eq1, Bp_01, Bp_mk, Bp_mk', Bp_0, Bp_0', Bp_1, Bp_1', if_true, if_false, ite_not, hg, hc_0 h, hc_1 h, hc_2 h, hc_3 h, hc_4 h, hc_5 h, hc_7 h, hc_8 h, hc_9 h, hc_10 h, hc_11 h, hc_12 h, hc_k h, hc_at h, Int.toNat_natCast, X_keepsAlone h ho hN hr', X_stateOf h hN hr', Option.bind_some]
  by_cases h2 : solo C r = true
  case neg => simp only [if_neg h2, ite_self]
  simp only [if_pos h2]
theorem X_groundB (hN : 1000000 ≤ N) {x : Nat} (hx : x < 512) : ∃ S', ((fX0_lays N (emX o S w) o ((J 1 <<< (J (popc x) &&& J 31)) - J 1)).bind fun w11 => (gR w11 [0] o 12).bind fun x12 => (aI 0 w11 x12 (J x)).bind fun x13 => some (x13, w11)) = some (J (dist (1 <<< popc x - 1) x), emX o S' w) ∧ FrX S S' := by
  have hpc := popc_lt x
  generalize popc x = p at *
  rw [J_shlz (by omega), Int.toNat_natCast, J_sub]
  have hp : 1 ≤ 1 <<< p ∧ 1 <<< p ≤ 512 := by
    rw [Nat.shiftLeft_eq, Nat.one_mul]
    exact ⟨Nat.one_le_two_pow, Nat.pow_le_pow_right (n := 2) (by decide) hpc⟩
  have hz : ∀ a : Nat, 1 ≤ a → (a : Int) - 1 = ((a - 1 : Nat) : Int) := by intro a h; omega
  rw [hz _ hp.1]
  have ⟨B, e, hB⟩ := X_lays (N := N) (o := o) (S := S) (w := w) hN (g := 1 <<< p - 1) (by omega)
  refine ⟨xSR S 16 (fun q => J (B q)), ?_, FrX_R _ 16 _ (by decide)⟩
  rw [e, Option.bind_some]
  simp (disch := omega) only [xg_0, xg_1, xg_2, xg_3, xg_4, xg_5, xg_6, xg_7, xg_8, xg_9, xg_10, xg_11, xg_12, xg_13, xg_14, xg_15, xg_16, xg_17, xg_18, xg_19, xg_20, xg_21, xg_22, xg_23, xg_s1, xg_s2, xg_s3, xg_b0, xg_b1, xg_b2, xk_0, xk_s, xk_b, xr_8, xr_10, xr_11, xr_13, xr_14, xr_15, xr_16, xr_17, xr_18, xr_19, xr_20, xr_21, xc_C, xc_I, xc_A, xc_R, xc_B, xc_Q, xi_C, xi_I, xi_A, xi_R, xi_B, xi_Q, xa_C, xa_I, xa_A, xa_R, xa_B, xa_Q, xb_C, xb_I, xb_A, xb_R, xb_B, xb_Q, Nat.reduceEqDiff, eq_self, if_true, if_false, reduceIte, Int.toNat_natCast, Option.bind_some]
  rw [Dst_dist hB hx]
theorem X_asksChange (hX : ∀ S, Hc (emX o S w) c th C) (hc : xc S = c) (ho : OkC C) (hN : 1000000 ≤ N) {v i u k : Int} (hv : -2147483648 ≤ v ∧ v ≤ 2147483647) (hi : -2147483648 ≤ i ∧ i ≤ 2147483647) (hu : -2147483648 ≤ u ∧ u ≤ 2147483647) (hk : -2147483648 ≤ k ∧ k ≤ 2147483647) : ∃ S', fX0_asksChange N (emX o S w) o (J v) (J i) (J u) (J k) = some (J (if (0 ≤ v ∧ v < cR C) ∧ 0 ≤ i ∧ i < cP C v.toNat then if (0 ≤ u ∧ u < cR C) ∧ 0 ≤ k ∧ k < cP C u.toNat then if solo C v.toNat = true then if solo C u.toNat = true then if dist (st C u.toNat k) (st C v.toNat i) = 1000000 then -1 else 0 else -1 else -1 else -2 else -2), emX o S' w) ∧ FrX S S' ∧ (((0 ≤ v ∧ v < cR C) ∧ 0 ≤ i ∧ i < cP C v.toNat) → ((0 ≤ u ∧ u < cR C) ∧ 0 ≤ k ∧ k < cP C u.toNat) → solo C v.toNat = true → solo C u.toNat = true → ∃ B, S' = xSR (xSI S 13 (J (st C v.toNat i))) 16 (fun q => J (B q)) ∧ Dst (st C u.toNat k) B) := by
  have h := hX S
  have hg : gR (emX o S w) [0] o 0 = some c := xg hc
  have hP := cP_bd C v.toNat
  have hP' := cP_bd C u.toNat
  unfold fX0_asksChange
  simp (disch := omega) only [jn_0, jn_1, jn_2, jn_3, jn_4, jn_5, jn_6, jn_8, jn_9, jn_10, jn_11, jn_12, jn_16, jn_20, jn_24, jn_30, jn_31, jn_32, jn_36, jn_48, jn_57, jn_59, jn_60, jn_63, jn_72, jn_73, jn_96, jn_97, jn_100, jn_122, jn_144, jn_200, jn_240, jn_288, jn_512, jn_840, jn_1200, jn_1600, jn_5040, jn_5390, jn_5400, jn_9999, jn_18688, jn_32400, jn_99999, jn_100000, jn_1000000, jn_858993459, jn_1431655765, jn_252645135, jl_0, jl_1, jl_2, jl_3, jl_8, jl_9, jl_10, jl_20, jl_27, jl_47, jl_96, jl_99, jl_100, jl_200, jl_555, jl_2000, jl_10000, jl_12345, jl_65536, jl_99999, jl_131638, jl_240023, jl_298288, jl_383153, jl_1306021, jl_1960084, jl_4147840, jl_8740238, jl_9872299, jl_175252482, jl_291595537, jl_1103515245, jl_2000000000, jl_2147483648, jl_4721686497, jl_7873079139, J_add, J_sub, J_mul, J_neg, JL_add, JL_sub, JL_mul, JL_neg, J_long, JL_int, ↓remI_fold, ↓remL_fold, Int.reduceAdd, Int.reduceSub, Int.reduceMul, Int.reduceNeg, Int.reduceToNat, Classical.not_not, em_t, Bp_eq0, Bp_eq1, Bp_01, Bp_mk, Bp_mk', Bp_0, Bp_0', Bp_1, Bp_1', if_true, if_false, ite_not, X_isThrow hg h, Option.bind_some]
  by_cases h1 : (0 ≤ v ∧ v < cR C) ∧ 0 ≤ i ∧ i < cP C v.toNat
  case neg => exact ⟨S, by rw [if_neg h1, if_neg h1], FrX_r S, fun h => absurd h h1⟩
  simp only [if_pos h1]
  by_cases h2 : (0 ≤ u ∧ u < cR C) ∧ 0 ≤ k ∧ k < cP C u.toNat
  case neg => exact ⟨S, by rw [if_neg h2, if_neg h2], FrX_r S, fun _ h => absurd h h2⟩
  simp only [if_pos h2]
  obtain ⟨r, hr⟩ : ∃ r : Nat, v = r := ⟨v.toNat, by omega⟩
  subst hr
  obtain ⟨q, hr⟩ : ∃ r : Nat, u = r := ⟨u.toNat, by omega⟩
  subst hr
  simp only [Int.toNat_natCast] at h1 h2 hP hP' ⊢
  have hr' : r < cR C := by omega
  have hq' : q < cR C := by omega
  have hs1 := st_lt C r i
  have hs2 := st_lt C q k
  simp (disch := omega) only [Classical.not_not, em_t, Bp_eq0, Bp_eq1, Bp_01, Bp_mk, Bp_mk', Bp_0, Bp_0', Bp_1, Bp_1', if_true, if_false, ite_not, hg, hc_0 h, hc_1 h, hc_2 h, hc_3 h, hc_4 h, hc_5 h, hc_7 h, hc_8 h, hc_9 h, hc_10 h, hc_11 h, hc_12 h, hc_k h, hc_at h, Int.toNat_natCast, X_keepsAlone h ho hN hr', X_keepsAlone h ho hN hq', X_stateOf h hN hr', Option.bind_some]
  by_cases h3 : solo C r = true
  case neg => exact ⟨S, by rw [if_neg h3, if_neg h3], FrX_r S, fun _ _ h => absurd h h3⟩
  simp only [if_pos h3]
  by_cases h4 : solo C q = true
  case neg => exact ⟨S, by rw [if_neg h4, if_neg h4], FrX_r S, fun _ _ _ h => absurd h h4⟩
  simp only [if_pos h4]
  have h' := hX (xSI S 13 (J (st C r i)))
  have hg' : gR (emX o (xSI S 13 (J (st C r i))) w) [0] o 0 = some c := xg hc
  have ⟨B, e, hB⟩ := X_lays (N := N) (o := o) (S := xSI S 13 (J (st C r i))) (w := w) hN (g := st C q k) hs2
  have hd := Dst_dist hB hs1
  have hbd := dist_bd hB hs1
  refine ⟨xSR (xSI S 13 (J (st C r i))) 16 (fun q => J (B q)), ?_, FrX_t (FrX_I S 13 _ (by decide)) (FrX_R _ 16 _ (by decide)), fun _ _ _ _ => ⟨B, rfl, hB⟩⟩
  simp (disch := omega) only [xp_13, hg', hc_7 h', hc_at h', X_stateOf h' hN hq', e, xg_0, xg_1, xg_2, xg_3, xg_4, xg_5, xg_6, xg_7, xg_8, xg_9, xg_10, xg_11, xg_12, xg_13, xg_14, xg_15, xg_16, xg_17, xg_18, xg_19, xg_20, xg_21, xg_22, xg_23, xg_s1, xg_s2, xg_s3, xg_b0, xg_b1, xg_b2, xk_0, xk_s, xk_b, xr_8, xr_10, xr_11, xr_13, xr_14, xr_15, xr_16, xr_17, xr_18, xr_19, xr_20, xr_21, xc_C, xc_I, xc_A, xc_R, xc_B, xc_Q, xi_C, xi_I, xi_A, xi_R, xi_B, xi_Q, xa_C, xa_I, xa_A, xa_R, xa_B, xa_Q, xb_C, xb_I, xb_A, xb_R, xb_B, xb_Q, Nat.reduceEqDiff, eq_self, if_true, if_false, reduceIte, Int.toNat_natCast, Option.bind_some, hd, J_eq]
  by_cases h5 : dist (st C q k) (st C r i) = 1000000
  · rw [if_pos h5, if_pos h5]
  · rw [if_neg h5, if_neg h5]
theorem X_change (hX : ∀ S, Hc (emX o S w) c th C) (hc : xc S = c) (ho : OkC C) (hN : 1000000 ≤ N) {v i u k : Int} (hv : -2147483648 ≤ v ∧ v ≤ 2147483647) (hi : -2147483648 ≤ i ∧ i ≤ 2147483647) (hu : -2147483648 ≤ u ∧ u ≤ 2147483647) (hk : -2147483648 ≤ k ∧ k ≤ 2147483647) : ∃ S', fX0_change N (emX o S w) o (J v) (J i) (J u) (J k) = some (J (sp_change C v i u k), emX o S' w) ∧ FrX S S' := by
  have ⟨S', e, hF, hS⟩ := X_asksChange (N := N) hX hc ho hN hv hi hu hk
  refine ⟨S', ?_, hF⟩
  unfold fX0_change sp_change
  rw [e, Option.bind_some]
  simp only [jn_0, jn_1, jn_2, jn_3, jn_4, jn_5, jn_6, jn_8, jn_9, jn_10, jn_11, jn_12, jn_16, jn_20, jn_24, jn_30, jn_31, jn_32, jn_36, jn_48, jn_57, jn_59, jn_60, jn_63, jn_72, jn_73, jn_96, jn_97, jn_100, jn_122, jn_144, jn_200, jn_240, jn_288, jn_512, jn_840, jn_1200, jn_1600, jn_5040, jn_5390, jn_5400, jn_9999, jn_18688, jn_32400, jn_99999, jn_100000, jn_1000000, jn_858993459, jn_1431655765, jn_252645135, jl_0, jl_1, jl_2, jl_3, jl_8, jl_9, jl_10, jl_20, jl_27, jl_47, jl_96, jl_99, jl_100, jl_200, jl_555, jl_2000, jl_10000, jl_12345, jl_65536, jl_99999, jl_131638, jl_240023, jl_298288, jl_383153, jl_1306021, jl_1960084, jl_4147840, jl_8740238, jl_9872299, jl_175252482, jl_291595537, jl_1103515245, jl_2000000000, jl_2147483648, jl_4721686497, jl_7873079139, J_add, J_sub, J_mul, J_neg, JL_add, JL_sub, JL_mul, JL_neg, J_long, JL_int, ↓remI_fold, ↓remL_fold, Int.reduceAdd, Int.reduceSub, Int.reduceMul, Int.reduceNeg, Int.reduceToNat]
  by_cases h1 : (0 ≤ v ∧ v < cR C) ∧ 0 ≤ i ∧ i < cP C v.toNat
  case neg => simp only [if_neg h1]; rw [if_neg (by rw [J_le (by omega)]; omega)]
  simp only [if_pos h1]
  by_cases h2 : (0 ≤ u ∧ u < cR C) ∧ 0 ≤ k ∧ k < cP C u.toNat
  case neg => simp only [if_neg h2]; rw [if_neg (by rw [J_le (by omega)]; omega)]
  simp only [if_pos h2]
  by_cases h3 : solo C v.toNat = true
  case neg => simp only [if_neg h3]; rw [if_neg (by rw [J_le (by omega)]; omega)]
  simp only [if_pos h3]
  by_cases h4 : solo C u.toNat = true
  case neg => simp only [if_neg h4]; rw [if_neg (by rw [J_le (by omega)]; omega)]
  simp only [if_pos h4]
  by_cases h5 : dist (st C u.toNat k) (st C v.toNat i) = 1000000
  · simp only [if_pos h5]; rw [if_neg (by rw [J_le (by omega)]; omega)]
  simp only [if_neg h5]
  have ⟨B, e', hB⟩ := hS h1 h2 h3 h4
  have hs1 := st_lt C v.toNat i
  have hd := Dst_dist hB hs1
  subst e'
  rw [if_pos (by rw [J_le (by omega)]; omega)]
  simp (disch := omega) only [xg_0, xg_1, xg_2, xg_3, xg_4, xg_5, xg_6, xg_7, xg_8, xg_9, xg_10, xg_11, xg_12, xg_13, xg_14, xg_15, xg_16, xg_17, xg_18, xg_19, xg_20, xg_21, xg_22, xg_23, xg_s1, xg_s2, xg_s3, xg_b0, xg_b1, xg_b2, xk_0, xk_s, xk_b, xr_8, xr_10, xr_11, xr_13, xr_14, xr_15, xr_16, xr_17, xr_18, xr_19, xr_20, xr_21, xc_C, xc_I, xc_A, xc_R, xc_B, xc_Q, xi_C, xi_I, xi_A, xi_R, xi_B, xi_Q, xa_C, xa_I, xa_A, xa_R, xa_B, xa_Q, xb_C, xb_I, xb_A, xb_R, xb_B, xb_Q, Nat.reduceEqDiff, eq_self, if_true, if_false, reduceIte, Int.toNat_natCast, Option.bind_some, hd]
theorem xst_stp {g : Nat} {B : Nat → Int} (hB : Dst g B) {x : Nat} (hx : x < 512) (d : Int) : xst B x d = stp g x d := by
  unfold xst stp
  apply fi_congr
  intro i hi
  rw [Dst_dist hB (nxS_lt ⟨x, hx⟩ ⟨i, hi⟩)]
theorem X_changes (hX : ∀ S, Hc (emX o S w) c th C) (hc : xc S = c) (ho : OkC C) (hN : 1000000 ≤ N) {v i u k m : Int} (hv : -2147483648 ≤ v ∧ v ≤ 2147483647) (hi : -2147483648 ≤ i ∧ i ≤ 2147483647) (hu : -2147483648 ≤ u ∧ u ≤ 2147483647) (hk : -2147483648 ≤ k ∧ k ≤ 2147483647) (hm : -2147483648 ≤ m ∧ m ≤ 2147483647) : ∃ S', fX0_changes N (emX o S w) o (J v) (J i) (J u) (J k) (J m) = some (J (sp_changes C v i u k m), emX o S' w) ∧ FrX S S' := by
  have ⟨S', e, hF, hS⟩ := X_asksChange (N := N) hX hc ho hN hv hi hu hk
  refine ⟨S', ?_, hF⟩
  unfold fX0_changes sp_changes
  rw [e, Option.bind_some]
  simp only [jn_0, jn_1, jn_2, jn_3, jn_4, jn_5, jn_6, jn_8, jn_9, jn_10, jn_11, jn_12, jn_16, jn_20, jn_24, jn_30, jn_31, jn_32, jn_36, jn_48, jn_57, jn_59, jn_60, jn_63, jn_72, jn_73, jn_96, jn_97, jn_100, jn_122, jn_144, jn_200, jn_240, jn_288, jn_512, jn_840, jn_1200, jn_1600, jn_5040, jn_5390, jn_5400, jn_9999, jn_18688, jn_32400, jn_99999, jn_100000, jn_1000000, jn_858993459, jn_1431655765, jn_252645135, jl_0, jl_1, jl_2, jl_3, jl_8, jl_9, jl_10, jl_20, jl_27, jl_47, jl_96, jl_99, jl_100, jl_200, jl_555, jl_2000, jl_10000, jl_12345, jl_65536, jl_99999, jl_131638, jl_240023, jl_298288, jl_383153, jl_1306021, jl_1960084, jl_4147840, jl_8740238, jl_9872299, jl_175252482, jl_291595537, jl_1103515245, jl_2000000000, jl_2147483648, jl_4721686497, jl_7873079139, J_add, J_sub, J_mul, J_neg, JL_add, JL_sub, JL_mul, JL_neg, J_long, JL_int, ↓remI_fold, ↓remL_fold, Int.reduceAdd, Int.reduceSub, Int.reduceMul, Int.reduceNeg, Int.reduceToNat]
  by_cases h1 : (0 ≤ v ∧ v < cR C) ∧ 0 ≤ i ∧ i < cP C v.toNat
  case neg => simp only [if_neg h1]; rw [if_neg (by rw [J_le (by omega)]; omega)]
  simp only [if_pos h1]
  by_cases h2 : (0 ≤ u ∧ u < cR C) ∧ 0 ≤ k ∧ k < cP C u.toNat
  case neg => simp only [if_neg h2]; rw [if_neg (by rw [J_le (by omega)]; omega)]
  simp only [if_pos h2]
  by_cases h3 : solo C v.toNat = true
  case neg => simp only [if_neg h3]; rw [if_neg (by rw [J_le (by omega)]; omega)]
  simp only [if_pos h3]
  by_cases h4 : solo C u.toNat = true
  case neg => simp only [if_neg h4]; rw [if_neg (by rw [J_le (by omega)]; omega)]
  simp only [if_pos h4]
  by_cases h5 : dist (st C u.toNat k) (st C v.toNat i) = 1000000
  · simp only [if_pos h5]; rw [if_neg (by rw [J_le (by omega)]; omega)]
  simp only [if_neg h5]
  have ⟨B, e', hB⟩ := hS h1 h2 h3 h4
  have hs1 := st_lt C v.toNat i
  have hd := Dst_dist hB hs1
  have hbd := dist_bd hB hs1
  have hb : Bdd B := fun s hs => by rw [Dst_dist hB hs]; exact dist_bd hB hs
  subst e'
  rw [if_pos (by rw [J_le (by omega)]; omega)]
  generalize st C u.toNat k = g at *
  generalize st C v.toNat i = x at *
  simp (disch := omega) only [jn_0, jn_1, jn_2, jn_3, jn_4, jn_5, jn_6, jn_8, jn_9, jn_10, jn_11, jn_12, jn_16, jn_20, jn_24, jn_30, jn_31, jn_32, jn_36, jn_48, jn_57, jn_59, jn_60, jn_63, jn_72, jn_73, jn_96, jn_97, jn_100, jn_122, jn_144, jn_200, jn_240, jn_288, jn_512, jn_840, jn_1200, jn_1600, jn_5040, jn_5390, jn_5400, jn_9999, jn_18688, jn_32400, jn_99999, jn_100000, jn_1000000, jn_858993459, jn_1431655765, jn_252645135, jl_0, jl_1, jl_2, jl_3, jl_8, jl_9, jl_10, jl_20, jl_27, jl_47, jl_96, jl_99, jl_100, jl_200, jl_555, jl_2000, jl_10000, jl_12345, jl_65536, jl_99999, jl_131638, jl_240023, jl_298288, jl_383153, jl_1306021, jl_1960084, jl_4147840, jl_8740238, jl_9872299, jl_175252482, jl_291595537, jl_1103515245, jl_2000000000, jl_2147483648, jl_4721686497, jl_7873079139, J_add, J_sub, J_mul, J_neg, JL_add, JL_sub, JL_mul, JL_neg, J_long, JL_int, ↓remI_fold, ↓remL_fold, Int.reduceAdd, Int.reduceSub, Int.reduceMul, Int.reduceNeg, Int.reduceToNat, Classical.not_not, em_t, Bp_eq0, Bp_eq1, Bp_01, Bp_mk, Bp_mk', Bp_0, Bp_0', Bp_1, Bp_1', if_true, if_false, ite_not, X_in, xg_0, xg_1, xg_2, xg_3, xg_4, xg_5, xg_6, xg_7, xg_8, xg_9, xg_10, xg_11, xg_12, xg_13, xg_14, xg_15, xg_16, xg_17, xg_18, xg_19, xg_20, xg_21, xg_22, xg_23, xg_s1, xg_s2, xg_s3, xg_b0, xg_b1, xg_b2, xk_0, xk_s, xk_b, xr_8, xr_10, xr_11, xr_13, xr_14, xr_15, xr_16, xr_17, xr_18, xr_19, xr_20, xr_21, xc_C, xc_I, xc_A, xc_R, xc_B, xc_Q, xi_C, xi_I, xi_A, xi_R, xi_B, xi_Q, xa_C, xa_I, xa_A, xa_R, xa_B, xa_Q, xb_C, xb_I, xb_A, xb_R, xb_B, xb_Q, Nat.reduceEqDiff, eq_self, if_true, if_false, reduceIte, Int.toNat_natCast, Option.bind_some, hd]
  by_cases h6 : 0 ≤ m ∧ m < dist g x
  case neg => rw [if_neg (by omega), if_neg h6]
  rw [if_pos (by omega), if_pos h6]
  obtain ⟨m, hr⟩ : ∃ r : Nat, m = r := ⟨m.toNat, by omega⟩
  subst hr
  simp only [Int.toNat_natCast]
  have key := lp_cnt (fun n j => fX0_changes_52 N (emX o (xSR (xSI S 13 (J x)) 16 (fun q => J (B q))) w) o (J m) (fun y12 => (aI 0 (emX o (xSR (xSI S 13 (J x)) 16 (fun q => J (B q))) w) (o + 16) y12).bind fun x14 => (fX0_stepFrom N (emX o (xSR (xSI S 13 (J x)) 16 (fun q => J (B q))) w) o y12 (x14 - J 1)).bind fun x15 => some (x15, emX o (xSR (xSI S 13 (J x)) 16 (fun q => J (B q))) w)) n (J (wlk g j x)) (J (j : Int))) (some (J ((stp g (wlk g m x) (dist g (wlk g m x) - 1)).getD 0 : Nat), emX o (xSR (xSI S 13 (J x)) 16 (fun q => J (B q))) w)) m ?_ ?_ N (by omega)
  · exact key
  · intro n j hj
    have ⟨a1, a2⟩ := wlk_ok hs1 hB (by omega) j (by omega)
    have ⟨h, e1, b1, b2, b3⟩ := stp_ok a1 hB (by omega) (by omega)
    have hd' := Dst_dist hB a1
    rw [fX0_changes_52]
    simp (disch := omega) only [jn_0, jn_1, jn_2, jn_3, jn_4, jn_5, jn_6, jn_8, jn_9, jn_10, jn_11, jn_12, jn_16, jn_20, jn_24, jn_30, jn_31, jn_32, jn_36, jn_48, jn_57, jn_59, jn_60, jn_63, jn_72, jn_73, jn_96, jn_97, jn_100, jn_122, jn_144, jn_200, jn_240, jn_288, jn_512, jn_840, jn_1200, jn_1600, jn_5040, jn_5390, jn_5400, jn_9999, jn_18688, jn_32400, jn_99999, jn_100000, jn_1000000, jn_858993459, jn_1431655765, jn_252645135, jl_0, jl_1, jl_2, jl_3, jl_8, jl_9, jl_10, jl_20, jl_27, jl_47, jl_96, jl_99, jl_100, jl_200, jl_555, jl_2000, jl_10000, jl_12345, jl_65536, jl_99999, jl_131638, jl_240023, jl_298288, jl_383153, jl_1306021, jl_1960084, jl_4147840, jl_8740238, jl_9872299, jl_175252482, jl_291595537, jl_1103515245, jl_2000000000, jl_2147483648, jl_4721686497, jl_7873079139, J_add, J_sub, J_mul, J_neg, JL_add, JL_sub, JL_mul, JL_neg, J_long, JL_int, ↓remI_fold, ↓remL_fold, Int.reduceAdd, Int.reduceSub, Int.reduceMul, Int.reduceNeg, Int.reduceToNat, J_le, xg_0, xg_1, xg_2, xg_3, xg_4, xg_5, xg_6, xg_7, xg_8, xg_9, xg_10, xg_11, xg_12, xg_13, xg_14, xg_15, xg_16, xg_17, xg_18, xg_19, xg_20, xg_21, xg_22, xg_23, xg_s1, xg_s2, xg_s3, xg_b0, xg_b1, xg_b2, xk_0, xk_s, xk_b, xr_8, xr_10, xr_11, xr_13, xr_14, xr_15, xr_16, xr_17, xr_18, xr_19, xr_20, xr_21, xc_C, xc_I, xc_A, xc_R, xc_B, xc_Q, xi_C, xi_I, xi_A, xi_R, xi_B, xi_Q, xa_C, xa_I, xa_A, xa_R, xa_B, xa_Q, xb_C, xb_I, xb_A, xb_R, xb_B, xb_Q, Nat.reduceEqDiff, eq_self, if_true, if_false, reduceIte, Int.toNat_natCast, Option.bind_some, hd', X_stepFrom hN a1 hb, xst_stp hB a1, e1, X_thrown a1 b1, castS]
    rw [if_neg (by omega)]
    simp only [wlk, e1, Option.getD_some]
  · intro n
    have ⟨a1, a2⟩ := wlk_ok hs1 hB (by omega) m (by omega)
    have ⟨h, e1, b1, b2, b3⟩ := stp_ok a1 hB (by omega) (by omega)
    have hd' := Dst_dist hB a1
    rw [fX0_changes_52]
    simp (disch := omega) only [jn_0, jn_1, jn_2, jn_3, jn_4, jn_5, jn_6, jn_8, jn_9, jn_10, jn_11, jn_12, jn_16, jn_20, jn_24, jn_30, jn_31, jn_32, jn_36, jn_48, jn_57, jn_59, jn_60, jn_63, jn_72, jn_73, jn_96, jn_97, jn_100, jn_122, jn_144, jn_200, jn_240, jn_288, jn_512, jn_840, jn_1200, jn_1600, jn_5040, jn_5390, jn_5400, jn_9999, jn_18688, jn_32400, jn_99999, jn_100000, jn_1000000, jn_858993459, jn_1431655765, jn_252645135, jl_0, jl_1, jl_2, jl_3, jl_8, jl_9, jl_10, jl_20, jl_27, jl_47, jl_96, jl_99, jl_100, jl_200, jl_555, jl_2000, jl_10000, jl_12345, jl_65536, jl_99999, jl_131638, jl_240023, jl_298288, jl_383153, jl_1306021, jl_1960084, jl_4147840, jl_8740238, jl_9872299, jl_175252482, jl_291595537, jl_1103515245, jl_2000000000, jl_2147483648, jl_4721686497, jl_7873079139, J_add, J_sub, J_mul, J_neg, JL_add, JL_sub, JL_mul, JL_neg, J_long, JL_int, ↓remI_fold, ↓remL_fold, Int.reduceAdd, Int.reduceSub, Int.reduceMul, Int.reduceNeg, Int.reduceToNat, J_le, xg_0, xg_1, xg_2, xg_3, xg_4, xg_5, xg_6, xg_7, xg_8, xg_9, xg_10, xg_11, xg_12, xg_13, xg_14, xg_15, xg_16, xg_17, xg_18, xg_19, xg_20, xg_21, xg_22, xg_23, xg_s1, xg_s2, xg_s3, xg_b0, xg_b1, xg_b2, xk_0, xk_s, xk_b, xr_8, xr_10, xr_11, xr_13, xr_14, xr_15, xr_16, xr_17, xr_18, xr_19, xr_20, xr_21, xc_C, xc_I, xc_A, xc_R, xc_B, xc_Q, xi_C, xi_I, xi_A, xi_R, xi_B, xi_Q, xa_C, xa_I, xa_A, xa_R, xa_B, xa_Q, xb_C, xb_I, xb_A, xb_R, xb_B, xb_Q, Nat.reduceEqDiff, eq_self, if_true, if_false, reduceIte, Int.toNat_natCast, Option.bind_some, hd', X_stepFrom hN a1 hb, xst_stp hB a1, e1, Option.getD_some]
    rw [if_pos (by omega)]
end
