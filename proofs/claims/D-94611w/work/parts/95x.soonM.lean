/-! the reference: where one can be, the soonest way -/
set_option maxRecDepth 100000
theorem lp_exf {σ β : Type} (F : Nat → Nat → σ → Option β) (kf : Nat → σ → Option β) (ke : σ → Option β) (m : Nat) (p : Nat → Bool) (I : Nat → σ → Prop)
    (hs1 : ∀ n i s, i < m → I i s → p i = true → F (n + 1) i s = kf i s)
    (hs2 : ∀ n i s, i < m → I i s → ¬ p i = true → ∃ s', F (n + 1) i s = F n (i + 1) s' ∧ I (i + 1) s')
    (he : ∀ n s, I m s → F (n + 1) m s = ke s) (n : Nat) (s : σ) (hn : m < n) (h0 : I 0 s) : (∃ i s', fi p m = some i ∧ F n 0 s = kf i s' ∧ I i s') ∨ (∃ s', fi p m = none ∧ F n 0 s = ke s' ∧ I m s') := by
  have key : ∀ i, i ≤ m → (∀ j, j < i → ¬ p j = true) → ∃ s', F n 0 s = F (n - i) i s' ∧ I i s' := by
    intro i
    induction i with
    | zero => intro _ _; exact ⟨s, rfl, h0⟩
    | succ i ih =>
      intro hi hp
      have ⟨t, e, hI⟩ := ih (by omega) (fun j hj => hp j (by omega))
      have ⟨u, e2, hI2⟩ := hs2 (n - (i + 1)) i t (by omega) hI (hp i (by omega))
      rw [show n - (i + 1) + 1 = n - i by omega] at e2
      exact ⟨u, e.trans e2, hI2⟩
  cases h : fi p m with
  | some i =>
    have ⟨h1, h2, h3⟩ := (fi_some _ _ _).1 h
    have ⟨t, e, hI⟩ := key i (by omega) h3
    refine Or.inl ⟨i, t, rfl, ?_, hI⟩
    rw [e, show n - i = (n - i - 1) + 1 by omega]
    exact hs1 _ _ _ h1 hI h2
  | none =>
    have ⟨t, e, hI⟩ := key m (Nat.le_refl m) ((fi_none _ _).1 h)
    refine Or.inr ⟨t, rfl, ?_, hI⟩
    rw [e, show n - m = (n - m - 1) + 1 by omega]
    exact he _ _ hI
theorem Rc_last {C : Cy} {p q : Nat × Int} (h : Rc C p q) : p = q ∨ ∃ m, Rc C p m ∧ (q = (m.1, m.2 + 1) ∨ (0 < hh C m.1 m.2 ∧ q = bgo C m)) := by
  obtain ⟨n, h⟩ := h
  cases n with
  | zero => exact Or.inl h
  | succ n =>
    obtain ⟨m, hm, h⟩ := h
    exact Or.inr ⟨m, ⟨n, hm⟩, h⟩
/-- what is marked when the cells of V were gone through -/
def QV (C : Cy) (a : Nat) (t : Int) (V : Nat → Nat → Prop) (j r : Nat) : Prop := (j = 0 ∧ r = a) ∨ ∃ e q, V e q ∧ q < cR C ∧ Rc C (a, t) (q, t + (e : Int)) ∧ ((e + 1 = j ∧ q = r) ∨ (0 < hh C q (t + (e : Int)) ∧ e + hh C q (t + (e : Int)) = j ∧ tt C q (t + (e : Int)) = r))
theorem QV_Rc {C : Cy} (ho : OkC C) {a : Nat} (ha : a < cR C) {t : Int} {V : Nat → Nat → Prop} {j r : Nat} (hV : ∀ e q, e < j → q < cR C → V e q) : QV C a t V j r ↔ Rc C (a, t) (r, t + (j : Int)) := by
  constructor
  · intro h
    rcases h with ⟨h1, h2⟩ | ⟨e, q, _, hq, hr, h⟩
    · rw [h1, h2]; exact Rc_wn (Rc_r C _) (by omega)
    · rcases h with ⟨h1, h2⟩ | ⟨h1, h2, h3⟩
      · rw [← h2]; exact Rc_wn hr (by omega)
      · have := Rc_th hr h1
        unfold bgo at this
        simp only at this
        rw [← h3]
        exact Rc_wn this (by omega)
  · intro h
    rcases Rc_last h with h | ⟨m, hm, h⟩
    · injection h with h1 h2
      exact Or.inl ⟨by omega, h1.symm⟩
    · have ⟨m1, m2⟩ := Rc_in ho (p := (a, t)) ha hm
      simp only at m2
      have em : m = (m.1, t + (((m.2 - t).toNat : Nat) : Int)) := Prod.ext rfl (by simp only; omega)
      rcases h with h | ⟨h0, h⟩
      · injection h with h1 h2
        refine Or.inr ⟨(m.2 - t).toNat, m.1, hV _ _ (by omega) m1, m1, by rw [← em]; exact hm, Or.inl ⟨by omega, h1.symm⟩⟩
      · unfold bgo at h
        injection h with h1 h2
        have eb : t + (((m.2 - t).toNat : Nat) : Int) = m.2 := by omega
        refine Or.inr ⟨(m.2 - t).toNat, m.1, hV _ _ (by omega) m1, m1, by rw [← em]; exact hm, Or.inr ?_⟩
        rw [eb]
        exact ⟨h0, by omega, h1.symm⟩
def RlS (C : Cy) (a : Nat) (t : Int) (V : Nat → Nat → Prop) (f : Nat → Int32) : Prop := ∀ j r, j < 5400 → r < cR C → (QV C a t V j r → f (6 * j + r) = J 1) ∧ (¬ QV C a t V j r → f (6 * j + r) = J 0)
theorem RlS_iff {C : Cy} {a : Nat} {t : Int} {V V' : Nat → Nat → Prop} {f : Nat → Int32} (h : RlS C a t V f) (hv : ∀ e q, q < cR C → (V e q ↔ V' e q)) : RlS C a t V' f := by
  intro j r hj hr
  have e : QV C a t V j r ↔ QV C a t V' j r := by
    constructor
    · intro hx
      rcases hx with hx | ⟨e, q, h1, h2, h3⟩
      · exact Or.inl hx
      · exact Or.inr ⟨e, q, (hv e q h2).1 h1, h2, h3⟩
    · intro hx
      rcases hx with hx | ⟨e, q, h1, h2, h3⟩
      · exact Or.inl hx
      · exact Or.inr ⟨e, q, (hv e q h2).2 h1, h2, h3⟩
  have h' := h j r hj hr
  exact ⟨fun x => h'.1 (e.2 x), fun x => h'.2 (fun y => x (e.1 y))⟩
/-- one that can't be adds nothing -/
theorem RlS_no {C : Cy} {a : Nat} {t : Int} {V V' : Nat → Nat → Prop} {f : Nat → Int32} {i r : Nat} (h : RlS C a t V f) (hn : ¬ Rc C (a, t) (r, t + (i : Int))) (hv : ∀ e q, V' e q ↔ (V e q ∨ (e = i ∧ q = r))) : RlS C a t V' f := by
  intro j q hj hq
  have e : QV C a t V j q ↔ QV C a t V' j q := by
    constructor
    · intro hx
      rcases hx with hx | ⟨e, x, h1, h2, h3⟩
      · exact Or.inl hx
      · exact Or.inr ⟨e, x, (hv e x).2 (Or.inl h1), h2, h3⟩
    · intro hx
      rcases hx with hx | ⟨e, x, h1, h2, h3⟩
      · exact Or.inl hx
      · rcases (hv e x).1 h1 with h4 | ⟨h4, h5⟩
        · exact Or.inr ⟨e, x, h4, h2, h3⟩
        · rw [h4, h5] at h3
          exact absurd h3.1 hn
  have h' := h j q hj hq
  exact ⟨fun x => h'.1 (e.2 x), fun x => h'.2 (fun y => x (e.1 y))⟩
theorem RlS_yes {C : Cy} (ho : OkC C) {a : Nat} (ha : a < cR C) {t : Int} {V V' : Nat → Nat → Prop} {f : Nat → Int32} {i r : Nat} (hr : r < cR C) (h : RlS C a t V f) (hn : Rc C (a, t) (r, t + (i : Int))) (hV : ∀ e q, e < i → q < cR C → V e q) (hv : ∀ e q, V' e q ↔ (V e q ∨ (e = i ∧ q = r))) : RlS C a t V' (upd (upd f (6 * (i + 1) + r) (J 1)) (6 * (i + hh C r (t + (i : Int))) + tt C r (t + (i : Int))) (J 1)) := by
  intro j q hj hq
  have hR := cR_le C
  have htt := tt_lt ho hr (t + (i : Int))
  have hin : ∀ x y, x = i → y = r → V' x y := fun x y h1 h2 => (hv x y).2 (Or.inr ⟨h1, h2⟩)
  unfold upd
  by_cases e1 : 6 * j + q = 6 * (i + hh C r (t + (i : Int))) + tt C r (t + (i : Int))
  · rw [if_pos e1]
    refine ⟨fun _ => rfl, fun hx => absurd ?_ hx⟩
    have e2 : j = i + hh C r (t + (i : Int)) := by omega
    have e3 : q = tt C r (t + (i : Int)) := by omega
    by_cases h0 : hh C r (t + (i : Int)) = 0
    · have hs := tt_self ho hr h0
      have hq' : QV C a t V i r := (QV_Rc ho ha hV).2 hn
      rw [e2, e3, h0, hs, Nat.add_zero]
      rcases hq' with hx | ⟨e, x, h1, h2, h3⟩
      · exact Or.inl hx
      · exact Or.inr ⟨e, x, (hv e x).2 (Or.inl h1), h2, h3⟩
    · exact Or.inr ⟨i, r, hin _ _ rfl rfl, hr, hn, Or.inr ⟨by omega, e2.symm, e3.symm⟩⟩
  · rw [if_neg e1]
    by_cases e2 : 6 * j + q = 6 * (i + 1) + r
    · rw [if_pos e2]
      refine ⟨fun _ => rfl, fun hx => absurd ?_ hx⟩
      exact Or.inr ⟨i, r, hin _ _ rfl rfl, hr, hn, Or.inl ⟨by omega, by omega⟩⟩
    · rw [if_neg e2]
      have h' := h j q hj hq
      refine ⟨fun hx => h'.1 ?_, fun hx => h'.2 (fun hy => hx ?_)⟩
      · rcases hx with hx | ⟨e, x, h1, h2, h3, h4⟩
        · exact Or.inl hx
        · rcases (hv e x).1 h1 with h5 | ⟨h5, h6⟩
          · exact Or.inr ⟨e, x, h5, h2, h3, h4⟩
          · exfalso
            rw [h5, h6] at h4
            rcases h4 with ⟨h7, h8⟩ | ⟨_, h7, h8⟩
            · exact e2 (by omega)
            · exact e1 (by omega)
      · rcases hy with hx | ⟨e, x, h1, h2, h3⟩
        · exact Or.inl hx
        · exact Or.inr ⟨e, x, (hv e x).2 (Or.inl h1), h2, h3⟩
section
variable {N o : Nat} {S : MS} {w : Wd} {C : Cy}
theorem M_so13 (hN : 1000000 ≤ N) (x y : Int32) (k : Wd → Option (Int32 × Wd)) : ∃ f, fX5_soonestOf_13 N o x y k N (J 0) (emM o S w) = k (emM o (mSR S 20 f) w) ∧ ∀ j, j < 32400 → f j = J 0 := by
  refine ⟨fun j => if j < 32400 then J 0 else ma S 20 j, ?_, fun j hj => if_pos hj⟩
  have key := lp_cnt (fun n i => fX5_soonestOf_13 N o x y k n (J (i : Int)) (emM o (mSR S 20 (fun j => if j < i then J 0 else ma S 20 j)) w)) (k (emM o (mSR S 20 (fun j => if j < 32400 then J 0 else ma S 20 j)) w)) 32400 ?_ ?_ N (by omega)
  · have e1 : (fun j => if j < 0 then J 0 else ma S 20 j) = ma S 20 := by funext j; rw [if_neg (by omega)]
    rw [e1, mSR_id] at key
    exact key
  · intro n i hi
    have hz : 0 ≤ (i : Int) ∧ (i : Int) < 32400 := by omega
    show fX5_soonestOf_13 _ _ _ _ _ _ _ _ = _
    rw [fX5_soonestOf_13]
    simp only [jn_0, jn_1, jn_2, jn_3, jn_4, jn_5, jn_6, jn_8, jn_9, jn_10, jn_11, jn_12, jn_16, jn_20, jn_24, jn_30, jn_31, jn_32, jn_36, jn_48, jn_57, jn_59, jn_60, jn_63, jn_72, jn_73, jn_96, jn_97, jn_100, jn_122, jn_144, jn_200, jn_240, jn_288, jn_512, jn_840, jn_1200, jn_1600, jn_5040, jn_5390, jn_5400, jn_9999, jn_18688, jn_32400, jn_99999, jn_100000, jn_1000000, jn_858993459, jn_1431655765, jn_252645135, jl_0, jl_1, jl_2, jl_3, jl_8, jl_9, jl_10, jl_20, jl_27, jl_47, jl_96, jl_99, jl_100, jl_200, jl_555, jl_2000, jl_10000, jl_12345, jl_65536, jl_99999, jl_131638, jl_240023, jl_298288, jl_383153, jl_1306021, jl_1960084, jl_4147840, jl_8740238, jl_9872299, jl_175252482, jl_291595537, jl_1103515245, jl_2000000000, jl_2147483648, jl_4721686497, jl_7873079139, J_add, J_sub, J_mul, J_neg, JL_add, JL_sub, JL_mul, JL_neg, J_long, JL_int, ↓remI_fold, ↓remL_fold, Int.reduceAdd, Int.reduceSub, Int.reduceMul, Int.reduceNeg, Int.reduceToNat, mg_33, Option.bind_some, mw_20 o _ w _ hz, nar_30, mSA_R, Int.toNat_natCast, castS]
    rw [if_neg (by rw [J_le (by omega)]; omega), lt_upd (fun _ => J 0) (ma S 20) i]
  · intro n
    show fX5_soonestOf_13 _ _ _ _ _ _ _ _ = _
    rw [fX5_soonestOf_13]
    simp only [jn_0, jn_1, jn_2, jn_3, jn_4, jn_5, jn_6, jn_8, jn_9, jn_10, jn_11, jn_12, jn_16, jn_20, jn_24, jn_30, jn_31, jn_32, jn_36, jn_48, jn_57, jn_59, jn_60, jn_63, jn_72, jn_73, jn_96, jn_97, jn_100, jn_122, jn_144, jn_200, jn_240, jn_288, jn_512, jn_840, jn_1200, jn_1600, jn_5040, jn_5390, jn_5400, jn_9999, jn_18688, jn_32400, jn_99999, jn_100000, jn_1000000, jn_858993459, jn_1431655765, jn_252645135, jl_0, jl_1, jl_2, jl_3, jl_8, jl_9, jl_10, jl_20, jl_27, jl_47, jl_96, jl_99, jl_100, jl_200, jl_555, jl_2000, jl_10000, jl_12345, jl_65536, jl_99999, jl_131638, jl_240023, jl_298288, jl_383153, jl_1306021, jl_1960084, jl_4147840, jl_8740238, jl_9872299, jl_175252482, jl_291595537, jl_1103515245, jl_2000000000, jl_2147483648, jl_4721686497, jl_7873079139, J_add, J_sub, J_mul, J_neg, JL_add, JL_sub, JL_mul, JL_neg, J_long, JL_int, ↓remI_fold, ↓remL_fold, Int.reduceAdd, Int.reduceSub, Int.reduceMul, Int.reduceNeg, Int.reduceToNat]
    rw [if_pos (by rw [J_le (by omega)]; omega)]
theorem M_so84 (hG : GdM S 0 C) (ho : OkC C) {a : Nat} (ha : a < cR C) {t : Int} (ht : 0 ≤ t ∧ t ≤ 99999) {i : Nat} (hi : i < 5390) (x : Int32) (k : Wd → Option (Int32 × Wd)) {n : Nat} (hn : 6 < n) {f : Nat → Int32} (hf : RlS C a t (fun e _ => e < i) f) : ∃ f', fX5_soonestOf_84 N o x (J t) (J (i : Int)) k n (J 0) (emM o (mSR S 20 f) w) = k (emM o (mSR S 20 f') w) ∧ RlS C a t (fun e _ => e < i + 1) f' := by
  have hR := cR_le C
  have key := lp_ex (fun n r f => fX5_soonestOf_84 N o x (J t) (J (i : Int)) k n (J (r : Int)) (emM o (mSR S 20 f) w)) (fun f => k (emM o (mSR S 20 f) w)) (cR C) (fun r f => RlS C a t (fun e q => e < i ∨ (e = i ∧ q < r)) f) ?_ ?_ n f (by omega) (RlS_iff hf (fun e q _ => by omega))
  · obtain ⟨f', e, h⟩ := key
    exact ⟨f', e, RlS_iff h (fun e q hq => by omega)⟩
  · intro n r f hr hI
    have hV : ∀ e q, e < i → q < cR C → (e < i ∨ (e = i ∧ q < r)) := fun e q he _ => Or.inl he
    have hq := QV_Rc ho ha hV (t := t) (j := i) (r := r)
    have hcell := hI i r (by omega) hr
    have h9 := hh_le C r (t + (i : Int))
    have ht5 := tt_le C r (t + (i : Int))
    have hz : 0 ≤ 6 * (i : Int) + (r : Int) ∧ 6 * (i : Int) + (r : Int) < 32400 := by omega
    have hidx : (6 * (i : Int) + (r : Int)).toNat = 6 * i + r := by omega
    have hz2 : 0 ≤ 6 * ((i + 1 : Nat) : Int) + (r : Int) ∧ 6 * ((i + 1 : Nat) : Int) + (r : Int) < 32400 := by omega
    have hidx2 : (6 * ((i + 1 : Nat) : Int) + (r : Int)).toNat = 6 * (i + 1) + r := by omega
    have hz3 : 0 ≤ 6 * ((i : Int) + (hh C r (t + (i : Int)) : Int)) + (tt C r (t + (i : Int)) : Int) ∧ 6 * ((i : Int) + (hh C r (t + (i : Int)) : Int)) + (tt C r (t + (i : Int)) : Int) < 32400 := by omega
    have hidx3 : (6 * ((i : Int) + (hh C r (t + (i : Int)) : Int)) + (tt C r (t + (i : Int)) : Int)).toNat = 6 * (i + hh C r (t + (i : Int))) + tt C r (t + (i : Int)) := by omega
    have hle : ¬ J (cR C : Int) ≤ J (r : Int) := by rw [J_le (by omega)]; omega
    have hGf : ∀ g, GdM (mSR S 20 g) 0 C := fun g => FrM_G (FrM_R S 20 _ (by decide)) hG
    have hv : ∀ e q, (e < i ∨ (e = i ∧ q < r + 1)) ↔ ((e < i ∨ (e = i ∧ q < r)) ∨ (e = i ∧ q = r)) := fun e q => by omega
    by_cases hc : Rc C (a, t) (r, t + (i : Int))
    · have h1 := hcell.1 (hq.2 hc)
      refine ⟨_, ?_, RlS_yes ho ha hr hI hc hV hv⟩
      show fX5_soonestOf_84 _ _ _ _ _ _ _ _ _ = _
      rw [fX5_soonestOf_84]
      simp only [jn_0, jn_1, jn_2, jn_3, jn_4, jn_5, jn_6, jn_8, jn_9, jn_10, jn_11, jn_12, jn_16, jn_20, jn_24, jn_30, jn_31, jn_32, jn_36, jn_48, jn_57, jn_59, jn_60, jn_63, jn_72, jn_73, jn_96, jn_97, jn_100, jn_122, jn_144, jn_200, jn_240, jn_288, jn_512, jn_840, jn_1200, jn_1600, jn_5040, jn_5390, jn_5400, jn_9999, jn_18688, jn_32400, jn_99999, jn_100000, jn_1000000, jn_858993459, jn_1431655765, jn_252645135, jl_0, jl_1, jl_2, jl_3, jl_8, jl_9, jl_10, jl_20, jl_27, jl_47, jl_96, jl_99, jl_100, jl_200, jl_555, jl_2000, jl_10000, jl_12345, jl_65536, jl_99999, jl_131638, jl_240023, jl_298288, jl_383153, jl_1306021, jl_1960084, jl_4147840, jl_8740238, jl_9872299, jl_175252482, jl_291595537, jl_1103515245, jl_2000000000, jl_2147483648, jl_4721686497, jl_7873079139, J_add, J_sub, J_mul, J_neg, JL_add, JL_sub, JL_mul, JL_neg, J_long, JL_int, ↓remI_fold, ↓remL_fold, Int.reduceAdd, Int.reduceSub, Int.reduceMul, Int.reduceNeg, Int.reduceToNat, mg_17, mg_33, mr_7 o _ w (show (0 : Int) ≤ 0 ∧ (0 : Int) < 6 by omega), gm_R (hGf f), Option.bind_some, Int.toNat_zero, if_neg hle, mr_20 o _ w hz, hidx]
      rw [show ma (mSR S 20 f) 20 = f from rfl, h1, if_neg (by rw [J_eq (by omega)]; omega)]
      simp only [mw_20 o _ w _ hz2, hidx2, nar_31, mSA_R, Option.bind_some, mg_33, M_highOf (hGf _) hr (show -1000000 ≤ t + (i : Int) ∧ t + (i : Int) ≤ 1000000 by omega), M_toOf (hGf _) hr (show -1000000 ≤ t + (i : Int) ∧ t + (i : Int) ≤ 1000000 by omega), J_add, J_mul, mw_20 o _ w _ hz3, hidx3, castS]
    · have h1 := hcell.2 (fun h => hc (hq.1 h))
      refine ⟨f, ?_, RlS_no hI hc hv⟩
      show fX5_soonestOf_84 _ _ _ _ _ _ _ _ _ = _
      rw [fX5_soonestOf_84]
      simp only [jn_0, jn_1, jn_2, jn_3, jn_4, jn_5, jn_6, jn_8, jn_9, jn_10, jn_11, jn_12, jn_16, jn_20, jn_24, jn_30, jn_31, jn_32, jn_36, jn_48, jn_57, jn_59, jn_60, jn_63, jn_72, jn_73, jn_96, jn_97, jn_100, jn_122, jn_144, jn_200, jn_240, jn_288, jn_512, jn_840, jn_1200, jn_1600, jn_5040, jn_5390, jn_5400, jn_9999, jn_18688, jn_32400, jn_99999, jn_100000, jn_1000000, jn_858993459, jn_1431655765, jn_252645135, jl_0, jl_1, jl_2, jl_3, jl_8, jl_9, jl_10, jl_20, jl_27, jl_47, jl_96, jl_99, jl_100, jl_200, jl_555, jl_2000, jl_10000, jl_12345, jl_65536, jl_99999, jl_131638, jl_240023, jl_298288, jl_383153, jl_1306021, jl_1960084, jl_4147840, jl_8740238, jl_9872299, jl_175252482, jl_291595537, jl_1103515245, jl_2000000000, jl_2147483648, jl_4721686497, jl_7873079139, J_add, J_sub, J_mul, J_neg, JL_add, JL_sub, JL_mul, JL_neg, J_long, JL_int, ↓remI_fold, ↓remL_fold, Int.reduceAdd, Int.reduceSub, Int.reduceMul, Int.reduceNeg, Int.reduceToNat, mg_17, mg_33, mr_7 o _ w (show (0 : Int) ≤ 0 ∧ (0 : Int) < 6 by omega), gm_R (hGf f), Option.bind_some, Int.toNat_zero, if_neg hle, mr_20 o _ w hz, hidx]
      rw [show ma (mSR S 20 f) 20 = f from rfl, h1, if_pos rfl]
      simp only [castS]
  · intro n f hI
    have hGf : GdM (mSR S 20 f) 0 C := FrM_G (FrM_R S 20 _ (by decide)) hG
    show fX5_soonestOf_84 _ _ _ _ _ _ _ _ _ = _
    rw [fX5_soonestOf_84]
    simp only [jn_0, jn_1, jn_2, jn_3, jn_4, jn_5, jn_6, jn_8, jn_9, jn_10, jn_11, jn_12, jn_16, jn_20, jn_24, jn_30, jn_31, jn_32, jn_36, jn_48, jn_57, jn_59, jn_60, jn_63, jn_72, jn_73, jn_96, jn_97, jn_100, jn_122, jn_144, jn_200, jn_240, jn_288, jn_512, jn_840, jn_1200, jn_1600, jn_5040, jn_5390, jn_5400, jn_9999, jn_18688, jn_32400, jn_99999, jn_100000, jn_1000000, jn_858993459, jn_1431655765, jn_252645135, jl_0, jl_1, jl_2, jl_3, jl_8, jl_9, jl_10, jl_20, jl_27, jl_47, jl_96, jl_99, jl_100, jl_200, jl_555, jl_2000, jl_10000, jl_12345, jl_65536, jl_99999, jl_131638, jl_240023, jl_298288, jl_383153, jl_1306021, jl_1960084, jl_4147840, jl_8740238, jl_9872299, jl_175252482, jl_291595537, jl_1103515245, jl_2000000000, jl_2147483648, jl_4721686497, jl_7873079139, J_add, J_sub, J_mul, J_neg, JL_add, JL_sub, JL_mul, JL_neg, J_long, JL_int, ↓remI_fold, ↓remL_fold, Int.reduceAdd, Int.reduceSub, Int.reduceMul, Int.reduceNeg, Int.reduceToNat, mg_17, mr_7 o _ w (show (0 : Int) ≤ 0 ∧ (0 : Int) < 6 by omega), gm_R hGf, Option.bind_some, Int.toNat_zero]
    rw [if_pos (by rw [J_le (by omega)]; omega)]
noncomputable def snI (C : Cy) (a : Nat) (t : Int) (d : Nat) : Int := match sn C a t d with
  | some L => (L : Int)
  | none => -1
theorem M_soonestOf (hG : GdM S 0 C) (ho : OkC C) (hN : 1000000 ≤ N) {k : Nat} (hk : k < cN C) : ∃ f, fX5_soonestOf N (emM o S w) o (J (k : Int)) = some (J (snI C (cF C k) (cA C k) (cD C k)), emM o (mSR S 20 f) w) := by
  have hR := cR_le C
  have hn8 := cN_le C
  have hA := cA_le C k
  have hok := ho.2.1 k hk
  have hGf : ∀ g, GdM (mSR S 20 g) 0 C := fun g => FrM_G (FrM_R S 20 _ (by decide)) hG
  have z0 : 0 ≤ 3 * (k : Int) ∧ 3 * (k : Int) < 144 := by omega
  have z1 : 0 ≤ 3 * (k : Int) + 1 ∧ 3 * (k : Int) + 1 < 144 := by omega
  have z2 : 0 ≤ 3 * (k : Int) + 2 ∧ 3 * (k : Int) + 2 < 144 := by omega
  have i0 : (3 * (k : Int)).toNat = 3 * k := by omega
  have i1 : (3 * (k : Int) + 1).toNat = 3 * k + 1 := by omega
  have i2 : (3 * (k : Int) + 2).toNat = 3 * k + 2 := by omega
  unfold fX5_soonestOf
  simp only [jn_0, jn_1, jn_2, jn_3, jn_4, jn_5, jn_6, jn_8, jn_9, jn_10, jn_11, jn_12, jn_16, jn_20, jn_24, jn_30, jn_31, jn_32, jn_36, jn_48, jn_57, jn_59, jn_60, jn_63, jn_72, jn_73, jn_96, jn_97, jn_100, jn_122, jn_144, jn_200, jn_240, jn_288, jn_512, jn_840, jn_1200, jn_1600, jn_5040, jn_5390, jn_5400, jn_9999, jn_18688, jn_32400, jn_99999, jn_100000, jn_1000000, jn_858993459, jn_1431655765, jn_252645135, jl_0, jl_1, jl_2, jl_3, jl_8, jl_9, jl_10, jl_20, jl_27, jl_47, jl_96, jl_99, jl_100, jl_200, jl_555, jl_2000, jl_10000, jl_12345, jl_65536, jl_99999, jl_131638, jl_240023, jl_298288, jl_383153, jl_1306021, jl_1960084, jl_4147840, jl_8740238, jl_9872299, jl_175252482, jl_291595537, jl_1103515245, jl_2000000000, jl_2147483648, jl_4721686497, jl_7873079139, J_add, J_sub, J_mul, J_neg, JL_add, JL_sub, JL_mul, JL_neg, J_long, JL_int, ↓remI_fold, ↓remL_fold, Int.reduceAdd, Int.reduceSub, Int.reduceMul, Int.reduceNeg, Int.reduceToNat, mg_24, mr_14 o _ w z1, i1, gm_A hG hk, Option.bind_some]
  obtain ⟨f, e, hf⟩ := M_so13 (N := N) (o := o) (S := S) (w := w) hN (J (k : Int)) (J (cA C k : Int)) (fun w6 =>
      (gR w6 [5] o 33).bind fun x7 =>
      (gR w6 [5] o 24).bind fun x8 =>
      (aI 0 w6 x8 (J (3 * (k : Int)))).bind fun x9 =>
      (sI 3 w6 x7 x9 (J 1)).bind fun w10 =>
      fX5_soonestOf_49 N o (J (k : Int)) (J (cA C k : Int)) (fun y29 w30 => some (y29, w30)) (fun w31 => some (J (-1), w31)) N (J 0) w10)
  rw [e]
  simp only [mg_33, mg_24, mr_14 o _ w z0, i0, gm_F (hGf f) hk, Option.bind_some, mw_20 o _ w _ (show 0 ≤ (cF C k : Int) ∧ (cF C k : Int) < 32400 by omega), Int.toNat_natCast, nar_31, mSA_R]
  have e0 : RlS C (cF C k) (cA C k : Int) (fun e _ => e < 0) (upd f (cF C k) (J 1)) := by
    intro j r hj hr
    unfold upd
    by_cases h : 6 * j + r = cF C k
    · rw [if_pos h]
      exact ⟨fun _ => rfl, fun hx => absurd (Or.inl ⟨by omega, by omega⟩) hx⟩
    · rw [if_neg h]
      refine ⟨fun hx => absurd ?_ h, fun _ => hf _ (by omega)⟩
      rcases hx with ⟨h1, h2⟩ | ⟨e, q, h1, _⟩
      · omega
      · exact absurd h1 (Nat.not_lt_zero _)
  have key := lp_exf (fun n i f => fX5_soonestOf_49 N o (J (k : Int)) (J (cA C k : Int)) (fun y29 w30 => some (y29, w30)) (fun w31 => some (J (-1), w31)) n (J (i : Int)) (emM o (mSR S 20 f) w)) (fun i f => some (J (i : Int), emM o (mSR S 20 f) w)) (fun f => some (J (-1), emM o (mSR S 20 f) w)) 5390 (fun i => cB (Rc C (cF C k, (cA C k : Int)) (cD C k, (cA C k : Int) + (i : Int)))) (fun i f => RlS C (cF C k) (cA C k : Int) (fun e _ => e < i) f) ?_ ?_ ?_ N (upd f (cF C k) (J 1)) (by omega) e0
  · rw [sn_any ho hok.1 (by omega)] at key
    rcases key with ⟨i, g, h1, h2, _⟩ | ⟨g, h1, h2, _⟩
    · refine ⟨g, h2.trans ?_⟩
      unfold snI
      rw [h1]
    · refine ⟨g, h2.trans ?_⟩
      unfold snI
      rw [h1]
  · intro n i f hi hI hp
    have hcell := (hI i (cD C k) (by omega) hok.2.1).1 ((QV_Rc ho hok.1 (fun e q he _ => he)).2 (cB_t.1 hp))
    have hz : 0 ≤ 6 * (i : Int) + (cD C k : Int) ∧ 6 * (i : Int) + (cD C k : Int) < 32400 := by omega
    have hidx : (6 * (i : Int) + (cD C k : Int)).toNat = 6 * i + cD C k := by omega
    show fX5_soonestOf_49 _ _ _ _ _ _ _ _ _ = _
    rw [fX5_soonestOf_49]
    simp only [jn_0, jn_1, jn_2, jn_3, jn_4, jn_5, jn_6, jn_8, jn_9, jn_10, jn_11, jn_12, jn_16, jn_20, jn_24, jn_30, jn_31, jn_32, jn_36, jn_48, jn_57, jn_59, jn_60, jn_63, jn_72, jn_73, jn_96, jn_97, jn_100, jn_122, jn_144, jn_200, jn_240, jn_288, jn_512, jn_840, jn_1200, jn_1600, jn_5040, jn_5390, jn_5400, jn_9999, jn_18688, jn_32400, jn_99999, jn_100000, jn_1000000, jn_858993459, jn_1431655765, jn_252645135, jl_0, jl_1, jl_2, jl_3, jl_8, jl_9, jl_10, jl_20, jl_27, jl_47, jl_96, jl_99, jl_100, jl_200, jl_555, jl_2000, jl_10000, jl_12345, jl_65536, jl_99999, jl_131638, jl_240023, jl_298288, jl_383153, jl_1306021, jl_1960084, jl_4147840, jl_8740238, jl_9872299, jl_175252482, jl_291595537, jl_1103515245, jl_2000000000, jl_2147483648, jl_4721686497, jl_7873079139, J_add, J_sub, J_mul, J_neg, JL_add, JL_sub, JL_mul, JL_neg, J_long, JL_int, ↓remI_fold, ↓remL_fold, Int.reduceAdd, Int.reduceSub, Int.reduceMul, Int.reduceNeg, Int.reduceToNat, mg_33, mg_24, mr_14 o _ w z2, i2, gm_D (hGf f) hk, Option.bind_some, mr_20 o _ w hz, hidx]
    rw [if_neg (by rw [J_le (by omega)]; omega), show ma (mSR S 20 f) 20 = f from rfl, hcell, if_neg (by rw [J_eq (by omega)]; omega)]
  · intro n i f hi hI hp
    have hcell := (hI i (cD C k) (by omega) hok.2.1).2 (fun h => hp (cB_t.2 ((QV_Rc ho hok.1 (fun e q he _ => he)).1 h)))
    have hz : 0 ≤ 6 * (i : Int) + (cD C k : Int) ∧ 6 * (i : Int) + (cD C k : Int) < 32400 := by omega
    have hidx : (6 * (i : Int) + (cD C k : Int)).toNat = 6 * i + cD C k := by omega
    obtain ⟨f', e, h⟩ := M_so84 (N := N) (o := o) (w := w) hG ho hok.1 (t := (cA C k : Int)) (by omega) hi (J (k : Int)) (fun w27 => (some (J ((i + 1 : Nat) : Int))).bind fun x28 => fX5_soonestOf_49 N o (J (k : Int)) (J (cA C k : Int)) (fun y29 w30 => some (y29, w30)) (fun w31 => some (J (-1), w31)) n x28 w27) (n := N) (by omega) hI
    refine ⟨f', ?_, h⟩
    show fX5_soonestOf_49 _ _ _ _ _ _ _ _ _ = _
    rw [fX5_soonestOf_49]
    simp only [jn_0, jn_1, jn_2, jn_3, jn_4, jn_5, jn_6, jn_8, jn_9, jn_10, jn_11, jn_12, jn_16, jn_20, jn_24, jn_30, jn_31, jn_32, jn_36, jn_48, jn_57, jn_59, jn_60, jn_63, jn_72, jn_73, jn_96, jn_97, jn_100, jn_122, jn_144, jn_200, jn_240, jn_288, jn_512, jn_840, jn_1200, jn_1600, jn_5040, jn_5390, jn_5400, jn_9999, jn_18688, jn_32400, jn_99999, jn_100000, jn_1000000, jn_858993459, jn_1431655765, jn_252645135, jl_0, jl_1, jl_2, jl_3, jl_8, jl_9, jl_10, jl_20, jl_27, jl_47, jl_96, jl_99, jl_100, jl_200, jl_555, jl_2000, jl_10000, jl_12345, jl_65536, jl_99999, jl_131638, jl_240023, jl_298288, jl_383153, jl_1306021, jl_1960084, jl_4147840, jl_8740238, jl_9872299, jl_175252482, jl_291595537, jl_1103515245, jl_2000000000, jl_2147483648, jl_4721686497, jl_7873079139, J_add, J_sub, J_mul, J_neg, JL_add, JL_sub, JL_mul, JL_neg, J_long, JL_int, ↓remI_fold, ↓remL_fold, Int.reduceAdd, Int.reduceSub, Int.reduceMul, Int.reduceNeg, Int.reduceToNat, mg_33, mg_24, mr_14 o _ w z2, i2, gm_D (hGf f) hk, Option.bind_some, mr_20 o _ w hz, hidx, castS]
    rw [if_neg (by rw [J_le (by omega)]; omega), show ma (mSR S 20 f) 20 = f from rfl, hcell, if_pos rfl]
    exact e
  · intro n f hI
    show fX5_soonestOf_49 _ _ _ _ _ _ _ _ _ = _
    rw [fX5_soonestOf_49]
    simp only [jn_0, jn_1, jn_2, jn_3, jn_4, jn_5, jn_6, jn_8, jn_9, jn_10, jn_11, jn_12, jn_16, jn_20, jn_24, jn_30, jn_31, jn_32, jn_36, jn_48, jn_57, jn_59, jn_60, jn_63, jn_72, jn_73, jn_96, jn_97, jn_100, jn_122, jn_144, jn_200, jn_240, jn_288, jn_512, jn_840, jn_1200, jn_1600, jn_5040, jn_5390, jn_5400, jn_9999, jn_18688, jn_32400, jn_99999, jn_100000, jn_1000000, jn_858993459, jn_1431655765, jn_252645135, jl_0, jl_1, jl_2, jl_3, jl_8, jl_9, jl_10, jl_20, jl_27, jl_47, jl_96, jl_99, jl_100, jl_200, jl_555, jl_2000, jl_10000, jl_12345, jl_65536, jl_99999, jl_131638, jl_240023, jl_298288, jl_383153, jl_1306021, jl_1960084, jl_4147840, jl_8740238, jl_9872299, jl_175252482, jl_291595537, jl_1103515245, jl_2000000000, jl_2147483648, jl_4721686497, jl_7873079139, J_add, J_sub, J_mul, J_neg, JL_add, JL_sub, JL_mul, JL_neg, J_long, JL_int, ↓remI_fold, ↓remL_fold, Int.reduceAdd, Int.reduceSub, Int.reduceMul, Int.reduceNeg, Int.reduceToNat]
    rw [if_pos (by rw [J_le (by omega)]; omega)]
end
