/-! the reference: latest -/
set_option maxRecDepth 100000
theorem lp_exf2 {σ β : Type} (F : Nat → Nat → σ → Option β) (kf : Nat → σ → Option β) (ke : σ → Option β) (m : Nat) (p : Nat → Bool) (I : Nat → σ → Prop)
    (hs1 : ∀ n i s, i < m → I i s → p i = true → ∃ s', F (n + 1) i s = kf i s')
    (hs2 : ∀ n i s, i < m → I i s → ¬ p i = true → ∃ s', F (n + 1) i s = F n (i + 1) s' ∧ I (i + 1) s')
    (he : ∀ n s, I m s → F (n + 1) m s = ke s) (n : Nat) (s : σ) (hn : m < n) (h0 : I 0 s) : (∃ i s', fi p m = some i ∧ F n 0 s = kf i s') ∨ (∃ s', fi p m = none ∧ F n 0 s = ke s') := by
  have key : ∀ i, i ≤ m → (∀ j, j < i → ¬ p j = true) → ∃ s', F n 0 s = F (n - i) i s' ∧ I i s' := by
    intro i
    induction i with
    | zero => intro _ _; exact ⟨s, rfl, h0⟩
    | succ i ih =>
      intro hi hp
      have ⟨t, e, hI⟩ := ih (by omega) (fun j hj => hp j (by omega))
      have ⟨u, e2, hI2⟩ := hs2 (n - (i + 1)) i t (by omega) hI (hp i (by omega))
      rw [show n - (i + 1) + 1 = n - i by omega] at e2
      exact ⟨u, e.trans e2, hI2⟩
  cases h : fi p m with
  | some i =>
    have ⟨h1, h2, h3⟩ := (fi_some _ _ _).1 h
    have ⟨t, e, hI⟩ := key i (by omega) h3
    rw [show n - i = (n - i - 1) + 1 by omega] at e
    have ⟨u, e2⟩ := hs1 (n - i - 1) i t h1 hI h2
    exact Or.inl ⟨i, u, rfl, e.trans e2⟩
  | none =>
    have ⟨t, e, hI⟩ := key m (Nat.le_refl m) ((fi_none _ _).1 h)
    refine Or.inr ⟨t, rfl, ?_⟩
    rw [e, show n - m = (n - m - 1) + 1 by omega]
    exact he _ _ hI
theorem Rc_tr {C : Cy} {p q s : Nat × Int} (h : Rc C p q) (h' : Rc C q s) : Rc C p s := Rc_ind (fun m => Rc C p m) h (fun _ hm => Rc_w hm) (fun _ hm h0 => Rc_th hm h0) h'
theorem Rc_first {C : Cy} {p q : Nat × Int} (h : Rc C p q) : p = q ∨ Rc C (p.1, p.2 + 1) q ∨ (0 < hh C p.1 p.2 ∧ Rc C (bgo C p) q) := by
  refine Rc_ind (fun m => p = m ∨ Rc C (p.1, p.2 + 1) m ∨ (0 < hh C p.1 p.2 ∧ Rc C (bgo C p) m)) (Or.inl rfl) (fun m hm => ?_) (fun m hm h0 => ?_) h
  · rcases hm with hm | hm | ⟨h1, hm⟩
    · rw [← hm]; exact Or.inr (Or.inl (Rc_r C _))
    · exact Or.inr (Or.inl (Rc_w hm))
    · exact Or.inr (Or.inr ⟨h1, Rc_w hm⟩)
  · rcases hm with hm | hm | ⟨h1, hm⟩
    · rw [← hm] at h0 ⊢; exact Or.inr (Or.inr ⟨h0, Rc_r C _⟩)
    · exact Or.inr (Or.inl (Rc_th hm h0))
    · exact Or.inr (Or.inr ⟨h1, Rc_th hm h0⟩)
theorem Rc_rec {C : Cy} (ho : OkC C) {r : Nat} (hr : r < cR C) {b : Int} {d i : Nat} : Rc C (r, b - (i : Int)) (d, b) ↔ (r = d ∨ (0 < i ∧ Rc C (r, b - ((i - 1 : Nat) : Int)) (d, b)) ∨ (0 < hh C r (b - (i : Int)) ∧ hh C r (b - (i : Int)) ≤ i ∧ Rc C (tt C r (b - (i : Int)), b - ((i - hh C r (b - (i : Int)) : Nat) : Int)) (d, b))) := by
  constructor
  · intro h
    rcases Rc_first h with h1 | h1 | ⟨h0, h1⟩
    · injection h1 with h1 _
      exact Or.inl h1
    · have := (Rc_in ho (p := (r, b - (i : Int) + 1)) hr h1).2
      simp only at this h1
      refine Or.inr (Or.inl ⟨by omega, ?_⟩)
      rw [show b - ((i - 1 : Nat) : Int) = b - (i : Int) + 1 by omega]
      exact h1
    · have h2 := (Rc_in ho (p := bgo C (r, b - (i : Int))) (tt_lt ho hr _) h1).2
      unfold bgo at h1 h2
      simp only at h1 h2 h0
      refine Or.inr (Or.inr ⟨h0, by omega, ?_⟩)
      rw [show b - ((i - hh C r (b - (i : Int)) : Nat) : Int) = b - (i : Int) + (hh C r (b - (i : Int)) : Int) by omega]
      exact h1
  · intro h
    rcases h with h | ⟨h0, h1⟩ | ⟨h0, h2, h1⟩
    · rw [h]; exact Rc_wn (Rc_r C _) (by omega)
    · refine Rc_tr (Rc_w (Rc_r C (r, b - (i : Int)))) ?_
      simp only
      rw [show b - (i : Int) + 1 = b - ((i - 1 : Nat) : Int) by omega]
      exact h1
    · refine Rc_tr (Rc_th (Rc_r C (r, b - (i : Int))) h0) ?_
      unfold bgo
      simp only
      rw [show b - (i : Int) + (hh C r (b - (i : Int)) : Int) = b - ((i - hh C r (b - (i : Int)) : Nat) : Int) by omega]
      exact h1
theorem Rc_any {C : Cy} (ho : OkC C) {a : Nat} (ha : a < cR C) {s s' : Int} {d : Nat} (h : Rc C (a, s) (d, s')) (b : Int) : Rc C (a, b - 80) (d, b) := by
  have hP := rnd_bd C
  have h1 := Rc_sh ho (p := (a, s)) ha h (((b - 80 - s).toNat : Nat) : Int)
  simp only at h1
  have h2 : (1 : Int) * (((b - 80 - s).toNat : Nat) : Int) ≤ (rnd C : Int) * (((b - 80 - s).toNat : Nat) : Int) := Int.mul_le_mul_of_nonneg_right (by omega) (by omega)
  have h3 := Rc_tr (Rc_wn (b' := s + (rnd C : Int) * (((b - 80 - s).toNat : Nat) : Int)) (Rc_r C (a, b - 80)) (by omega)) h1
  have h4 := Rc_80 ho ha h3
  rwa [show b - 80 + 80 = b by omega] at h4
theorem lt_fi {C : Cy} (ho : OkC C) {a : Nat} (ha : a < cR C) {A b : Int} {d m : Nat} (hm : m = min 5400 (b - A + 1).toNat) : fi (fun i => cB (Rc C (a, b - (i : Int)) (d, b))) m = fi (fun i => cB (A ≤ b - (i : Int) ∧ Rc C (a, b - (i : Int)) (d, b))) 100 := by
  cases h : fi (fun i => cB (Rc C (a, b - (i : Int)) (d, b))) m with
  | some i =>
    have ⟨h1, h2, h3⟩ := (fi_some _ _ _).1 h
    have h80 : i ≤ 80 := by
      by_cases hi : i ≤ 80
      · exact hi
      · exfalso
        exact h3 80 (by omega) (cB_t.2 (Rc_any ho ha (cB_t.1 h2) b))
    refine ((fi_some _ _ _).2 ⟨by omega, cB_t.2 ⟨by omega, cB_t.1 h2⟩, fun j hj hc => h3 j hj (cB_t.2 (cB_t.1 hc).2)⟩).symm
  | none =>
    have h1 := (fi_none _ _).1 h
    refine ((fi_none _ _).2 (fun i hi hc => ?_)).symm
    have ⟨c1, c2⟩ := cB_t.1 hc
    exact h1 i (by omega) (cB_t.2 c2)
def RlB (C : Cy) (b : Int) (d : Nat) (V : Nat → Nat → Prop) (f : Nat → Int32) : Prop := ∀ i r, i < 5400 → r < cR C → V i r → (Rc C (r, b - (i : Int)) (d, b) → f (6 * i + r) = J 1) ∧ (¬ Rc C (r, b - (i : Int)) (d, b) → f (6 * i + r) = J 0)
theorem RlB_up {C : Cy} {b : Int} {d : Nat} {V V' : Nat → Nat → Prop} {f : Nat → Int32} {i r : Nat} {x : Int32} (hr : r < cR C) (h : RlB C b d V f) (hx : (Rc C (r, b - (i : Int)) (d, b) → x = J 1) ∧ (¬ Rc C (r, b - (i : Int)) (d, b) → x = J 0)) (hv : ∀ e q, V' e q → V e q ∨ (e = i ∧ q = r)) : RlB C b d V' (upd f (6 * i + r) x) := by
  intro j q hj hq hV
  have hR := cR_le C
  unfold upd
  by_cases h1 : 6 * j + q = 6 * i + r
  · rw [if_pos h1, show j = i by omega, show q = r by omega]
    exact hx
  · rw [if_neg h1]
    exact h j q hj hq ((hv j q hV).resolve_right (fun h2 => h1 (by omega)))
section
variable {N o : Nat} {S : MS} {w : Wd} {C : Cy}
theorem M_la129 (hG : GdM S 0 C) (ho : OkC C) {b : Int} (hb : 0 ≤ b ∧ b ≤ 99999) {d i r : Nat} (hi : i < 5400) (hr : r < cR C) {f : Nat → Int32} (hf : RlB C b d (fun e q => e < i ∨ (e = i ∧ q < r)) f) (hd : r ≠ d) (hw : ¬ (0 < i ∧ Rc C (r, b - ((i - 1 : Nat) : Int)) (d, b))) (x y : Int32) (R : Int32 → Wd → Option (Int32 × Wd)) (K : Wd → Option (Int32 × Wd)) : ∃ f', fX5_latest_129 N (emM o (mSR S 20 f) w) o x (J b) y (J (i : Int)) (J (r : Int)) (J (hh C r (b - (i : Int)) : Int)) (o + 20) (J (6 * (i : Int) + (r : Int))) R K = R (J ((r + 1 : Nat) : Int)) (emM o (mSR S 20 f') w) ∧ RlB C b d (fun e q => e < i ∨ (e = i ∧ q < r + 1)) f' := by
  have hR := cR_le C
  have hGf : ∀ g, GdM (mSR S 20 g) 0 C := fun g => FrM_G (FrM_R S 20 _ (by decide)) hG
  have h9 := hh_le C r (b - (i : Int))
  have h5 := tt_lt ho hr (b - (i : Int))
  have hz : 0 ≤ 6 * (i : Int) + (r : Int) ∧ 6 * (i : Int) + (r : Int) < 32400 := by omega
  have hidx : (6 * (i : Int) + (r : Int)).toNat = 6 * i + r := by omega
  have hrec := Rc_rec ho hr (b := b) (d := d) (i := i)
  have h0c : ∀ (_ : ¬ Rc C (r, b - (i : Int)) (d, b)), RlB C b d (fun e q => e < i ∨ (e = i ∧ q < r + 1)) (upd f (6 * i + r) (J 0)) := fun h => RlB_up hr hf ⟨fun hx => absurd hx h, fun _ => rfl⟩ (fun e q h => by omega)
  have h1c : ∀ (_ : Rc C (r, b - (i : Int)) (d, b)), RlB C b d (fun e q => e < i ∨ (e = i ∧ q < r + 1)) (upd f (6 * i + r) (J 1)) := fun h => RlB_up hr hf ⟨fun _ => rfl, fun hx => absurd h hx⟩ (fun e q h => by omega)
  unfold fX5_latest_129
  simp only [jn_0, jn_1, jn_2, jn_3, jn_4, jn_5, jn_6, jn_8, jn_9, jn_10, jn_11, jn_12, jn_16, jn_20, jn_24, jn_30, jn_31, jn_32, jn_36, jn_48, jn_57, jn_59, jn_60, jn_63, jn_72, jn_73, jn_96, jn_97, jn_100, jn_122, jn_144, jn_200, jn_240, jn_288, jn_512, jn_840, jn_1200, jn_1600, jn_5040, jn_5390, jn_5400, jn_9999, jn_18688, jn_32400, jn_99999, jn_100000, jn_1000000, jn_858993459, jn_1431655765, jn_252645135, jl_0, jl_1, jl_2, jl_3, jl_8, jl_9, jl_10, jl_20, jl_27, jl_47, jl_96, jl_99, jl_100, jl_200, jl_555, jl_2000, jl_10000, jl_12345, jl_65536, jl_99999, jl_131638, jl_240023, jl_298288, jl_383153, jl_1306021, jl_1960084, jl_4147840, jl_8740238, jl_9872299, jl_175252482, jl_291595537, jl_1103515245, jl_2000000000, jl_2147483648, jl_4721686497, jl_7873079139, J_add, J_sub, J_mul, J_neg, JL_add, JL_sub, JL_mul, JL_neg, J_long, JL_int, ↓remI_fold, ↓remL_fold, Int.reduceAdd, Int.reduceSub, Int.reduceMul, Int.reduceNeg, Int.reduceToNat, mw_20 o _ w _ hz, hidx, nar_30, nar_31, mSA_R, Option.bind_some, castS]
  by_cases h0 : 0 < hh C r (b - (i : Int))
  case neg =>
    refine ⟨_, by rw [if_pos (by rw [J_le (by omega)]; omega)], h0c (fun h => ?_)⟩
    rcases hrec.1 h with h | h | h
    · exact hd h
    · exact hw h
    · exact h0 h.1
  rw [if_neg (by rw [J_le (by omega)]; omega)]
  by_cases h1 : hh C r (b - (i : Int)) ≤ i
  case neg =>
    refine ⟨_, by rw [if_pos (by rw [J_lt (by omega)]; omega)], h0c (fun h => ?_)⟩
    rcases hrec.1 h with h | h | h
    · exact hd h
    · exact hw h
    · exact h1 h.2.1
  rw [if_neg (by rw [J_lt (by omega)]; omega)]
  have hz2 : 0 ≤ 6 * ((i : Int) - (hh C r (b - (i : Int)) : Int)) + (tt C r (b - (i : Int)) : Int) ∧ 6 * ((i : Int) - (hh C r (b - (i : Int)) : Int)) + (tt C r (b - (i : Int)) : Int) < 32400 := by omega
  have hidx2 : (6 * ((i : Int) - (hh C r (b - (i : Int)) : Int)) + (tt C r (b - (i : Int)) : Int)).toNat = 6 * (i - hh C r (b - (i : Int))) + tt C r (b - (i : Int)) := by omega
  have hv := hf (i - hh C r (b - (i : Int))) (tt C r (b - (i : Int))) (by omega) h5 (Or.inl (by omega))
  simp only [mg_33, M_toOf (hGf f) hr (show -1000000 ≤ b - (i : Int) ∧ b - (i : Int) ≤ 1000000 by omega), J_add, mr_20 o _ w hz2, hidx2, Option.bind_some]
  rw [show ma (mSR S 20 f) 20 = f from rfl]
  by_cases h2 : Rc C (tt C r (b - (i : Int)), b - ((i - hh C r (b - (i : Int)) : Nat) : Int)) (d, b)
  · refine ⟨_, by rw [hv.1 h2, if_neg (by rw [J_eq (by omega)]; omega)], h1c (hrec.2 (Or.inr (Or.inr ⟨h0, h1, h2⟩)))⟩
  · refine ⟨_, by rw [hv.2 h2, if_pos rfl], h0c (fun h => ?_)⟩
    rcases hrec.1 h with h | h | h
    · exact hd h
    · exact hw h
    · exact h2 h.2.2
theorem M_la65 (hG : GdM S 0 C) (ho : OkC C) (hN : 1000000 ≤ N) {b : Int} (hb : 0 ≤ b ∧ b ≤ 99999) {d i : Nat} (hd6 : d ≤ 6) (hi : i < 5400) {f : Nat → Int32} (hf : RlB C b d (fun e _ => e < i) f) (x : Int32) (K : Wd → Option (Int32 × Wd)) : ∃ f', fX5_latest_65 N o x (J b) (J (d : Int)) (J (i : Int)) K N (J 0) (emM o (mSR S 20 f) w) = K (emM o (mSR S 20 f') w) ∧ RlB C b d (fun e _ => e < i + 1) f' := by
  have hR := cR_le C
  have hGf : ∀ g, GdM (mSR S 20 g) 0 C := fun g => FrM_G (FrM_R S 20 _ (by decide)) hG
  have key := lp_ex (fun n r f => fX5_latest_65 N o x (J b) (J (d : Int)) (J (i : Int)) K n (J (r : Int)) (emM o (mSR S 20 f) w)) (fun f => K (emM o (mSR S 20 f) w)) (cR C) (fun r f => RlB C b d (fun e q => e < i ∨ (e = i ∧ q < r)) f) ?_ ?_ N f (by omega) (fun e q he hq hv => hf e q he hq (by omega))
  · obtain ⟨f', e1, h⟩ := key
    exact ⟨f', e1, fun e q he hq hv => h e q he hq (by omega)⟩
  · intro n r f hr hI
    have hle : ¬ J (cR C : Int) ≤ J (r : Int) := by rw [J_le (by omega)]; omega
    have hz : 0 ≤ 6 * (i : Int) + (r : Int) ∧ 6 * (i : Int) + (r : Int) < 32400 := by omega
    have hidx : (6 * (i : Int) + (r : Int)).toNat = 6 * i + r := by omega
    have hrec := Rc_rec ho hr (b := b) (d := d) (i := i)
    have h1c : ∀ (_ : Rc C (r, b - (i : Int)) (d, b)), RlB C b d (fun e q => e < i ∨ (e = i ∧ q < r + 1)) (upd f (6 * i + r) (J 1)) := fun h => RlB_up hr hI ⟨fun _ => rfl, fun hx => absurd h hx⟩ (fun e q h => by omega)
    have e0 : fX5_latest_65 N o x (J b) (J (d : Int)) (J (i : Int)) K (n + 1) (J (r : Int)) (emM o (mSR S 20 f) w) = if J (r : Int) = J (d : Int) then fX5_latest_65 N o x (J b) (J (d : Int)) (J (i : Int)) K n (J ((r + 1 : Nat) : Int)) (emM o (mSR S 20 (upd f (6 * i + r) (J 1))) w) else if J (i : Int) ≤ J 0 then fX5_latest_129 N (emM o (mSR S 20 f) w) o x (J b) (J (d : Int)) (J (i : Int)) (J (r : Int)) (J (hh C r (b - (i : Int)) : Int)) (o + 20) (J (6 * (i : Int) + (r : Int))) (fX5_latest_65 N o x (J b) (J (d : Int)) (J (i : Int)) K n) K else (aI 3 (emM o (mSR S 20 f) w) (o + 20) (J (6 * ((i : Int) - 1) + (r : Int)))).bind fun x26 => if x26 = J 0 then fX5_latest_129 N (emM o (mSR S 20 f) w) o x (J b) (J (d : Int)) (J (i : Int)) (J (r : Int)) (J (hh C r (b - (i : Int)) : Int)) (o + 20) (J (6 * (i : Int) + (r : Int))) (fX5_latest_65 N o x (J b) (J (d : Int)) (J (i : Int)) K n) K else fX5_latest_65 N o x (J b) (J (d : Int)) (J (i : Int)) K n (J ((r + 1 : Nat) : Int)) (emM o (mSR S 20 (upd f (6 * i + r) (J 1))) w) := by
      rw [fX5_latest_65]
      simp only [jn_0, jn_1, jn_2, jn_3, jn_4, jn_5, jn_6, jn_8, jn_9, jn_10, jn_11, jn_12, jn_16, jn_20, jn_24, jn_30, jn_31, jn_32, jn_36, jn_48, jn_57, jn_59, jn_60, jn_63, jn_72, jn_73, jn_96, jn_97, jn_100, jn_122, jn_144, jn_200, jn_240, jn_288, jn_512, jn_840, jn_1200, jn_1600, jn_5040, jn_5390, jn_5400, jn_9999, jn_18688, jn_32400, jn_99999, jn_100000, jn_1000000, jn_858993459, jn_1431655765, jn_252645135, jl_0, jl_1, jl_2, jl_3, jl_8, jl_9, jl_10, jl_20, jl_27, jl_47, jl_96, jl_99, jl_100, jl_200, jl_555, jl_2000, jl_10000, jl_12345, jl_65536, jl_99999, jl_131638, jl_240023, jl_298288, jl_383153, jl_1306021, jl_1960084, jl_4147840, jl_8740238, jl_9872299, jl_175252482, jl_291595537, jl_1103515245, jl_2000000000, jl_2147483648, jl_4721686497, jl_7873079139, J_add, J_sub, J_mul, J_neg, JL_add, JL_sub, JL_mul, JL_neg, J_long, JL_int, ↓remI_fold, ↓remL_fold, Int.reduceAdd, Int.reduceSub, Int.reduceMul, Int.reduceNeg, Int.reduceToNat, mg_17, mg_33, mr_7 o _ w (show (0 : Int) ≤ 0 ∧ (0 : Int) < 6 by omega), gm_R (hGf f), Option.bind_some, Int.toNat_zero, if_neg hle, M_highOf (hGf f) hr (show -1000000 ≤ b - (i : Int) ∧ b - (i : Int) ≤ 1000000 by omega), mw_20 o _ w _ hz, hidx, nar_31, mSA_R, castS]
    by_cases h1 : r = d
    · refine ⟨_, ?_, h1c (hrec.2 (Or.inl h1))⟩
      show fX5_latest_65 _ _ _ _ _ _ _ _ _ _ = _
      rw [e0, if_pos (by rw [h1])]
    · by_cases h2 : i = 0
      · obtain ⟨f', e1, h⟩ := M_la129 (N := N) (o := o) (S := S) (w := w) hG ho hb hi hr hI h1 (fun h => by omega) x (J (d : Int)) (fX5_latest_65 N o x (J b) (J (d : Int)) (J (i : Int)) K n) K
        refine ⟨f', ?_, h⟩
        show fX5_latest_65 _ _ _ _ _ _ _ _ _ _ = _
        rw [e0, if_neg (by rw [J_eq (by omega)]; omega), if_pos (by rw [J_le (by omega)]; omega)]
        exact e1
      · have hz2 : 0 ≤ 6 * ((i : Int) - 1) + (r : Int) ∧ 6 * ((i : Int) - 1) + (r : Int) < 32400 := by omega
        have hidx2 : (6 * ((i : Int) - 1) + (r : Int)).toNat = 6 * (i - 1) + r := by omega
        have hv := hI (i - 1) r (by omega) hr (Or.inl (by omega))
        by_cases h3 : Rc C (r, b - ((i - 1 : Nat) : Int)) (d, b)
        · refine ⟨_, ?_, h1c (hrec.2 (Or.inr (Or.inl ⟨by omega, h3⟩)))⟩
          show fX5_latest_65 _ _ _ _ _ _ _ _ _ _ = _
          rw [e0, if_neg (by rw [J_eq (by omega)]; omega), if_neg (by rw [J_le (by omega)]; omega), mr_20 o _ w hz2, Option.bind_some, hidx2, show ma (mSR S 20 f) 20 = f from rfl, hv.1 h3, if_neg (by rw [J_eq (by omega)]; omega)]
        · obtain ⟨f', e1, h⟩ := M_la129 (N := N) (o := o) (S := S) (w := w) hG ho hb hi hr hI h1 (fun h => h3 h.2) x (J (d : Int)) (fX5_latest_65 N o x (J b) (J (d : Int)) (J (i : Int)) K n) K
          refine ⟨f', ?_, h⟩
          show fX5_latest_65 _ _ _ _ _ _ _ _ _ _ = _
          rw [e0, if_neg (by rw [J_eq (by omega)]; omega), if_neg (by rw [J_le (by omega)]; omega), mr_20 o _ w hz2, Option.bind_some, hidx2, show ma (mSR S 20 f) 20 = f from rfl, hv.2 h3, if_pos rfl]
          exact e1
  · intro n f hI
    show fX5_latest_65 _ _ _ _ _ _ _ _ _ _ = _
    rw [fX5_latest_65]
    simp only [jn_0, jn_1, jn_2, jn_3, jn_4, jn_5, jn_6, jn_8, jn_9, jn_10, jn_11, jn_12, jn_16, jn_20, jn_24, jn_30, jn_31, jn_32, jn_36, jn_48, jn_57, jn_59, jn_60, jn_63, jn_72, jn_73, jn_96, jn_97, jn_100, jn_122, jn_144, jn_200, jn_240, jn_288, jn_512, jn_840, jn_1200, jn_1600, jn_5040, jn_5390, jn_5400, jn_9999, jn_18688, jn_32400, jn_99999, jn_100000, jn_1000000, jn_858993459, jn_1431655765, jn_252645135, jl_0, jl_1, jl_2, jl_3, jl_8, jl_9, jl_10, jl_20, jl_27, jl_47, jl_96, jl_99, jl_100, jl_200, jl_555, jl_2000, jl_10000, jl_12345, jl_65536, jl_99999, jl_131638, jl_240023, jl_298288, jl_383153, jl_1306021, jl_1960084, jl_4147840, jl_8740238, jl_9872299, jl_175252482, jl_291595537, jl_1103515245, jl_2000000000, jl_2147483648, jl_4721686497, jl_7873079139, J_add, J_sub, J_mul, J_neg, JL_add, JL_sub, JL_mul, JL_neg, J_long, JL_int, ↓remI_fold, ↓remL_fold, Int.reduceAdd, Int.reduceSub, Int.reduceMul, Int.reduceNeg, Int.reduceToNat, mg_17, mr_7 o _ w (show (0 : Int) ≤ 0 ∧ (0 : Int) < 6 by omega), gm_R (hGf f), Option.bind_some, Int.toNat_zero]
    rw [if_pos (by rw [J_le (by omega)]; omega)]
theorem M_latest (hG : GdM S 0 C) (ho : OkC C) (hN : 1000000 ≤ N) {v b : Int} (hv : -2147483648 ≤ v ∧ v ≤ 2147483647) (hb : -2147483648 ≤ b ∧ b ≤ 2147483647) : ∃ S', fX5_latest N (emM o S w) o (J v) (J b) = some (J (sp_latest C v b), emM o S' w) ∧ FrM S S' := by
  have hG' : GdM (mSI S 0 (J 0)) 0 C := hG
  have hF : FrM S (mSI S 0 (J 0)) := FrM_I S 0 _ (by decide)
  have hn8 := cN_le C
  have hR := cR_le C
  unfold fX5_latest sp_latest
  simp only [jn_0, jn_1, jn_2, jn_3, jn_4, jn_5, jn_6, jn_8, jn_9, jn_10, jn_11, jn_12, jn_16, jn_20, jn_24, jn_30, jn_31, jn_32, jn_36, jn_48, jn_57, jn_59, jn_60, jn_63, jn_72, jn_73, jn_96, jn_97, jn_100, jn_122, jn_144, jn_200, jn_240, jn_288, jn_512, jn_840, jn_1200, jn_1600, jn_5040, jn_5390, jn_5400, jn_9999, jn_18688, jn_32400, jn_99999, jn_100000, jn_1000000, jn_858993459, jn_1431655765, jn_252645135, jl_0, jl_1, jl_2, jl_3, jl_8, jl_9, jl_10, jl_20, jl_27, jl_47, jl_96, jl_99, jl_100, jl_200, jl_555, jl_2000, jl_10000, jl_12345, jl_65536, jl_99999, jl_131638, jl_240023, jl_298288, jl_383153, jl_1306021, jl_1960084, jl_4147840, jl_8740238, jl_9872299, jl_175252482, jl_291595537, jl_1103515245, jl_2000000000, jl_2147483648, jl_4721686497, jl_7873079139, J_add, J_sub, J_mul, J_neg, JL_add, JL_sub, JL_mul, JL_neg, J_long, JL_int, ↓remI_fold, ↓remL_fold, Int.reduceAdd, Int.reduceSub, Int.reduceMul, Int.reduceNeg, Int.reduceToNat, Classical.not_not, em_t, Bp_eq0, Bp_eq1, Bp_01, Bp_mk, Bp_mk', Bp_0, Bp_0', Bp_1, Bp_1', if_true, if_false, ite_not, mp_0, M_isLetter hG' hv, M_isBeat hb, Option.bind_some]
  by_cases h1 : 0 ≤ v ∧ v < cN C
  case neg => exact ⟨_, by rw [if_neg h1, if_neg h1], hF⟩
  simp only [if_pos h1]
  by_cases h2 : 0 ≤ b ∧ b ≤ 99999
  case neg => exact ⟨_, by rw [if_neg h2, if_neg h2], hF⟩
  simp only [if_pos h2]
  obtain ⟨k, hk⟩ : ∃ k : Nat, v = k := ⟨v.toNat, by omega⟩
  subst hk
  simp only [Int.toNat_natCast]
  have hk' : k < cN C := by omega
  have hok := ho.2.1 k hk'
  have hA := cA_le C k
  have z0 : 0 ≤ 3 * (k : Int) ∧ 3 * (k : Int) < 144 := by omega
  have z1 : 0 ≤ 3 * (k : Int) + 1 ∧ 3 * (k : Int) + 1 < 144 := by omega
  have z2 : 0 ≤ 3 * (k : Int) + 2 ∧ 3 * (k : Int) + 2 < 144 := by omega
  have i0 : (3 * (k : Int)).toNat = 3 * k := by omega
  have i1 : (3 * (k : Int) + 1).toNat = 3 * k + 1 := by omega
  have i2 : (3 * (k : Int) + 2).toNat = 3 * k + 2 := by omega
  have hGf : ∀ g, GdM (mSR (mSI S 0 (J 0)) 20 g) 0 C := fun g => FrM_G (FrM_R _ 20 _ (by decide)) hG'
  simp only [mg_24, mr_14 o _ w z2, i2, gm_D hG' hk', Option.bind_some]
  have hstep : ∀ n i f, i < min 5400 (b - (cA C k : Int) + 1).toNat → RlB C b (cD C k) (fun e _ => e < i) f → ∃ f', fX5_latest_37 N o (J (k : Int)) (J b) (J (cD C k : Int)) (fun y35 w36 => some (J b - y35, w36)) (fun w37 => some (J (-1), w37)) (n + 1) (J (i : Int)) (emM o (mSR (mSI S 0 (J 0)) 20 f) w) = (if f' (6 * i + cF C k) = J 0 then fX5_latest_37 N o (J (k : Int)) (J b) (J (cD C k : Int)) (fun y35 w36 => some (J b - y35, w36)) (fun w37 => some (J (-1), w37)) n (J ((i + 1 : Nat) : Int)) (emM o (mSR (mSI S 0 (J 0)) 20 f') w) else some (J (b - (i : Int)), emM o (mSR (mSI S 0 (J 0)) 20 f') w)) ∧ RlB C b (cD C k) (fun e _ => e < i + 1) f' := by
    intro n i f hi hI
    have hz : 0 ≤ 6 * (i : Int) + (cF C k : Int) ∧ 6 * (i : Int) + (cF C k : Int) < 32400 := by omega
    have hidx : (6 * (i : Int) + (cF C k : Int)).toNat = 6 * i + cF C k := by omega
    obtain ⟨f', e1, h⟩ := M_la65 (N := N) (o := o) (w := w) hG' ho hN h2 (d := cD C k) (i := i) (by omega) (by omega) hI (J (k : Int)) (fun w29 =>
            (gR w29 [5] o 33).bind fun x30 =>
            (gR w29 [5] o 24).bind fun x31 =>
            (aI 0 w29 x31 (J (3 * (k : Int)))).bind fun x32 =>
            (aI 3 w29 x30 (J (6 * (i : Int)) + x32)).bind fun x33 =>
            if x33 = J 0 then
              (some (J ((i + 1 : Nat) : Int))).bind fun x34 =>
              fX5_latest_37 N o (J (k : Int)) (J b) (J (cD C k : Int)) (fun y35 w36 => some (J b - y35, w36)) (fun w37 => some (J (-1), w37)) n x34 w29
            else
              some (J b - J (i : Int), w29))
    refine ⟨f', ?_, h⟩
    rw [fX5_latest_37]
    simp only [jn_0, jn_1, jn_2, jn_3, jn_4, jn_5, jn_6, jn_8, jn_9, jn_10, jn_11, jn_12, jn_16, jn_20, jn_24, jn_30, jn_31, jn_32, jn_36, jn_48, jn_57, jn_59, jn_60, jn_63, jn_72, jn_73, jn_96, jn_97, jn_100, jn_122, jn_144, jn_200, jn_240, jn_288, jn_512, jn_840, jn_1200, jn_1600, jn_5040, jn_5390, jn_5400, jn_9999, jn_18688, jn_32400, jn_99999, jn_100000, jn_1000000, jn_858993459, jn_1431655765, jn_252645135, jl_0, jl_1, jl_2, jl_3, jl_8, jl_9, jl_10, jl_20, jl_27, jl_47, jl_96, jl_99, jl_100, jl_200, jl_555, jl_2000, jl_10000, jl_12345, jl_65536, jl_99999, jl_131638, jl_240023, jl_298288, jl_383153, jl_1306021, jl_1960084, jl_4147840, jl_8740238, jl_9872299, jl_175252482, jl_291595537, jl_1103515245, jl_2000000000, jl_2147483648, jl_4721686497, jl_7873079139, J_add, J_sub, J_mul, J_neg, JL_add, JL_sub, JL_mul, JL_neg, J_long, JL_int, ↓remI_fold, ↓remL_fold, Int.reduceAdd, Int.reduceSub, Int.reduceMul, Int.reduceNeg, Int.reduceToNat, mg_24, mr_14 o _ w z1, i1, gm_A (hGf f) hk', Option.bind_some, castS]
    rw [if_neg (by rw [J_le (by omega)]; omega), if_neg (by rw [J_lt (by omega)]; omega)]
    simp only [jn_0, jn_1, jn_2, jn_3, jn_4, jn_5, jn_6, jn_8, jn_9, jn_10, jn_11, jn_12, jn_16, jn_20, jn_24, jn_30, jn_31, jn_32, jn_36, jn_48, jn_57, jn_59, jn_60, jn_63, jn_72, jn_73, jn_96, jn_97, jn_100, jn_122, jn_144, jn_200, jn_240, jn_288, jn_512, jn_840, jn_1200, jn_1600, jn_5040, jn_5390, jn_5400, jn_9999, jn_18688, jn_32400, jn_99999, jn_100000, jn_1000000, jn_858993459, jn_1431655765, jn_252645135, jl_0, jl_1, jl_2, jl_3, jl_8, jl_9, jl_10, jl_20, jl_27, jl_47, jl_96, jl_99, jl_100, jl_200, jl_555, jl_2000, jl_10000, jl_12345, jl_65536, jl_99999, jl_131638, jl_240023, jl_298288, jl_383153, jl_1306021, jl_1960084, jl_4147840, jl_8740238, jl_9872299, jl_175252482, jl_291595537, jl_1103515245, jl_2000000000, jl_2147483648, jl_4721686497, jl_7873079139, J_add, J_sub, J_mul, J_neg, JL_add, JL_sub, JL_mul, JL_neg, J_long, JL_int, ↓remI_fold, ↓remL_fold, Int.reduceAdd, Int.reduceSub, Int.reduceMul, Int.reduceNeg, Int.reduceToNat] at e1
    refine e1.trans ?_
    simp only [jn_0, jn_1, jn_2, jn_3, jn_4, jn_5, jn_6, jn_8, jn_9, jn_10, jn_11, jn_12, jn_16, jn_20, jn_24, jn_30, jn_31, jn_32, jn_36, jn_48, jn_57, jn_59, jn_60, jn_63, jn_72, jn_73, jn_96, jn_97, jn_100, jn_122, jn_144, jn_200, jn_240, jn_288, jn_512, jn_840, jn_1200, jn_1600, jn_5040, jn_5390, jn_5400, jn_9999, jn_18688, jn_32400, jn_99999, jn_100000, jn_1000000, jn_858993459, jn_1431655765, jn_252645135, jl_0, jl_1, jl_2, jl_3, jl_8, jl_9, jl_10, jl_20, jl_27, jl_47, jl_96, jl_99, jl_100, jl_200, jl_555, jl_2000, jl_10000, jl_12345, jl_65536, jl_99999, jl_131638, jl_240023, jl_298288, jl_383153, jl_1306021, jl_1960084, jl_4147840, jl_8740238, jl_9872299, jl_175252482, jl_291595537, jl_1103515245, jl_2000000000, jl_2147483648, jl_4721686497, jl_7873079139, J_add, J_sub, J_mul, J_neg, JL_add, JL_sub, JL_mul, JL_neg, J_long, JL_int, ↓remI_fold, ↓remL_fold, Int.reduceAdd, Int.reduceSub, Int.reduceMul, Int.reduceNeg, Int.reduceToNat, mg_33, mg_24, mr_14 o _ w z0, i0, gm_F (hGf f') hk', Option.bind_some, mr_20 o _ w hz, hidx]
    rw [show ma (mSR (mSI S 0 (J 0)) 20 f') 20 = f' from rfl]
  have key := lp_exf2 (fun n i f => fX5_latest_37 N o (J (k : Int)) (J b) (J (cD C k : Int)) (fun y35 w36 => some (J b - y35, w36)) (fun w37 => some (J (-1), w37)) n (J (i : Int)) (emM o (mSR (mSI S 0 (J 0)) 20 f) w)) (fun i f => (some (J (b - (i : Int)), emM o (mSR (mSI S 0 (J 0)) 20 f) w) : Option (Int32 × Wd))) (fun f => some (J (-1), emM o (mSR (mSI S 0 (J 0)) 20 f) w)) (min 5400 (b - (cA C k : Int) + 1).toNat) (fun i => cB (Rc C (cF C k, b - (i : Int)) (cD C k, b))) (fun i f => RlB C b (cD C k) (fun e _ => e < i) f) ?_ ?_ ?_ N (ma (mSI S 0 (J 0)) 20) (by omega) (fun e q _ _ h => absurd h (Nat.not_lt_zero _))
  · rw [lt_fi ho hok.1 rfl, mSR_id] at key
    rcases key with ⟨i, g, c1, c2⟩ | ⟨g, c1, c2⟩
    · refine ⟨mSR (mSI S 0 (J 0)) 20 g, c2.trans ?_, FrM_t hF (FrM_R _ 20 _ (by decide))⟩
      rw [c1]
    · refine ⟨mSR (mSI S 0 (J 0)) 20 g, c2.trans ?_, FrM_t hF (FrM_R _ 20 _ (by decide))⟩
      rw [c1]
  · intro n i f hi hI hp
    obtain ⟨f', e, h⟩ := hstep n i f hi hI
    have hv := (h i (cF C k) (by omega) hok.1 (Nat.lt_succ_self i)).1 (cB_t.1 hp)
    refine ⟨f', e.trans ?_⟩
    rw [hv, if_neg (by rw [J_eq (by omega)]; omega)]
  · intro n i f hi hI hp
    obtain ⟨f', e, h⟩ := hstep n i f hi hI
    have hv := (h i (cF C k) (by omega) hok.1 (Nat.lt_succ_self i)).2 (fun h => hp (cB_t.2 h))
    refine ⟨f', e.trans ?_, h⟩
    rw [hv, if_pos rfl]
  · intro n f hI
    show fX5_latest_37 _ _ _ _ _ _ _ _ _ _ = _
    rw [fX5_latest_37]
    simp only [jn_0, jn_1, jn_2, jn_3, jn_4, jn_5, jn_6, jn_8, jn_9, jn_10, jn_11, jn_12, jn_16, jn_20, jn_24, jn_30, jn_31, jn_32, jn_36, jn_48, jn_57, jn_59, jn_60, jn_63, jn_72, jn_73, jn_96, jn_97, jn_100, jn_122, jn_144, jn_200, jn_240, jn_288, jn_512, jn_840, jn_1200, jn_1600, jn_5040, jn_5390, jn_5400, jn_9999, jn_18688, jn_32400, jn_99999, jn_100000, jn_1000000, jn_858993459, jn_1431655765, jn_252645135, jl_0, jl_1, jl_2, jl_3, jl_8, jl_9, jl_10, jl_20, jl_27, jl_47, jl_96, jl_99, jl_100, jl_200, jl_555, jl_2000, jl_10000, jl_12345, jl_65536, jl_99999, jl_131638, jl_240023, jl_298288, jl_383153, jl_1306021, jl_1960084, jl_4147840, jl_8740238, jl_9872299, jl_175252482, jl_291595537, jl_1103515245, jl_2000000000, jl_2147483648, jl_4721686497, jl_7873079139, J_add, J_sub, J_mul, J_neg, JL_add, JL_sub, JL_mul, JL_neg, J_long, JL_int, ↓remI_fold, ↓remL_fold, Int.reduceAdd, Int.reduceSub, Int.reduceMul, Int.reduceNeg, Int.reduceToNat, mg_24, mr_14 o _ w z1, i1, gm_A (hGf f) hk', Option.bind_some]
    by_cases h3 : 5400 ≤ min 5400 (b - (cA C k : Int) + 1).toNat
    · rw [if_pos (by rw [J_le (by omega)]; omega)]
    · rw [if_neg (by rw [J_le (by omega)]; omega), if_pos (by rw [J_lt (by omega)]; omega)]
end
