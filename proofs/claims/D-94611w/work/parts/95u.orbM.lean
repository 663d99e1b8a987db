/-! the reference: orbits -/
set_option maxRecDepth 100000
def ixM (r b : Nat) : Nat := 6 * b + r
theorem ixM_i {C : Cy} : ∀ r b q s, r < cR C → b < rnd C → q < cR C → s < rnd C → ixM r b = ixM q s → r = q ∧ b = s := by
  intro r b q s hr _ hq _ h
  have := cR_le C
  unfold ixM at h; omega
section
variable {N o : Nat} {S : MS} {w : Wd} {C : Cy}
theorem mBl_A (T : MS) (p : Nat × Int) (i : Nat) (x : Int32) : mSA (mBl T p) 19 i x = mBl (mSA T 19 i x) p := rfl
theorem mBl_a (T : MS) (p : Nat × Int) (a : Nat) : ma (mBl T p) a = ma T a := rfl
theorem M_orb117 (hG : GdM S 0 C) (ho : OkC C) (hk : kp C = true) {p : Nat × Int} (hp : Lv C p) (hb : 0 ≤ p.2 ∧ p.2 ≤ 900) {M : Nat → Nat → Prop} (hM : ClO C M) (hm : ¬ M p.1 (clO C p)) (hf : RlO C ixM (ma S 19) M) (x y z : Int32) (k : Wd → Option (Int32 × Wd)) {n : Nat} (hn : 6000 < n) : ∃ f, fX5_orbits_117 N o (J (rnd C)) x y z k n (emM o (mBl S p) w) = k (emM o (mBl (mSR S 19 f) (bat C p (obL C p + 1))) w) ∧ RlO C ixM f (adO C M p) := by
  have hP := rnd_bd C
  have hR := cR_le C
  have hl := obL_lt hk ho hp
  have hRr := Rr_le C
  have key := lp_ex (fun n i f => fX5_orbits_117 N o (J (rnd C)) x y z k n (emM o (mBl (mSR S 19 f) (bat C p i)) w)) (fun f => k (emM o (mBl (mSR S 19 f) (bat C p (obL C p + 1))) w)) (obL C p + 1) (fun i f => RlO C ixM f (miO C M p i)) ?_ ?_ n (ma S 19) (by omega) (miO_0 p hf)
  · obtain ⟨f, e, hF⟩ := key
    refine ⟨f, ?_, miO_full hk ho hp hF⟩
    simp only [mSR_id] at e
    exact e
  · intro n i f hi hI
    have hnot := miO_not hk ho hM hp hm (i := i) (by omega)
    have hq := Lv_at hk ho hp i
    have hbb := bat_hi C p i
    have hstep := miO_step ixM_i hq.1 hI
    have hv := (hI _ _ hq.1 (clO_lt C (bat C p i))).2 hnot
    have hc := clO_cast C (bat C p i)
    have hcl := clO_lt C (bat C p i)
    refine ⟨upd f (ixM (bat C p i).1 (clO C (bat C p i))) (J 1), ?_, hstep⟩
    show _ = fX5_orbits_117 N o (J (rnd C)) x y z k n (emM o (mBl (mSR S 19 (upd f (ixM (bat C p i).1 (clO C (bat C p i))) (J 1))) (bgo C (bat C p i))) w)
    generalize hqq : bat C p i = q at *
    have hrem : remI (J q.2) (J (rnd C : Int)) = J (clO C q) := by rw [J_rem (by omega), hc]
    have hidx : (6 * ((clO C q : Nat) : Int) + (q.1 : Int)).toNat = ixM q.1 (clO C q) := by unfold ixM; omega
    have hz : 0 ≤ 6 * ((clO C q : Nat) : Int) + (q.1 : Int) ∧ 6 * ((clO C q : Nat) : Int) + (q.1 : Int) < 5040 := by have := hq.1; omega
    have hP0 : ¬ J (rnd C : Int) = J 0 := by rw [J_eq (by omega)]; omega
    have hG' : GdM (mSR S 19 (upd f (ixM q.1 (clO C q)) (J 1))) 0 C := FrM_G (FrM_R S 19 _ (by decide)) hG
    show fX5_orbits_117 _ _ _ _ _ _ _ _ _ = _
    rw [fX5_orbits_117]
    simp only [jn_0, jn_1, jn_2, jn_3, jn_4, jn_5, jn_6, jn_8, jn_9, jn_10, jn_11, jn_12, jn_16, jn_20, jn_24, jn_30, jn_31, jn_32, jn_36, jn_48, jn_57, jn_59, jn_60, jn_63, jn_72, jn_73, jn_96, jn_97, jn_100, jn_122, jn_144, jn_200, jn_240, jn_288, jn_512, jn_840, jn_1200, jn_1600, jn_5040, jn_5390, jn_5400, jn_9999, jn_18688, jn_32400, jn_99999, jn_100000, jn_1000000, jn_858993459, jn_1431655765, jn_252645135, jl_0, jl_1, jl_2, jl_3, jl_8, jl_9, jl_10, jl_20, jl_27, jl_47, jl_96, jl_99, jl_100, jl_200, jl_555, jl_2000, jl_10000, jl_12345, jl_65536, jl_99999, jl_131638, jl_240023, jl_298288, jl_383153, jl_1306021, jl_1960084, jl_4147840, jl_8740238, jl_9872299, jl_175252482, jl_291595537, jl_1103515245, jl_2000000000, jl_2147483648, jl_4721686497, jl_7873079139, J_add, J_sub, J_mul, J_neg, JL_add, JL_sub, JL_mul, JL_neg, J_long, JL_int, ↓remI_fold, ↓remL_fold, Int.reduceAdd, Int.reduceSub, Int.reduceMul, Int.reduceNeg, Int.reduceToNat, mg_32, mg_31, mg_30, mBl_30, mBl_31, Option.bind_some, hrem, if_neg hP0, mr_19 o _ w hz, hidx]
    rw [show ma (mBl (mSR S 19 f) q) 19 = f from rfl, hv]
    simp only [if_true, mw_19 o _ w _ hz, hidx, Option.bind_some, nar_31, mBl_A, mSA_R]
    rw [M_follows hG' hq.1 (by omega), Option.bind_some]
  · intro n f hI
    have hnot := miO_end M hk ho hp
    have hq := Lv_at hk ho hp (obL C p + 1)
    have hbb := bat_hi C p (obL C p + 1)
    have hv := (hI _ _ hq.1 (clO_lt C (bat C p (obL C p + 1)))).1 hnot
    have hc := clO_cast C (bat C p (obL C p + 1))
    have hcl := clO_lt C (bat C p (obL C p + 1))
    generalize hqq : bat C p (obL C p + 1) = q at *
    have hrem : remI (J q.2) (J (rnd C : Int)) = J (clO C q) := by rw [J_rem (by omega), hc]
    have hidx : (6 * ((clO C q : Nat) : Int) + (q.1 : Int)).toNat = ixM q.1 (clO C q) := by unfold ixM; omega
    have hz : 0 ≤ 6 * ((clO C q : Nat) : Int) + (q.1 : Int) ∧ 6 * ((clO C q : Nat) : Int) + (q.1 : Int) < 5040 := by have := hq.1; omega
    have hP0 : ¬ J (rnd C : Int) = J 0 := by rw [J_eq (by omega)]; omega
    show fX5_orbits_117 _ _ _ _ _ _ _ _ _ = _
    rw [fX5_orbits_117]
    simp only [jn_0, jn_1, jn_2, jn_3, jn_4, jn_5, jn_6, jn_8, jn_9, jn_10, jn_11, jn_12, jn_16, jn_20, jn_24, jn_30, jn_31, jn_32, jn_36, jn_48, jn_57, jn_59, jn_60, jn_63, jn_72, jn_73, jn_96, jn_97, jn_100, jn_122, jn_144, jn_200, jn_240, jn_288, jn_512, jn_840, jn_1200, jn_1600, jn_5040, jn_5390, jn_5400, jn_9999, jn_18688, jn_32400, jn_99999, jn_100000, jn_1000000, jn_858993459, jn_1431655765, jn_252645135, jl_0, jl_1, jl_2, jl_3, jl_8, jl_9, jl_10, jl_20, jl_27, jl_47, jl_96, jl_99, jl_100, jl_200, jl_555, jl_2000, jl_10000, jl_12345, jl_65536, jl_99999, jl_131638, jl_240023, jl_298288, jl_383153, jl_1306021, jl_1960084, jl_4147840, jl_8740238, jl_9872299, jl_175252482, jl_291595537, jl_1103515245, jl_2000000000, jl_2147483648, jl_4721686497, jl_7873079139, J_add, J_sub, J_mul, J_neg, JL_add, JL_sub, JL_mul, JL_neg, J_long, JL_int, ↓remI_fold, ↓remL_fold, Int.reduceAdd, Int.reduceSub, Int.reduceMul, Int.reduceNeg, Int.reduceToNat, mg_32, mg_31, mg_30, mBl_30, mBl_31, Option.bind_some, hrem, if_neg hP0, mr_19 o _ w hz, hidx]
    rw [show ma (mBl (mSR S 19 f) q) 19 = f from rfl, hv, if_neg (by rw [J_eq (by omega)]; omega)]
/-- what holds between the steps -/
def InO (C : Cy) (S0 S : MS) (c : Int) (V : Nat → Nat → Prop) : Prop := FrM S0 S ∧ ∃ M, ClO C M ∧ RlO C ixM (ma S 19) M ∧ c = oc C M ∧ dnO C M V
theorem InO_V {S0 S : MS} {c : Int} {V V' : Nat → Nat → Prop} (h : InO C S0 S c V) (hv : ∀ r b, r < cR C → b < rnd C → V' r b → V r b) : InO C S0 S c V' := by
  obtain ⟨h1, M, h2, h3, h4, h5⟩ := h
  exact ⟨h1, M, h2, h3, h4, fun r b hr hb hx => h5 r b hr hb (hv r b hr hb hx)⟩
theorem M_orb64 (hG : GdM S 0 C) (ho : OkC C) (hk : kp C = true) (hN : 1000000 ≤ N) {t : Nat} (ht : t < rnd C) (k : Int32 → Wd → Option (Int32 × Wd)) {n : Nat} (hn : 6 < n) {T : MS} {c : Int} (hI : InO C S T c (fun _ b => b < t)) : ∃ T' c', fX5_orbits_64 N o (J (rnd C)) (J t) k n (J c) (J 0) (emM o T w) = k (J c') (emM o T' w) ∧ InO C S T' c' (fun _ b => b < t + 1) := by
  have hP := rnd_bd C
  have hR := cR_le C
  have key := lp_ex (fun n r (s : MS × Int) => fX5_orbits_64 N o (J (rnd C)) (J t) k n (J s.2) (J (r : Int)) (emM o s.1 w)) (fun s => k (J s.2) (emM o s.1 w)) (cR C) (fun r s => InO C S s.1 s.2 (fun q b => b < t ∨ (b = t ∧ q < r))) ?_ ?_ n (T, c) (by omega) (InO_V hI (fun r b _ _ h => by omega))
  · obtain ⟨s, e, h⟩ := key
    exact ⟨s.1, s.2, e, InO_V h (fun r b hr _ h => by omega)⟩
  · intro n r s hr hI
    obtain ⟨T, c⟩ := s
    obtain ⟨h1, M, h2, h3, h4, h5⟩ := hI
    simp only at h1 h2 h3 h4
    have hG' : GdM T 0 C := FrM_G h1 hG
    have h9 := hh_le C r t
    have hz : 0 ≤ 6 * (t : Int) + (r : Int) ∧ 6 * (t : Int) + (r : Int) < 5040 := by omega
    have hidx : (6 * (t : Int) + (r : Int)).toNat = ixM r t := by unfold ixM; omega
    have hle : ¬ J (cR C : Int) ≤ J (r : Int) := by rw [J_le (by omega)]; omega
    have hcl : clO C (r, (t : Int)) = t := (cl_eq (Al_r C _) ht).2
    by_cases hm : M r t
    · refine ⟨(T, c), ?_, h1, M, h2, h3, h4, fun q b hq hb hv ha => ?_⟩
      · show fX5_orbits_64 _ _ _ _ _ _ _ _ _ = _
        rw [fX5_orbits_64]
        simp only [jn_0, jn_1, jn_2, jn_3, jn_4, jn_5, jn_6, jn_8, jn_9, jn_10, jn_11, jn_12, jn_16, jn_20, jn_24, jn_30, jn_31, jn_32, jn_36, jn_48, jn_57, jn_59, jn_60, jn_63, jn_72, jn_73, jn_96, jn_97, jn_100, jn_122, jn_144, jn_200, jn_240, jn_288, jn_512, jn_840, jn_1200, jn_1600, jn_5040, jn_5390, jn_5400, jn_9999, jn_18688, jn_32400, jn_99999, jn_100000, jn_1000000, jn_858993459, jn_1431655765, jn_252645135, jl_0, jl_1, jl_2, jl_3, jl_8, jl_9, jl_10, jl_20, jl_27, jl_47, jl_96, jl_99, jl_100, jl_200, jl_555, jl_2000, jl_10000, jl_12345, jl_65536, jl_99999, jl_131638, jl_240023, jl_298288, jl_383153, jl_1306021, jl_1960084, jl_4147840, jl_8740238, jl_9872299, jl_175252482, jl_291595537, jl_1103515245, jl_2000000000, jl_2147483648, jl_4721686497, jl_7873079139, J_add, J_sub, J_mul, J_neg, JL_add, JL_sub, JL_mul, JL_neg, J_long, JL_int, ↓remI_fold, ↓remL_fold, Int.reduceAdd, Int.reduceSub, Int.reduceMul, Int.reduceNeg, Int.reduceToNat, mg_17, mg_32, mr_7 o T w (show (0 : Int) ≤ 0 ∧ (0 : Int) < 6 by omega), gm_R hG', Option.bind_some, Int.toNat_zero, if_neg hle, mr_19 o _ w hz, hidx, (h3 r t hr ht).1 hm, castS]
        rw [if_neg (by rw [J_eq (by omega)]; omega)]
      · by_cases e : b = t ∧ q = r
        · rw [e.1, e.2]; exact hm
        · exact h5 q b hq hb (by omega) ha
    · by_cases h0 : hh C r t = 0
      · refine ⟨(T, c), ?_, h1, M, h2, h3, h4, fun q b hq hb hv ha => ?_⟩
        · show fX5_orbits_64 _ _ _ _ _ _ _ _ _ = _
          rw [fX5_orbits_64]
          simp only [jn_0, jn_1, jn_2, jn_3, jn_4, jn_5, jn_6, jn_8, jn_9, jn_10, jn_11, jn_12, jn_16, jn_20, jn_24, jn_30, jn_31, jn_32, jn_36, jn_48, jn_57, jn_59, jn_60, jn_63, jn_72, jn_73, jn_96, jn_97, jn_100, jn_122, jn_144, jn_200, jn_240, jn_288, jn_512, jn_840, jn_1200, jn_1600, jn_5040, jn_5390, jn_5400, jn_9999, jn_18688, jn_32400, jn_99999, jn_100000, jn_1000000, jn_858993459, jn_1431655765, jn_252645135, jl_0, jl_1, jl_2, jl_3, jl_8, jl_9, jl_10, jl_20, jl_27, jl_47, jl_96, jl_99, jl_100, jl_200, jl_555, jl_2000, jl_10000, jl_12345, jl_65536, jl_99999, jl_131638, jl_240023, jl_298288, jl_383153, jl_1306021, jl_1960084, jl_4147840, jl_8740238, jl_9872299, jl_175252482, jl_291595537, jl_1103515245, jl_2000000000, jl_2147483648, jl_4721686497, jl_7873079139, J_add, J_sub, J_mul, J_neg, JL_add, JL_sub, JL_mul, JL_neg, J_long, JL_int, ↓remI_fold, ↓remL_fold, Int.reduceAdd, Int.reduceSub, Int.reduceMul, Int.reduceNeg, Int.reduceToNat, mg_17, mg_32, mr_7 o T w (show (0 : Int) ≤ 0 ∧ (0 : Int) < 6 by omega), gm_R hG', Option.bind_some, Int.toNat_zero, if_neg hle, mr_19 o _ w hz, hidx, (h3 r t hr ht).2 hm, if_true, M_highOf hG' hr (show -1000000 ≤ (t : Int) ∧ (t : Int) ≤ 1000000 by omega), castS]
          rw [h0, if_pos (by rfl)]
        · by_cases e : b = t ∧ q = r
          · rw [e.1, e.2, h0] at ha; omega
          · exact h5 q b hq hb (by omega) ha
      · have hp : Lv C (r, (t : Int)) := ⟨hr, by simp only; omega⟩
        have hnm : ¬ M (r, (t : Int)).1 (clO C (r, (t : Int))) := by rw [hcl]; exact hm
        obtain ⟨f, e, hF⟩ := M_orb117 (N := N) (o := o) (w := w) hG' ho hk hp (by simp only; omega) h2 hnm h3 (J (c + 1)) (J t) (J r) (fun w27 => (some (J ((r + 1 : Nat) : Int))).bind fun x28 => fX5_orbits_64 N o (J (rnd C)) (J t) k n (J (c + 1)) x28 w27) (n := N) (by omega)
        refine ⟨(mBl (mSR T 19 f) (bat C (r, (t : Int)) (obL C (r, (t : Int)) + 1)), c + 1), ?_, FrM_t h1 (FrM_t (FrM_R T 19 _ (by decide)) (FrM_Bl _ _)), adO C M (r, (t : Int)), adO_Cl hk ho h2 hp, hF, ?_, fun q b hq hb hv ha => ?_⟩
        · show fX5_orbits_64 _ _ _ _ _ _ _ _ _ = _
          rw [fX5_orbits_64]
          simp only [jn_0, jn_1, jn_2, jn_3, jn_4, jn_5, jn_6, jn_8, jn_9, jn_10, jn_11, jn_12, jn_16, jn_20, jn_24, jn_30, jn_31, jn_32, jn_36, jn_48, jn_57, jn_59, jn_60, jn_63, jn_72, jn_73, jn_96, jn_97, jn_100, jn_122, jn_144, jn_200, jn_240, jn_288, jn_512, jn_840, jn_1200, jn_1600, jn_5040, jn_5390, jn_5400, jn_9999, jn_18688, jn_32400, jn_99999, jn_100000, jn_1000000, jn_858993459, jn_1431655765, jn_252645135, jl_0, jl_1, jl_2, jl_3, jl_8, jl_9, jl_10, jl_20, jl_27, jl_47, jl_96, jl_99, jl_100, jl_200, jl_555, jl_2000, jl_10000, jl_12345, jl_65536, jl_99999, jl_131638, jl_240023, jl_298288, jl_383153, jl_1306021, jl_1960084, jl_4147840, jl_8740238, jl_9872299, jl_175252482, jl_291595537, jl_1103515245, jl_2000000000, jl_2147483648, jl_4721686497, jl_7873079139, J_add, J_sub, J_mul, J_neg, JL_add, JL_sub, JL_mul, JL_neg, J_long, JL_int, ↓remI_fold, ↓remL_fold, Int.reduceAdd, Int.reduceSub, Int.reduceMul, Int.reduceNeg, Int.reduceToNat, mg_17, mg_32, mr_7 o T w (show (0 : Int) ≤ 0 ∧ (0 : Int) < 6 by omega), gm_R hG', Option.bind_some, Int.toNat_zero, if_neg hle, mr_19 o _ w hz, hidx, (h3 r t hr ht).2 hm, if_true, M_highOf hG' hr (show -1000000 ≤ (t : Int) ∧ (t : Int) ≤ 1000000 by omega), castS, mp_30, mp_31]
          rw [if_neg (by rw [J_eq (by omega)]; omega)]
          exact e
        · rw [oc_add hk ho h2 hp hnm, h4]
        · by_cases e : b = t ∧ q = r
          · rw [e.1, e.2]; exact Or.inr ⟨ht, 0, Al_r C _⟩
          · exact Or.inl (h5 q b hq hb (by omega) ha)
  · intro n s hI
    have hG' : GdM s.1 0 C := FrM_G hI.1 hG
    show fX5_orbits_64 _ _ _ _ _ _ _ _ _ = _
    rw [fX5_orbits_64]
    simp only [jn_0, jn_1, jn_2, jn_3, jn_4, jn_5, jn_6, jn_8, jn_9, jn_10, jn_11, jn_12, jn_16, jn_20, jn_24, jn_30, jn_31, jn_32, jn_36, jn_48, jn_57, jn_59, jn_60, jn_63, jn_72, jn_73, jn_96, jn_97, jn_100, jn_122, jn_144, jn_200, jn_240, jn_288, jn_512, jn_840, jn_1200, jn_1600, jn_5040, jn_5390, jn_5400, jn_9999, jn_18688, jn_32400, jn_99999, jn_100000, jn_1000000, jn_858993459, jn_1431655765, jn_252645135, jl_0, jl_1, jl_2, jl_3, jl_8, jl_9, jl_10, jl_20, jl_27, jl_47, jl_96, jl_99, jl_100, jl_200, jl_555, jl_2000, jl_10000, jl_12345, jl_65536, jl_99999, jl_131638, jl_240023, jl_298288, jl_383153, jl_1306021, jl_1960084, jl_4147840, jl_8740238, jl_9872299, jl_175252482, jl_291595537, jl_1103515245, jl_2000000000, jl_2147483648, jl_4721686497, jl_7873079139, J_add, J_sub, J_mul, J_neg, JL_add, JL_sub, JL_mul, JL_neg, J_long, JL_int, ↓remI_fold, ↓remL_fold, Int.reduceAdd, Int.reduceSub, Int.reduceMul, Int.reduceNeg, Int.reduceToNat, mg_17, mr_7 o s.1 w (show (0 : Int) ≤ 0 ∧ (0 : Int) < 6 by omega), gm_R hG', Option.bind_some, Int.toNat_zero]
    rw [if_pos (by rw [J_le (by omega)]; omega)]
theorem M_orb31 (hN : 1000000 ≤ N) (k : Wd → Option (Int32 × Wd)) : ∃ f, fX5_orbits_31 N o (J (rnd C)) k N (J 0) (emM o S w) = k (emM o (mSR S 19 f) w) ∧ ∀ j, j < 6 * rnd C → f j = J 0 := by
  have hP := rnd_bd C
  refine ⟨fun j => if j < 6 * rnd C then J 0 else ma S 19 j, ?_, fun j hj => if_pos hj⟩
  have key := lp_cnt (fun n i => fX5_orbits_31 N o (J (rnd C)) k n (J (i : Int)) (emM o (mSR S 19 (fun j => if j < i then J 0 else ma S 19 j)) w)) (k (emM o (mSR S 19 (fun j => if j < 6 * rnd C then J 0 else ma S 19 j)) w)) (6 * rnd C) ?_ ?_ N (by omega)
  · have e1 : (fun j => if j < 0 then J 0 else ma S 19 j) = ma S 19 := by funext j; rw [if_neg (by omega)]
    rw [e1, mSR_id] at key
    exact key
  · intro n i hi
    have hz : 0 ≤ (i : Int) ∧ (i : Int) < 5040 := by omega
    show fX5_orbits_31 _ _ _ _ _ _ _ = _
    rw [fX5_orbits_31]
    simp only [jn_0, jn_1, jn_2, jn_3, jn_4, jn_5, jn_6, jn_8, jn_9, jn_10, jn_11, jn_12, jn_16, jn_20, jn_24, jn_30, jn_31, jn_32, jn_36, jn_48, jn_57, jn_59, jn_60, jn_63, jn_72, jn_73, jn_96, jn_97, jn_100, jn_122, jn_144, jn_200, jn_240, jn_288, jn_512, jn_840, jn_1200, jn_1600, jn_5040, jn_5390, jn_5400, jn_9999, jn_18688, jn_32400, jn_99999, jn_100000, jn_1000000, jn_858993459, jn_1431655765, jn_252645135, jl_0, jl_1, jl_2, jl_3, jl_8, jl_9, jl_10, jl_20, jl_27, jl_47, jl_96, jl_99, jl_100, jl_200, jl_555, jl_2000, jl_10000, jl_12345, jl_65536, jl_99999, jl_131638, jl_240023, jl_298288, jl_383153, jl_1306021, jl_1960084, jl_4147840, jl_8740238, jl_9872299, jl_175252482, jl_291595537, jl_1103515245, jl_2000000000, jl_2147483648, jl_4721686497, jl_7873079139, J_add, J_sub, J_mul, J_neg, JL_add, JL_sub, JL_mul, JL_neg, J_long, JL_int, ↓remI_fold, ↓remL_fold, Int.reduceAdd, Int.reduceSub, Int.reduceMul, Int.reduceNeg, Int.reduceToNat, mg_32, Option.bind_some, mw_19 o _ w _ hz, nar_30, mSA_R, Int.toNat_natCast, castS]
    rw [if_neg (by rw [J_le (by omega)]; omega), lt_upd (fun _ => J 0) (ma S 19) i]
  · intro n
    show fX5_orbits_31 _ _ _ _ _ _ _ = _
    rw [fX5_orbits_31]
    simp only [jn_0, jn_1, jn_2, jn_3, jn_4, jn_5, jn_6, jn_8, jn_9, jn_10, jn_11, jn_12, jn_16, jn_20, jn_24, jn_30, jn_31, jn_32, jn_36, jn_48, jn_57, jn_59, jn_60, jn_63, jn_72, jn_73, jn_96, jn_97, jn_100, jn_122, jn_144, jn_200, jn_240, jn_288, jn_512, jn_840, jn_1200, jn_1600, jn_5040, jn_5390, jn_5400, jn_9999, jn_18688, jn_32400, jn_99999, jn_100000, jn_1000000, jn_858993459, jn_1431655765, jn_252645135, jl_0, jl_1, jl_2, jl_3, jl_8, jl_9, jl_10, jl_20, jl_27, jl_47, jl_96, jl_99, jl_100, jl_200, jl_555, jl_2000, jl_10000, jl_12345, jl_65536, jl_99999, jl_131638, jl_240023, jl_298288, jl_383153, jl_1306021, jl_1960084, jl_4147840, jl_8740238, jl_9872299, jl_175252482, jl_291595537, jl_1103515245, jl_2000000000, jl_2147483648, jl_4721686497, jl_7873079139, J_add, J_sub, J_mul, J_neg, JL_add, JL_sub, JL_mul, JL_neg, J_long, JL_int, ↓remI_fold, ↓remL_fold, Int.reduceAdd, Int.reduceSub, Int.reduceMul, Int.reduceNeg, Int.reduceToNat]
    rw [if_pos (by rw [J_le (by omega)]; omega)]
theorem M_orbits (hG : GdM S 0 C) (ho : OkC C) (hN : 1000000 ≤ N) : ∃ S', fX5_orbits N (emM o S w) o = some (J (sp_orbits C), emM o S' w) ∧ FrM S S' := by
  have hG' : GdM (mSI S 0 (J 0)) 0 C := hG
  have hF : FrM S (mSI S 0 (J 0)) := FrM_I S 0 _ (by decide)
  have hR := cR_le C
  have hP := rnd_bd C
  unfold fX5_orbits sp_orbits
  simp only [jn_0, jn_1, jn_2, jn_3, jn_4, jn_5, jn_6, jn_8, jn_9, jn_10, jn_11, jn_12, jn_16, jn_20, jn_24, jn_30, jn_31, jn_32, jn_36, jn_48, jn_57, jn_59, jn_60, jn_63, jn_72, jn_73, jn_96, jn_97, jn_100, jn_122, jn_144, jn_200, jn_240, jn_288, jn_512, jn_840, jn_1200, jn_1600, jn_5040, jn_5390, jn_5400, jn_9999, jn_18688, jn_32400, jn_99999, jn_100000, jn_1000000, jn_858993459, jn_1431655765, jn_252645135, jl_0, jl_1, jl_2, jl_3, jl_8, jl_9, jl_10, jl_20, jl_27, jl_47, jl_96, jl_99, jl_100, jl_200, jl_555, jl_2000, jl_10000, jl_12345, jl_65536, jl_99999, jl_131638, jl_240023, jl_298288, jl_383153, jl_1306021, jl_1960084, jl_4147840, jl_8740238, jl_9872299, jl_175252482, jl_291595537, jl_1103515245, jl_2000000000, jl_2147483648, jl_4721686497, jl_7873079139, J_add, J_sub, J_mul, J_neg, JL_add, JL_sub, JL_mul, JL_neg, J_long, JL_int, ↓remI_fold, ↓remL_fold, Int.reduceAdd, Int.reduceSub, Int.reduceMul, Int.reduceNeg, Int.reduceToNat, Classical.not_not, em_t, Bp_eq0, Bp_eq1, Bp_01, Bp_mk, Bp_mk', Bp_0, Bp_0', Bp_1, Bp_1', if_true, if_false, ite_not, mp_0, M_isCity hG', M_isUp hG' (show 1000 ≤ N by omega), M_round hG' (show 1000 ≤ N by omega), Option.bind_some]
  by_cases h1 : 0 < cR C
  case neg => exact ⟨_, by rw [if_neg h1, if_neg h1], hF⟩
  simp only [if_pos h1]
  by_cases h2 : kp C = true
  case neg => exact ⟨_, by rw [if_neg h2, if_neg h2], hF⟩
  simp only [if_pos h2]
  obtain ⟨f, e, hf⟩ := M_orb31 (N := N) (o := o) (S := mSI S 0 (J 0)) (w := w) (C := C) hN (fun w8 => fX5_orbits_56 N o (J (rnd C)) (fun y33 w34 => some (y33, w34)) N (J 0) (J 0) w8)
  have e0 : InO C S (mSR (mSI S 0 (J 0)) 19 f) 0 (fun _ b => b < 0) := by
    refine ⟨FrM_t hF (FrM_R _ 19 _ (by decide)), fun _ _ => False, ⟨fun _ _ h => h.elim, fun _ _ h => h.elim⟩, fun r b hr hb => ⟨fun h => h.elim, fun _ => hf _ (by unfold ixM; omega)⟩, ?_, fun _ _ _ _ h => absurd h (Nat.not_lt_zero _)⟩
    unfold oc
    rw [sm_congr (g := fun _ => 0) (fun r _ => by rw [sm_congr (g := fun _ => 0) (fun b _ => indC_f (fun h => h.1)), sm_zero]), sm_zero]
  have key := lp_ex (fun n t (s : MS × Int) => fX5_orbits_56 N o (J (rnd C)) (fun y33 w34 => some (y33, w34)) n (J s.2) (J (t : Int)) (emM o s.1 w)) (fun s => some (J s.2, emM o s.1 w)) (rnd C) (fun t s => InO C S s.1 s.2 (fun _ b => b < t)) ?_ ?_ N (mSR (mSI S 0 (J 0)) 19 f, 0) (by omega) e0
  · obtain ⟨s, e2, h3, M, h4, h5, h6, h7⟩ := key
    refine ⟨s.1, ?_, h3⟩
    rw [e]
    refine Eq.trans e2 ?_
    rw [h6, oc_all h4 (fun r b hr hb _ => h7 r b hr hb hb)]
  · intro n t s ht hI
    obtain ⟨T', c', e3, h3⟩ := M_orb64 (N := N) (o := o) (w := w) hG ho h2 hN ht (fun y30 w31 => (some (J (t : Int) + 1)).bind fun x32 => fX5_orbits_56 N o (J (rnd C)) (fun y33 w34 => some (y33, w34)) n y30 x32 w31) (n := N) (by omega) hI
    refine ⟨(T', c'), ?_, h3⟩
    show fX5_orbits_56 _ _ _ _ _ _ _ _ = _
    rw [fX5_orbits_56, if_neg (by rw [J_le (by omega)]; omega)]
    refine Eq.trans e3 ?_
    simp only [jn_0, jn_1, jn_2, jn_3, jn_4, jn_5, jn_6, jn_8, jn_9, jn_10, jn_11, jn_12, jn_16, jn_20, jn_24, jn_30, jn_31, jn_32, jn_36, jn_48, jn_57, jn_59, jn_60, jn_63, jn_72, jn_73, jn_96, jn_97, jn_100, jn_122, jn_144, jn_200, jn_240, jn_288, jn_512, jn_840, jn_1200, jn_1600, jn_5040, jn_5390, jn_5400, jn_9999, jn_18688, jn_32400, jn_99999, jn_100000, jn_1000000, jn_858993459, jn_1431655765, jn_252645135, jl_0, jl_1, jl_2, jl_3, jl_8, jl_9, jl_10, jl_20, jl_27, jl_47, jl_96, jl_99, jl_100, jl_200, jl_555, jl_2000, jl_10000, jl_12345, jl_65536, jl_99999, jl_131638, jl_240023, jl_298288, jl_383153, jl_1306021, jl_1960084, jl_4147840, jl_8740238, jl_9872299, jl_175252482, jl_291595537, jl_1103515245, jl_2000000000, jl_2147483648, jl_4721686497, jl_7873079139, J_add, J_sub, J_mul, J_neg, JL_add, JL_sub, JL_mul, JL_neg, J_long, JL_int, ↓remI_fold, ↓remL_fold, Int.reduceAdd, Int.reduceSub, Int.reduceMul, Int.reduceNeg, Int.reduceToNat, Option.bind_some, castS]
  · intro n s hI
    show fX5_orbits_56 _ _ _ _ _ _ _ _ = _
    rw [fX5_orbits_56, if_pos (by rw [J_le (by omega)]; omega)]
end
