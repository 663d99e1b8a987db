/-! the component: orbits -/
set_option maxRecDepth 100000
def ixX (r b : Nat) : Nat := 840 * r + b
theorem ixX_i {C : Cy} : ∀ r b q s, r < cR C → b < rnd C → q < cR C → s < rnd C → ixX r b = ixX q s → r = q ∧ b = s := by
  intro r b q s _ hb _ hs h
  have := rnd_bd C
  unfold ixX at h; omega
section
variable {N o c : Nat} {S : XS} {w : Wd} {C : Cy} {th : Nat → Nat}
theorem xBl_A (T : XS) (p : Nat × Int) (i : Nat) (x : Int32) : xSA (xBl T p) 13 i x = xBl (xSA T 13 i x) p := rfl
theorem xBl_a (T : XS) (p : Nat × Int) (a : Nat) : xa (xBl T p) a = xa T a := rfl
theorem X_orb113 (hX : ∀ S, Hc (emX o S w) c th C) (hc : xc S = c) (ho : OkC C) (hk : kp C = true) {p : Nat × Int} (hp : Lv C p) (hb : 0 ≤ p.2 ∧ p.2 ≤ 900) {M : Nat → Nat → Prop} (hM : ClO C M) (hm : ¬ M p.1 (clO C p)) (hf : RlO C ixX (xa S 13) M) (x y z : Int32) (k : Wd → Option (Int32 × Wd)) {n : Nat} (hn : 6000 < n) : ∃ f, fX0_orbits_113 N o (J (rnd C)) x y z k n (emX o (xBl S p) w) = k (emX o (xBl (xSR S 13 f) (bat C p (obL C p + 1))) w) ∧ RlO C ixX f (adO C M p) := by
  have hP := rnd_bd C
  have hR := cR_le C
  have hl := obL_lt hk ho hp
  have hRr := Rr_le C
  have key := lp_ex (fun n i f => fX0_orbits_113 N o (J (rnd C)) x y z k n (emX o (xBl (xSR S 13 f) (bat C p i)) w)) (fun f => k (emX o (xBl (xSR S 13 f) (bat C p (obL C p + 1))) w)) (obL C p + 1) (fun i f => RlO C ixX f (miO C M p i)) ?_ ?_ n (xa S 13) (by omega) (miO_0 p hf)
  · obtain ⟨f, e, hF⟩ := key
    refine ⟨f, ?_, miO_full hk ho hp hF⟩
    simp only [xSR_id] at e
    exact e
  · intro n i f hi hI
    have hnot := miO_not hk ho hM hp hm (i := i) (by omega)
    have hq := Lv_at hk ho hp i
    have hbb := bat_hi C p i
    have hstep := miO_step ixX_i hq.1 hI
    have hv := (hI _ _ hq.1 (clO_lt C (bat C p i))).2 hnot
    have hcc := clO_cast C (bat C p i)
    have hcl := clO_lt C (bat C p i)
    refine ⟨upd f (ixX (bat C p i).1 (clO C (bat C p i))) (J 1), ?_, hstep⟩
    show _ = fX0_orbits_113 N o (J (rnd C)) x y z k n (emX o (xBl (xSR S 13 (upd f (ixX (bat C p i).1 (clO C (bat C p i))) (J 1))) (bgo C (bat C p i))) w)
    generalize hqq : bat C p i = q at *
    have hrem : remI (J q.2) (J (rnd C : Int)) = J (clO C q) := by rw [J_rem (by omega), hcc]
    have hidx : (840 * (q.1 : Int) + ((clO C q : Nat) : Int)).toNat = ixX q.1 (clO C q) := by unfold ixX; omega
    have hz : 0 ≤ 840 * (q.1 : Int) + ((clO C q : Nat) : Int) ∧ 840 * (q.1 : Int) + ((clO C q : Nat) : Int) < 5040 := by have := hq.1; omega
    have hP0 : ¬ J (rnd C : Int) = J 0 := by rw [J_eq (by omega)]; omega
    show fX0_orbits_113 _ _ _ _ _ _ _ _ _ = _
    rw [fX0_orbits_113]
    simp only [jn_0, jn_1, jn_2, jn_3, jn_4, jn_5, jn_6, jn_8, jn_9, jn_10, jn_11, jn_12, jn_16, jn_20, jn_24, jn_30, jn_31, jn_32, jn_36, jn_48, jn_57, jn_59, jn_60, jn_63, jn_72, jn_73, jn_96, jn_97, jn_100, jn_122, jn_144, jn_200, jn_240, jn_288, jn_512, jn_840, jn_1200, jn_1600, jn_5040, jn_5390, jn_5400, jn_9999, jn_18688, jn_32400, jn_99999, jn_100000, jn_1000000, jn_858993459, jn_1431655765, jn_252645135, jl_0, jl_1, jl_2, jl_3, jl_8, jl_9, jl_10, jl_20, jl_27, jl_47, jl_96, jl_99, jl_100, jl_200, jl_555, jl_2000, jl_10000, jl_12345, jl_65536, jl_99999, jl_131638, jl_240023, jl_298288, jl_383153, jl_1306021, jl_1960084, jl_4147840, jl_8740238, jl_9872299, jl_175252482, jl_291595537, jl_1103515245, jl_2000000000, jl_2147483648, jl_4721686497, jl_7873079139, J_add, J_sub, J_mul, J_neg, JL_add, JL_sub, JL_mul, JL_neg, J_long, JL_int, ↓remI_fold, ↓remL_fold, Int.reduceAdd, Int.reduceSub, Int.reduceMul, Int.reduceNeg, Int.reduceToNat, xg_7, xg_6, xg_b0, xg_b1, xBl_30, xBl_31, Option.bind_some, hrem, if_neg hP0, xr_13 o _ w hz, hidx]
    rw [show xa (xBl (xSR S 13 f) q) 13 = f from rfl, hv]
    simp only [if_true, xw_13 o _ w _ hz, hidx, Option.bind_some, nar_31, xBl_A, xSA_R, xg_6, xk_b]
    have hcS : xc (xSR S 13 (upd f (ixX q.1 (clO C q)) (J 1))) = c := hc
    rw [X_goes hX hcS hq.1 (by omega), Option.bind_some]
  · intro n f hI
    have hnot := miO_end M hk ho hp
    have hq := Lv_at hk ho hp (obL C p + 1)
    have hbb := bat_hi C p (obL C p + 1)
    have hv := (hI _ _ hq.1 (clO_lt C (bat C p (obL C p + 1)))).1 hnot
    have hcc := clO_cast C (bat C p (obL C p + 1))
    have hcl := clO_lt C (bat C p (obL C p + 1))
    generalize hqq : bat C p (obL C p + 1) = q at *
    have hrem : remI (J q.2) (J (rnd C : Int)) = J (clO C q) := by rw [J_rem (by omega), hcc]
    have hidx : (840 * (q.1 : Int) + ((clO C q : Nat) : Int)).toNat = ixX q.1 (clO C q) := by unfold ixX; omega
    have hz : 0 ≤ 840 * (q.1 : Int) + ((clO C q : Nat) : Int) ∧ 840 * (q.1 : Int) + ((clO C q : Nat) : Int) < 5040 := by have := hq.1; omega
    have hP0 : ¬ J (rnd C : Int) = J 0 := by rw [J_eq (by omega)]; omega
    show fX0_orbits_113 _ _ _ _ _ _ _ _ _ = _
    rw [fX0_orbits_113]
    simp only [jn_0, jn_1, jn_2, jn_3, jn_4, jn_5, jn_6, jn_8, jn_9, jn_10, jn_11, jn_12, jn_16, jn_20, jn_24, jn_30, jn_31, jn_32, jn_36, jn_48, jn_57, jn_59, jn_60, jn_63, jn_72, jn_73, jn_96, jn_97, jn_100, jn_122, jn_144, jn_200, jn_240, jn_288, jn_512, jn_840, jn_1200, jn_1600, jn_5040, jn_5390, jn_5400, jn_9999, jn_18688, jn_32400, jn_99999, jn_100000, jn_1000000, jn_858993459, jn_1431655765, jn_252645135, jl_0, jl_1, jl_2, jl_3, jl_8, jl_9, jl_10, jl_20, jl_27, jl_47, jl_96, jl_99, jl_100, jl_200, jl_555, jl_2000, jl_10000, jl_12345, jl_65536, jl_99999, jl_131638, jl_240023, jl_298288, jl_383153, jl_1306021, jl_1960084, jl_4147840, jl_8740238, jl_9872299, jl_175252482, jl_291595537, jl_1103515245, jl_2000000000, jl_2147483648, jl_4721686497, jl_7873079139, J_add, J_sub, J_mul, J_neg, JL_add, JL_sub, JL_mul, JL_neg, J_long, JL_int, ↓remI_fold, ↓remL_fold, Int.reduceAdd, Int.reduceSub, Int.reduceMul, Int.reduceNeg, Int.reduceToNat, xg_7, xg_6, xg_b0, xg_b1, xBl_30, xBl_31, Option.bind_some, hrem, if_neg hP0, xr_13 o _ w hz, hidx]
    rw [show xa (xBl (xSR S 13 f) q) 13 = f from rfl, hv, if_neg (by rw [J_eq (by omega)]; omega)]
/-- what holds between the steps -/
def InX (C : Cy) (S0 S : XS) (c : Int) (V : Nat → Nat → Prop) : Prop := FrX S0 S ∧ ∃ M, ClO C M ∧ RlO C ixX (xa S 13) M ∧ c = oc C M ∧ dnO C M V
theorem InX_V {S0 S : XS} {c : Int} {V V' : Nat → Nat → Prop} (h : InX C S0 S c V) (hv : ∀ r b, r < cR C → b < rnd C → V' r b → V r b) : InX C S0 S c V' := by
  obtain ⟨h1, M, h2, h3, h4, h5⟩ := h
  exact ⟨h1, M, h2, h3, h4, fun r b hr hb hx => h5 r b hr hb (hv r b hr hb hx)⟩
theorem X_orb72 (hX : ∀ S, Hc (emX o S w) c th C) (hc : xc S = c) (ho : OkC C) (hk : kp C = true) (hN : 1000000 ≤ N) {r : Nat} (hr : r < cR C) (k : Int32 → Wd → Option (Int32 × Wd)) {n : Nat} (hn : 1000 < n) {T : XS} {u : Int} (hI : InX C S T u (fun q _ => q < r)) : ∃ T' u', fX0_orbits_72 N o (J (rnd C)) (J r) k n (J u) (J 0) (emX o T w) = k (J u') (emX o T' w) ∧ InX C S T' u' (fun q _ => q < r + 1) := by
  have hP := rnd_bd C
  have hR := cR_le C
  have key := lp_ex (fun n t (s : XS × Int) => fX0_orbits_72 N o (J (rnd C)) (J r) k n (J s.2) (J (t : Int)) (emX o s.1 w)) (fun s => k (J s.2) (emX o s.1 w)) (rnd C) (fun t s => InX C S s.1 s.2 (fun q b => q < r ∨ (q = r ∧ b < t))) ?_ ?_ n (T, u) (by omega) (InX_V hI (fun r b _ _ h => by omega))
  · obtain ⟨s, e, h⟩ := key
    exact ⟨s.1, s.2, e, InX_V h (fun q b _ hb h => by omega)⟩
  · intro n t s ht hI
    obtain ⟨T, u⟩ := s
    obtain ⟨h1, M, h2, h3, h4, h5⟩ := hI
    simp only at h1 h2 h3 h4
    have hcT : xc T = c := h1.1.trans hc
    have h9 := hh_le C r t
    have hz : 0 ≤ 840 * (r : Int) + (t : Int) ∧ 840 * (r : Int) + (t : Int) < 5040 := by omega
    have hidx : (840 * (r : Int) + (t : Int)).toNat = ixX r t := by unfold ixX; omega
    have hle : ¬ J (rnd C : Int) ≤ J (t : Int) := by rw [J_le (by omega)]; omega
    have hcl : clO C (r, (t : Int)) = t := (cl_eq (Al_r C _) ht).2
    have hbg := X_begin (N := N) (o := o) (S := T) (w := w) (p := (r, (t : Int))) hX hcT hr (by simp only; omega)
    simp only at hbg
    by_cases hm : M r t
    · refine ⟨(T, u), ?_, h1, M, h2, h3, h4, fun q b hq hb hv ha => ?_⟩
      · show fX0_orbits_72 _ _ _ _ _ _ _ _ _ = _
        rw [fX0_orbits_72]
        simp only [jn_0, jn_1, jn_2, jn_3, jn_4, jn_5, jn_6, jn_8, jn_9, jn_10, jn_11, jn_12, jn_16, jn_20, jn_24, jn_30, jn_31, jn_32, jn_36, jn_48, jn_57, jn_59, jn_60, jn_63, jn_72, jn_73, jn_96, jn_97, jn_100, jn_122, jn_144, jn_200, jn_240, jn_288, jn_512, jn_840, jn_1200, jn_1600, jn_5040, jn_5390, jn_5400, jn_9999, jn_18688, jn_32400, jn_99999, jn_100000, jn_1000000, jn_858993459, jn_1431655765, jn_252645135, jl_0, jl_1, jl_2, jl_3, jl_8, jl_9, jl_10, jl_20, jl_27, jl_47, jl_96, jl_99, jl_100, jl_200, jl_555, jl_2000, jl_10000, jl_12345, jl_65536, jl_99999, jl_131638, jl_240023, jl_298288, jl_383153, jl_1306021, jl_1960084, jl_4147840, jl_8740238, jl_9872299, jl_175252482, jl_291595537, jl_1103515245, jl_2000000000, jl_2147483648, jl_4721686497, jl_7873079139, J_add, J_sub, J_mul, J_neg, JL_add, JL_sub, JL_mul, JL_neg, J_long, JL_int, ↓remI_fold, ↓remL_fold, Int.reduceAdd, Int.reduceSub, Int.reduceMul, Int.reduceNeg, Int.reduceToNat, if_neg hle, xg_7, Option.bind_some, xr_13 o _ w hz, hidx, (h3 r t hr ht).1 hm, castS]
        rw [if_neg (by rw [J_eq (by omega)]; omega)]
      · by_cases e : q = r ∧ b = t
        · rw [e.1, e.2]; exact hm
        · exact h5 q b hq hb (by omega) ha
    · by_cases h0 : hh C r t = 0
      · refine ⟨(xBl T (r, (t : Int)), u), ?_, FrX_t h1 (FrX_Bl _ _), M, h2, h3, h4, fun q b hq hb hv ha => ?_⟩
        · show fX0_orbits_72 _ _ _ _ _ _ _ _ _ = _
          rw [fX0_orbits_72]
          simp only [jn_0, jn_1, jn_2, jn_3, jn_4, jn_5, jn_6, jn_8, jn_9, jn_10, jn_11, jn_12, jn_16, jn_20, jn_24, jn_30, jn_31, jn_32, jn_36, jn_48, jn_57, jn_59, jn_60, jn_63, jn_72, jn_73, jn_96, jn_97, jn_100, jn_122, jn_144, jn_200, jn_240, jn_288, jn_512, jn_840, jn_1200, jn_1600, jn_5040, jn_5390, jn_5400, jn_9999, jn_18688, jn_32400, jn_99999, jn_100000, jn_1000000, jn_858993459, jn_1431655765, jn_252645135, jl_0, jl_1, jl_2, jl_3, jl_8, jl_9, jl_10, jl_20, jl_27, jl_47, jl_96, jl_99, jl_100, jl_200, jl_555, jl_2000, jl_10000, jl_12345, jl_65536, jl_99999, jl_131638, jl_240023, jl_298288, jl_383153, jl_1306021, jl_1960084, jl_4147840, jl_8740238, jl_9872299, jl_175252482, jl_291595537, jl_1103515245, jl_2000000000, jl_2147483648, jl_4721686497, jl_7873079139, J_add, J_sub, J_mul, J_neg, JL_add, JL_sub, JL_mul, JL_neg, J_long, JL_int, ↓remI_fold, ↓remL_fold, Int.reduceAdd, Int.reduceSub, Int.reduceMul, Int.reduceNeg, Int.reduceToNat, if_neg hle, xg_7, xg_6, xk_b, Option.bind_some, xr_13 o _ w hz, hidx, (h3 r t hr ht).2 hm, if_true, hbg, castS]
          rw [Bp_f (by omega), if_pos rfl]
        · by_cases e : q = r ∧ b = t
          · rw [e.1, e.2, h0] at ha; omega
          · exact h5 q b hq hb (by omega) ha
      · have hp : Lv C (r, (t : Int)) := ⟨hr, by simp only; omega⟩
        have hnm : ¬ M (r, (t : Int)).1 (clO C (r, (t : Int))) := by rw [hcl]; exact hm
        obtain ⟨f, e, hF⟩ := X_orb113 (N := N) (o := o) (w := w) hX hcT ho hk hp (by simp only; omega) h2 hnm h3 (J (u + 1)) (J r) (J t) (fun w38 => (some (J ((t + 1 : Nat) : Int))).bind fun x39 => fX0_orbits_72 N o (J (rnd C)) (J r) k n (J (u + 1)) x39 w38) (n := N) (by omega)
        refine ⟨(xBl (xSR T 13 f) (bat C (r, (t : Int)) (obL C (r, (t : Int)) + 1)), u + 1), ?_, FrX_t h1 (FrX_t (FrX_R T 13 _ (by decide)) (FrX_Bl _ _)), adO C M (r, (t : Int)), adO_Cl hk ho h2 hp, hF, ?_, fun q b hq hb hv ha => ?_⟩
        · show fX0_orbits_72 _ _ _ _ _ _ _ _ _ = _
          rw [fX0_orbits_72]
          simp only [jn_0, jn_1, jn_2, jn_3, jn_4, jn_5, jn_6, jn_8, jn_9, jn_10, jn_11, jn_12, jn_16, jn_20, jn_24, jn_30, jn_31, jn_32, jn_36, jn_48, jn_57, jn_59, jn_60, jn_63, jn_72, jn_73, jn_96, jn_97, jn_100, jn_122, jn_144, jn_200, jn_240, jn_288, jn_512, jn_840, jn_1200, jn_1600, jn_5040, jn_5390, jn_5400, jn_9999, jn_18688, jn_32400, jn_99999, jn_100000, jn_1000000, jn_858993459, jn_1431655765, jn_252645135, jl_0, jl_1, jl_2, jl_3, jl_8, jl_9, jl_10, jl_20, jl_27, jl_47, jl_96, jl_99, jl_100, jl_200, jl_555, jl_2000, jl_10000, jl_12345, jl_65536, jl_99999, jl_131638, jl_240023, jl_298288, jl_383153, jl_1306021, jl_1960084, jl_4147840, jl_8740238, jl_9872299, jl_175252482, jl_291595537, jl_1103515245, jl_2000000000, jl_2147483648, jl_4721686497, jl_7873079139, J_add, J_sub, J_mul, J_neg, JL_add, JL_sub, JL_mul, JL_neg, J_long, JL_int, ↓remI_fold, ↓remL_fold, Int.reduceAdd, Int.reduceSub, Int.reduceMul, Int.reduceNeg, Int.reduceToNat, if_neg hle, xg_7, xg_6, xk_b, Option.bind_some, xr_13 o _ w hz, hidx, (h3 r t hr ht).2 hm, if_true, hbg, castS]
          rw [Bp_t (by omega), if_neg (by rw [J_eq (by omega)]; omega)]
          exact e
        · rw [oc_add hk ho h2 hp hnm, h4]
        · by_cases e : q = r ∧ b = t
          · rw [e.1, e.2]; exact Or.inr ⟨ht, 0, Al_r C _⟩
          · exact Or.inl (h5 q b hq hb (by omega) ha)
  · intro n s hI
    show fX0_orbits_72 _ _ _ _ _ _ _ _ _ = _
    rw [fX0_orbits_72, if_pos (by rw [J_le (by omega)]; omega)]
theorem X_orb32 (hN : 1000000 ≤ N) (x : Int32) (k : Wd → Option (Int32 × Wd)) : ∃ f, fX0_orbits_32 N o x k N (J 0) (emX o S w) = k (emX o (xSR S 13 f) w) ∧ ∀ j, j < 5040 → f j = J 0 := by
  refine ⟨fun j => if j < 5040 then J 0 else xa S 13 j, ?_, fun j hj => if_pos hj⟩
  have key := lp_cnt (fun n i => fX0_orbits_32 N o x k n (J (i : Int)) (emX o (xSR S 13 (fun j => if j < i then J 0 else xa S 13 j)) w)) (k (emX o (xSR S 13 (fun j => if j < 5040 then J 0 else xa S 13 j)) w)) 5040 ?_ ?_ N (by omega)
  · have e1 : (fun j => if j < 0 then J 0 else xa S 13 j) = xa S 13 := by funext j; rw [if_neg (by omega)]
    rw [e1, xSR_id] at key
    exact key
  · intro n i hi
    have hz : 0 ≤ (i : Int) ∧ (i : Int) < 5040 := by omega
    show fX0_orbits_32 _ _ _ _ _ _ _ = _
    rw [fX0_orbits_32]
    simp only [jn_0, jn_1, jn_2, jn_3, jn_4, jn_5, jn_6, jn_8, jn_9, jn_10, jn_11, jn_12, jn_16, jn_20, jn_24, jn_30, jn_31, jn_32, jn_36, jn_48, jn_57, jn_59, jn_60, jn_63, jn_72, jn_73, jn_96, jn_97, jn_100, jn_122, jn_144, jn_200, jn_240, jn_288, jn_512, jn_840, jn_1200, jn_1600, jn_5040, jn_5390, jn_5400, jn_9999, jn_18688, jn_32400, jn_99999, jn_100000, jn_1000000, jn_858993459, jn_1431655765, jn_252645135, jl_0, jl_1, jl_2, jl_3, jl_8, jl_9, jl_10, jl_20, jl_27, jl_47, jl_96, jl_99, jl_100, jl_200, jl_555, jl_2000, jl_10000, jl_12345, jl_65536, jl_99999, jl_131638, jl_240023, jl_298288, jl_383153, jl_1306021, jl_1960084, jl_4147840, jl_8740238, jl_9872299, jl_175252482, jl_291595537, jl_1103515245, jl_2000000000, jl_2147483648, jl_4721686497, jl_7873079139, J_add, J_sub, J_mul, J_neg, JL_add, JL_sub, JL_mul, JL_neg, J_long, JL_int, ↓remI_fold, ↓remL_fold, Int.reduceAdd, Int.reduceSub, Int.reduceMul, Int.reduceNeg, Int.reduceToNat, xg_7, xn_13, Option.bind_some, xw_13 o _ w _ hz, nar_30, xSA_R, Int.toNat_natCast, castS]
    rw [if_neg (by rw [J_le (by omega)]; omega), lt_upd (fun _ => J 0) (xa S 13) i]
  · intro n
    show fX0_orbits_32 _ _ _ _ _ _ _ = _
    rw [fX0_orbits_32]
    simp only [jn_0, jn_1, jn_2, jn_3, jn_4, jn_5, jn_6, jn_8, jn_9, jn_10, jn_11, jn_12, jn_16, jn_20, jn_24, jn_30, jn_31, jn_32, jn_36, jn_48, jn_57, jn_59, jn_60, jn_63, jn_72, jn_73, jn_96, jn_97, jn_100, jn_122, jn_144, jn_200, jn_240, jn_288, jn_512, jn_840, jn_1200, jn_1600, jn_5040, jn_5390, jn_5400, jn_9999, jn_18688, jn_32400, jn_99999, jn_100000, jn_1000000, jn_858993459, jn_1431655765, jn_252645135, jl_0, jl_1, jl_2, jl_3, jl_8, jl_9, jl_10, jl_20, jl_27, jl_47, jl_96, jl_99, jl_100, jl_200, jl_555, jl_2000, jl_10000, jl_12345, jl_65536, jl_99999, jl_131638, jl_240023, jl_298288, jl_383153, jl_1306021, jl_1960084, jl_4147840, jl_8740238, jl_9872299, jl_175252482, jl_291595537, jl_1103515245, jl_2000000000, jl_2147483648, jl_4721686497, jl_7873079139, J_add, J_sub, J_mul, J_neg, JL_add, JL_sub, JL_mul, JL_neg, J_long, JL_int, ↓remI_fold, ↓remL_fold, Int.reduceAdd, Int.reduceSub, Int.reduceMul, Int.reduceNeg, Int.reduceToNat, xg_7, xn_13, Option.bind_some]
    rw [if_pos (by rw [J_le (by omega)]; omega)]
theorem X_orbits (hX : ∀ S, Hc (emX o S w) c th C) (hc : xc S = c) (ho : OkC C) (hN : 1000000 ≤ N) : ∃ S', fX0_orbits N (emX o S w) o = some (J (sp_orbits C), emX o S' w) ∧ FrX S S' := by
  have h := hX S
  have hg : gR (emX o S w) [0] o 0 = some c := xg hc
  have hR := cR_le C
  have hP := rnd_bd C
  unfold fX0_orbits sp_orbits
  simp only [jn_0, jn_1, jn_2, jn_3, jn_4, jn_5, jn_6, jn_8, jn_9, jn_10, jn_11, jn_12, jn_16, jn_20, jn_24, jn_30, jn_31, jn_32, jn_36, jn_48, jn_57, jn_59, jn_60, jn_63, jn_72, jn_73, jn_96, jn_97, jn_100, jn_122, jn_144, jn_200, jn_240, jn_288, jn_512, jn_840, jn_1200, jn_1600, jn_5040, jn_5390, jn_5400, jn_9999, jn_18688, jn_32400, jn_99999, jn_100000, jn_1000000, jn_858993459, jn_1431655765, jn_252645135, jl_0, jl_1, jl_2, jl_3, jl_8, jl_9, jl_10, jl_20, jl_27, jl_47, jl_96, jl_99, jl_100, jl_200, jl_555, jl_2000, jl_10000, jl_12345, jl_65536, jl_99999, jl_131638, jl_240023, jl_298288, jl_383153, jl_1306021, jl_1960084, jl_4147840, jl_8740238, jl_9872299, jl_175252482, jl_291595537, jl_1103515245, jl_2000000000, jl_2147483648, jl_4721686497, jl_7873079139, J_add, J_sub, J_mul, J_neg, JL_add, JL_sub, JL_mul, JL_neg, J_long, JL_int, ↓remI_fold, ↓remL_fold, Int.reduceAdd, Int.reduceSub, Int.reduceMul, Int.reduceNeg, Int.reduceToNat, Classical.not_not, em_t, Bp_eq0, Bp_eq1, Bp_01, Bp_mk, Bp_mk', Bp_0, Bp_0', Bp_1, Bp_1', if_true, if_false, ite_not, X_isCity hg h, hg, hc_k h, X_keepsC h (show 1000 ≤ N by omega), X_round h (show 1000 ≤ N by omega), Option.bind_some]
  by_cases h1 : 0 < cR C
  case neg => exact ⟨S, by rw [if_neg h1, if_neg h1], FrX_r S⟩
  simp only [if_pos h1]
  by_cases h2 : kp C = true
  case neg => exact ⟨S, by rw [if_neg h2, if_neg h2], FrX_r S⟩
  simp only [if_pos h2]
  obtain ⟨f, e, hf⟩ := X_orb32 (N := N) (o := o) (S := S) (w := w) hN (J (rnd C)) (fun w13 => fX0_orbits_58 N o (J (rnd C)) (fun y44 w45 => some (y44, w45)) N (J 0) (J 0) w13)
  have e0 : InX C S (xSR S 13 f) 0 (fun q _ => q < 0) := by
    refine ⟨FrX_R _ 13 _ (by decide), fun _ _ => False, ⟨fun _ _ h => h.elim, fun _ _ h => h.elim⟩, fun r b hr hb => ⟨fun h => h.elim, fun _ => hf _ (by unfold ixX; omega)⟩, ?_, fun _ _ _ _ h => absurd h (Nat.not_lt_zero _)⟩
    unfold oc
    rw [sm_congr (g := fun _ => 0) (fun r _ => by rw [sm_congr (g := fun _ => 0) (fun b _ => indC_f (fun h => h.1)), sm_zero]), sm_zero]
  have key := lp_ex (fun n r (s : XS × Int) => fX0_orbits_58 N o (J (rnd C)) (fun y44 w45 => some (y44, w45)) n (J s.2) (J (r : Int)) (emX o s.1 w)) (fun s => some (J s.2, emX o s.1 w)) (cR C) (fun r s => InX C S s.1 s.2 (fun q _ => q < r)) ?_ ?_ N (xSR S 13 f, 0) (by omega) e0
  · obtain ⟨s, e2, h3, M, h4, h5, h6, h7⟩ := key
    refine ⟨s.1, ?_, h3⟩
    rw [e]
    refine Eq.trans e2 ?_
    rw [h6, oc_all h4 (fun r b hr hb _ => h7 r b hr hb hr)]
  · intro n r s hr hI
    have hcT : xc s.1 = c := hI.1.1.trans hc
    obtain ⟨T', c', e3, h3⟩ := X_orb72 (N := N) (o := o) (w := w) hX hc ho h2 hN hr (fun y41 w42 => (some (J (r : Int) + 1)).bind fun x43 => fX0_orbits_58 N o (J (rnd C)) (fun y44 w45 => some (y44, w45)) n y41 x43 w42) (n := N) (by omega) hI
    refine ⟨(T', c'), ?_, h3⟩
    show fX0_orbits_58 _ _ _ _ _ _ _ _ = _
    rw [fX0_orbits_58, xg hcT, Option.bind_some, hc_0 (hX s.1), Option.bind_some, if_neg (by rw [J_le (by omega)]; omega)]
    refine Eq.trans e3 ?_
    simp only [jn_0, jn_1, jn_2, jn_3, jn_4, jn_5, jn_6, jn_8, jn_9, jn_10, jn_11, jn_12, jn_16, jn_20, jn_24, jn_30, jn_31, jn_32, jn_36, jn_48, jn_57, jn_59, jn_60, jn_63, jn_72, jn_73, jn_96, jn_97, jn_100, jn_122, jn_144, jn_200, jn_240, jn_288, jn_512, jn_840, jn_1200, jn_1600, jn_5040, jn_5390, jn_5400, jn_9999, jn_18688, jn_32400, jn_99999, jn_100000, jn_1000000, jn_858993459, jn_1431655765, jn_252645135, jl_0, jl_1, jl_2, jl_3, jl_8, jl_9, jl_10, jl_20, jl_27, jl_47, jl_96, jl_99, jl_100, jl_200, jl_555, jl_2000, jl_10000, jl_12345, jl_65536, jl_99999, jl_131638, jl_240023, jl_298288, jl_383153, jl_1306021, jl_1960084, jl_4147840, jl_8740238, jl_9872299, jl_175252482, jl_291595537, jl_1103515245, jl_2000000000, jl_2147483648, jl_4721686497, jl_7873079139, J_add, J_sub, J_mul, J_neg, JL_add, JL_sub, JL_mul, JL_neg, J_long, JL_int, ↓remI_fold, ↓remL_fold, Int.reduceAdd, Int.reduceSub, Int.reduceMul, Int.reduceNeg, Int.reduceToNat, Option.bind_some, castS]
  · intro n s hI
    have hcT : xc s.1 = c := hI.1.1.trans hc
    show fX0_orbits_58 _ _ _ _ _ _ _ _ = _
    rw [fX0_orbits_58, xg hcT, Option.bind_some, hc_0 (hX s.1), Option.bind_some, if_pos (by rw [J_le (by omega)]; omega)]
end
