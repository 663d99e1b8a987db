/-! the component: ground -/
set_option maxRecDepth 100000
section
variable {N o c : Nat} {S : XS} {w : Wd} {C : Cy} {th : Nat → Nat}
theorem X_ground (hX : ∀ S, Hc (emX o S w) c th C) (hc : xc S = c) (ho : OkC C) (hN : 1000000 ≤ N) {v i : Int} (hv : -2147483648 ≤ v ∧ v ≤ 2147483647) (hi : -2147483648 ≤ i ∧ i ≤ 2147483647) : ∃ S', fX0_ground N (emX o S w) o (J v) (J i) = some (J (sp_ground C v i), emX o S' w) ∧ FrX S S' := by
  have h := hX S
  have hg : gR (emX o S w) [0] o 0 = some c := xg hc
  have hP := cP_bd C v.toNat
  unfold fX0_ground sp_ground
  have hb : ∀ n : Nat, n < 512 → fJ7_bitCount N (emX o S w) (J n) = some (J (popc n)) := fun n hn => X_bitCount hn
  generalize fJ7_bitCount N (emX o S w) = bc at hb ⊢
  simp (disch := omega) only [jn_0, jn_1, jn_2, jn_3, jn_4, jn_5, jn_6, jn_8, jn_9, jn_10, jn_11, jn_12, jn_16, jn_20, jn_24, jn_30, jn_31, jn_32, jn_36, jn_48, jn_57, jn_59, jn_60, jn_63, jn_72, jn_73, jn_96, jn_97, jn_100, jn_122, jn_144, jn_200, jn_240, jn_288, jn_512, jn_840, jn_1200, jn_1600, jn_5040, jn_5390, jn_5400, jn_9999, jn_18688, jn_32400, jn_99999, jn_100000, jn_1000000, jn_858993459, jn_1431655765, jn_252645135, jl_0, jl_1, jl_2, jl_3, jl_8, jl_9, jl_10, jl_20, jl_27, jl_47, jl_96, jl_99, jl_100, jl_200, jl_555, jl_2000, jl_10000, jl_12345, jl_65536, jl_99999, jl_131638, jl_240023, jl_298288, jl_383153, jl_1306021, jl_1960084, jl_4147840, jl_8740238, jl_9872299, jl_175252482, jl_291595537, jl_1103515245, jl_2000000000, jl_2147483648, jl_4721686497, jl_7873079139, J_add, J_sub, J_mul, J_neg, JL_add, JL_sub, JL_mul, JL_neg, J_long, JL_int, ↓remI_fold, ↓remL_fold, Int.reduceAdd, Int.reduceSub, Int.reduceMul, Int.reduceNeg, Int.reduceToNat, Classical.not_not, em_t, Bp_eq0, Bp_eq1, Bp_01, Bp_mk, Bp_mk', Bp_0, Bp_0', Bp_1, Bp_1', if_true, if_false, ite_not, X_isThrow hg h, Option.bind_some]
  by_cases h1 : (0 ≤ v ∧ v < cR C) ∧ 0 ≤ i ∧ i < cP C v.toNat
  case neg => exact ⟨S, by rw [if_neg h1, if_neg h1], FrX_r S⟩
  simp only [if_pos h1]
  obtain ⟨r, hr⟩ : ∃ r : Nat, v = r := ⟨v.toNat, by omega⟩
  subst hr
  simp only [Int.toNat_natCast] at h1 hP ⊢
  have hr' : r < cR C := by omega
  have hst := st_lt C r i
  have e1 := X_keepsAlone (N := N) (o := o) h ho hN hr'
  have e2 := X_stateOf (N := N) (o := o) h hN hr' (z := i) (by omega)
  have e3 := hc_at h (z := (r : Int)) (by omega)
  rw [Int.toNat_natCast] at e3
  rw [hg, Option.bind_some, hc_7 h, Option.bind_some, e3, Option.bind_some, e1, Option.bind_some]
  by_cases h2 : solo C r = true
  case neg => exact ⟨S, by rw [Bp_f h2, if_pos rfl, if_neg h2], FrX_r S⟩
  rw [Bp_t h2, if_neg (by rw [J_eq (by omega)]; omega), if_pos h2]
  have eb := hb _ hst
  have ⟨S', e, hF⟩ := X_groundB (N := N) (o := o) (S := S) (w := w) hN hst
  refine ⟨S', ?_, hF⟩
  rw [Option.bind_some, hc_7 h, Option.bind_some, e3, Option.bind_some, e2, Option.bind_some, eb, Option.bind_some]
  exact e
end
