/-! the reference: keep, back -/
set_option maxRecDepth 100000
section
variable {N o : Nat} {S : MS} {w : Wd} {C : Cy}
/-- keep: city 1 + k becomes city 0; that it is kept is marked -/
theorem M_keep (hN : 1000000 ≤ N) {k : Int} (hk : -2147483648 ≤ k ∧ k ≤ 2147483647) : fX5_keep N (emM o S w) o (J k) = some (if 0 ≤ k ∧ k ≤ 2 then (J 0, emM o (mSA (mCC (mSI S 0 (J 0)) 0 (1 + k.toNat)) 16 k.toNat (J 1)) w) else (J (-2), emM o (mSI S 0 (J 0)) w)) := by
  unfold fX5_keep
  rw [jn_0, mp_0, Option.bind_some, J_long hk, jl_0, jl_2, M_in (by omega), Option.bind_some]
  by_cases h1 : 0 ≤ k ∧ k ≤ 2
  · obtain ⟨m, hr⟩ : ∃ r : Nat, k = r := ⟨k.toNat, by omega⟩
    subst hr
    rw [if_neg (by rw [Bp_eq0]; simpa using h1), if_pos h1, jn_1, J_add]
    have e := M_copyCity (N := N) (o := o) (S := mSI S 0 (J 0)) (w := w) (f := 0) (t := 1 + m) hN (by omega) (by omega) (by omega)
    rw [show ((1 : Int) + (m : Int)) = ((1 + m : Nat) : Int) by omega]
    refine Eq.trans (congrArg (fun z => Option.bind z _) e) ?_
    rw [Option.bind_some, mg_27, Option.bind_some]
    have e2 := mw_16 o (mCC (mSI S 0 (J 0)) 0 (1 + m)) w (z := (m : Int)) (J 1) (by omega)
    rw [show nar 3 (J 1) = J 1 by decide +kernel] at e2
    refine Eq.trans (congrArg (fun z => Option.bind z _) e2) ?_
    rfl
  · rw [if_pos (by rw [Bp_eq0]; exact h1), if_neg h1]
    rfl
theorem M_back (hN : 1000000 ≤ N) {k : Int} (hk : -2147483648 ≤ k ∧ k ≤ 2147483647) : fX5_back N (emM o S w) o (J k) = some (if 0 ≤ k ∧ k ≤ 2 then (if ma S 16 k.toNat = J 0 then (J (-6), emM o (mSI S 0 (J 0)) w) else (J 0, emM o (mCC (mSI S 0 (J 0)) (1 + k.toNat) 0) w)) else (J (-2), emM o (mSI S 0 (J 0)) w)) := by
  unfold fX5_back
  rw [jn_0, mp_0, Option.bind_some, J_long hk, jl_0, jl_2, M_in (by omega), Option.bind_some]
  by_cases h1 : 0 ≤ k ∧ k ≤ 2
  · obtain ⟨m, hr⟩ : ∃ r : Nat, k = r := ⟨k.toNat, by omega⟩
    subst hr
    rw [if_neg (by rw [Bp_eq0]; simpa using h1), if_pos h1, mg_27, Option.bind_some, mr_16 o _ w (by omega), Option.bind_some, jn_1, J_add, Int.toNat_natCast]
    have e := M_copyCity (N := N) (o := o) (S := mSI S 0 (J 0)) (w := w) (f := 1 + m) (t := 0) hN (by omega) (by omega) (by omega)
    rw [show ((1 : Int) + (m : Int)) = ((1 + m : Nat) : Int) by omega]
    by_cases h2 : ma S 16 m = J 0
    · rw [if_pos (show ma (mSI S 0 (J 0)) 16 m = J 0 from h2), if_pos h2]; rfl
    · rw [if_neg (show ¬ ma (mSI S 0 (J 0)) 16 m = J 0 from h2), if_neg h2]
      refine Eq.trans (congrArg (fun z => Option.bind z _) e) ?_
      rfl
  · rw [if_pos (by rw [Bp_eq0]; exact h1), if_neg h1]
    rfl
end
