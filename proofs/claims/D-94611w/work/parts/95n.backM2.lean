/-! the reference: backwards -/
set_option maxRecDepth 100000
section
variable {N o : Nat} {S : MS} {w : Wd} {C : Cy}
def bwA (C : Cy) (S : MS) : MS := mCC (bwS C (rnd C) (mCC (mSI S 0 (J 0)) 0 5) (cR C)) 5 0
def sp_backwards (C : Cy) : Int := if 0 < cR C then if kp C = true then if rnd C ≤ 8 then rnd C else -5 else -1 else -2
theorem M_backwards (hG : GdM S 0 C) (hN : 1000000 ≤ N) : fX5_backwards N (emM o S w) o = some (J (sp_backwards C), emM o (if 0 < cR C ∧ kp C = true ∧ rnd C ≤ 8 then bwA C S else mSI S 0 (J 0)) w) := by
  have hG' : GdM (mSI S 0 (J 0)) 0 C := hG
  have hb := rnd_bd C
  unfold fX5_backwards sp_backwards
  rw [jn_0, mp_0, Option.bind_some, M_isCity hG', Option.bind_some]
  by_cases h1 : 0 < cR C
  case neg => rw [if_pos (by rw [Bp_eq0]; exact h1), if_neg h1, if_neg (fun h => h1 h.1)]; rfl
  rw [if_neg (by rw [Bp_eq0]; omega), if_pos h1, M_isUp hG' (by omega), Option.bind_some]
  by_cases h2 : kp C = true
  case neg => rw [if_pos (by rw [Bp_eq0]; exact h2), if_neg h2, if_neg (fun h => h2 h.2.1)]; rfl
  rw [if_neg (by rw [Bp_eq0]; simpa using h2), if_pos h2, M_round hG' (by omega), Option.bind_some, jn_8]
  by_cases h3 : rnd C ≤ 8
  · rw [if_pos (by rw [J_le (by omega)]; omega), if_pos h3, if_pos ⟨h1, h2, h3⟩]
    have e := M_copyCity (N := N) (o := o) (S := mSI S 0 (J 0)) (w := w) (f := 0) (t := 5) hN (by omega) (by omega) (by omega)
    refine Eq.trans (congrArg (fun z => Option.bind z _) e) ?_
    rw [Option.bind_some, M_bw46 (mCC_o (by decide) hG') hN h3]
    have e2 := M_copyCity (N := N) (o := o) (S := bwS C (rnd C) (mCC (mSI S 0 (J 0)) 0 5) (cR C)) (w := w) (f := 5) (t := 0) hN (by omega) (by omega) (by omega)
    refine Eq.trans (congrArg (fun z => Option.bind z _) e2) ?_
    rfl
  · rw [if_neg (by rw [J_le (by omega)]; omega), if_neg h3, if_neg (fun h => h3 h.2.2)]; rfl
end
