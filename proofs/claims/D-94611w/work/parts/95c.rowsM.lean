/-! the reference: how many rows -/
set_option maxRecDepth 100000
theorem vpL_J (A : Nat → Int) (i : Nat) (v : Int) : vp_updL (fun s => JL (A s)) i (JL v) = fun s => JL (if s = i then v else A s) := by
  funext s; unfold vp_updL; by_cases h : s = i <;> simp [h]
theorem fun_JL (f : Nat → Int64) : (fun s => JL ((f s).toInt)) = f := by funext s; exact JL_of (f s)
theorem and1_bit (s b : Nat) : (s &&& 1 <<< b = 0) = (s.testBit b = false) := by
  apply propext
  constructor
  · intro h
    have : (s &&& 1 <<< b).testBit b = false := by rw [h]; simp
    rw [Nat.testBit_and, Nat.shiftLeft_eq, Nat.one_mul, Nat.testBit_two_pow_self, Bool.and_true] at this
    exact this
  · intro h
    apply Nat.eq_of_testBit_eq
    intro i
    rw [Nat.testBit_and, Nat.shiftLeft_eq, Nat.one_mul, Nat.testBit_two_pow, Nat.zero_testBit]
    by_cases hi : b = i
    · subst hi; simp [h]
    · simp [hi]
section
variable {N o : Nat} {S : MS} {w : Wd} {C : Cy}
theorem M_areRows {p b t : Int} (hp : -2147483648 ≤ p ∧ p ≤ 2147483647) (hb : -2147483648 ≤ b ∧ b ≤ 2147483647) (ht : -2147483648 ≤ t ∧ t ≤ 2147483647) : fX5_areRows N w (J p) (J b) (J t) = some (Bp ((1 ≤ p ∧ p ≤ 8) ∧ (0 ≤ b ∧ b ≤ 9) ∧ 0 ≤ t ∧ t ≤ 9)) := by
  unfold fX5_areRows
  simp (disch := omega) only [jn_0, jn_1, jn_2, jn_3, jn_4, jn_5, jn_6, jn_8, jn_9, jn_10, jn_11, jn_12, jn_16, jn_20, jn_24, jn_30, jn_31, jn_32, jn_36, jn_48, jn_57, jn_59, jn_60, jn_63, jn_72, jn_73, jn_96, jn_97, jn_100, jn_122, jn_144, jn_200, jn_240, jn_288, jn_512, jn_840, jn_1200, jn_1600, jn_5040, jn_5390, jn_5400, jn_9999, jn_18688, jn_32400, jn_99999, jn_100000, jn_1000000, jn_858993459, jn_1431655765, jn_252645135, jl_0, jl_1, jl_2, jl_3, jl_8, jl_9, jl_10, jl_20, jl_27, jl_47, jl_96, jl_99, jl_100, jl_200, jl_555, jl_2000, jl_10000, jl_12345, jl_65536, jl_99999, jl_131638, jl_240023, jl_298288, jl_383153, jl_1306021, jl_1960084, jl_4147840, jl_8740238, jl_9872299, jl_175252482, jl_291595537, jl_1103515245, jl_2000000000, jl_2147483648, jl_4721686497, jl_7873079139, J_add, J_sub, J_mul, J_neg, JL_add, JL_sub, JL_mul, JL_neg, J_long, JL_int, ↓remI_fold, ↓remL_fold, Int.reduceAdd, Int.reduceSub, Int.reduceMul, Int.reduceNeg, Int.reduceToNat, Classical.not_not, em_t, Bp_eq0, Bp_eq1, Bp_01, Bp_mk, Bp_mk', Bp_0, Bp_0', Bp_1, Bp_1', if_true, if_false, ite_not, M_in, Option.bind_some]
/-- the table of completions, above a set -/
def TbM (p top : Nat) (B : Int) (A : Nat → Int) (s : Nat) : Prop := ∀ s' l : Nat, s < s' + 1 → s' < 2 ^ p → (l : Int) ≤ B → A (73 * s' + l) = cw p top (p - popc s') s' l
theorem M_lr56 {p top : Nat} (hp : 1 ≤ p ∧ p ≤ 8) (ht : top ≤ 9) {s l : Nat} (hs : s < 2 ^ p) (hf : s ≠ 2 ^ p - 1) {B : Int} (hB : B ≤ 72) (hl : (l : Int) ≤ B) {A : Nat → Int} (hA : TbM p top B A (s + 1)) (y : Int32) (k : Int64 → Option Wd) {n : Nat} (hn : 20 < n) : fX5_laysRows_56 N (emM o (mSQ S 24 (fun j => JL (A j))) w) o (J p) y (J top) (J ((2 ^ p - 1 : Nat) : Int)) (J s) (J (popc s)) (J l) k n (JL 0) (J 0) = k (JL (cw p top (p - popc s) s l)) := by
  have h256 : 2 ^ p ≤ 256 := by have := Nat.pow_le_pow_right (show 2 > 0 by decide) hp.2; omega
  have hpc := popc_lt8 hp.2 hs hf
  have e : cw p top (p - popc s) s l = sm (fun h => if frS p (popc s) s h = true ∧ (h : Int) ≤ l then cw p top (p - (popc s + 1)) (nxR p (popc s) s h) (l - h) else 0) (min (top + 1) (l + 1)) := by
    rw [show p - popc s = (p - (popc s + 1)) + 1 by omega]
    unfold cw
    simp only [cg, Nat.zero_add]
    rw [show p - (p - (popc s + 1) + 1) = popc s by omega]
    exact sm_cut _ _ _ (by omega) (fun i h1 h2 => by rw [if_neg (by omega)])
  rw [e]
  have key := lp_sum (fun n i q => fX5_laysRows_56 N (emM o (mSQ S 24 (fun j => JL (A j))) w) o (J p) y (J top) (J ((2 ^ p - 1 : Nat) : Int)) (J s) (J (popc s)) (J l) k n (JL q) (J (i : Int))) (fun q => k (JL q)) (min (top + 1) (l + 1)) (fun h => if frS p (popc s) s h = true ∧ (h : Int) ≤ l then cw p top (p - (popc s + 1)) (nxR p (popc s) s h) (l - h) else 0) ?_ ?_ n 0 (by omega)
  · rw [Int.zero_add] at key; exact key
  · intro n i q hi
    have hm := Nat.mod_lt (popc s + i) (show p > 0 by omega)
    have em : ((popc s : Int) + (i : Int)) % (p : Int) = (((popc s + i) % p : Nat) : Int) := by rw [Int.natCast_emod, Int.natCast_add]
    have hlt := or_lt8 hs hm
    have r1 : remI (J ((popc s : Int) + (i : Int))) (J (p : Int)) = J (((popc s + i) % p : Nat) : Int) := by rw [J_rem (by omega), em]
    have r2 : J 1 <<< (J (((popc s + i) % p : Nat) : Int) &&& J 31) = J ((1 <<< ((popc s + i) % p) : Nat) : Int) := by rw [J_shlz (by omega), Int.toNat_natCast]
    have hand : s &&& 1 <<< ((popc s + i) % p) ≤ s := Nat.and_le_left
    have r3 : (J ((s &&& 1 <<< ((popc s + i) % p) : Nat) : Int) = J 0) = (s.testBit ((popc s + i) % p) = false) := by rw [J_eq (by omega), cast0, and1_bit]
    rw [fX5_laysRows_56]
    rw [if_neg (by rw [J_lt (by omega)]; omega), if_neg (by rw [J_lt (by omega)]; omega), if_neg (by rw [J_eq (by omega), castE]; exact hf), if_neg (by rw [jn_0, J_eq (by omega)]; omega)]
    simp only [jn_0, jn_1, jn_2, jn_3, jn_4, jn_5, jn_6, jn_8, jn_9, jn_10, jn_11, jn_12, jn_16, jn_20, jn_24, jn_30, jn_31, jn_32, jn_36, jn_48, jn_57, jn_59, jn_60, jn_63, jn_72, jn_73, jn_96, jn_97, jn_100, jn_122, jn_144, jn_200, jn_240, jn_288, jn_512, jn_840, jn_1200, jn_1600, jn_5040, jn_5390, jn_5400, jn_9999, jn_18688, jn_32400, jn_99999, jn_100000, jn_1000000, jn_858993459, jn_1431655765, jn_252645135, jl_0, jl_1, jl_2, jl_3, jl_8, jl_9, jl_10, jl_20, jl_27, jl_47, jl_96, jl_99, jl_100, jl_200, jl_555, jl_2000, jl_10000, jl_12345, jl_65536, jl_99999, jl_131638, jl_240023, jl_298288, jl_383153, jl_1306021, jl_1960084, jl_4147840, jl_8740238, jl_9872299, jl_175252482, jl_291595537, jl_1103515245, jl_2000000000, jl_2147483648, jl_4721686497, jl_7873079139, J_add, J_sub, J_mul, J_neg, JL_add, JL_sub, JL_mul, JL_neg, J_long, JL_int, ↓remI_fold, ↓remL_fold, Int.reduceAdd, Int.reduceSub, Int.reduceMul, Int.reduceNeg, Int.reduceToNat, r1, r2, J_and, r3, Option.bind_some, castS]
    by_cases hb : s.testBit ((popc s + i) % p) = false
    · have hfr : frS p (popc s) s i = true := by unfold frS; rw [hb]; rfl
      have hA' := hA (s ||| 1 <<< ((popc s + i) % p)) (l - i) (by
        have := (popc_or ⟨s, by omega⟩ ⟨(popc s + i) % p, by omega⟩ hb).2
        simp only at this
        omega) hlt (by omega)
      have hpo := (popc_or ⟨s, by omega⟩ ⟨(popc s + i) % p, by omega⟩ hb).1
      simp only at hpo
      rw [hpo] at hA'
      rw [if_pos hb, if_pos (show frS p (popc s) s i = true ∧ (i : Int) ≤ (l : Int) from ⟨hfr, by omega⟩), J_or]
      unfold fX5_at
      simp only [jn_0, jn_1, jn_2, jn_3, jn_4, jn_5, jn_6, jn_8, jn_9, jn_10, jn_11, jn_12, jn_16, jn_20, jn_24, jn_30, jn_31, jn_32, jn_36, jn_48, jn_57, jn_59, jn_60, jn_63, jn_72, jn_73, jn_96, jn_97, jn_100, jn_122, jn_144, jn_200, jn_240, jn_288, jn_512, jn_840, jn_1200, jn_1600, jn_5040, jn_5390, jn_5400, jn_9999, jn_18688, jn_32400, jn_99999, jn_100000, jn_1000000, jn_858993459, jn_1431655765, jn_252645135, jl_0, jl_1, jl_2, jl_3, jl_8, jl_9, jl_10, jl_20, jl_27, jl_47, jl_96, jl_99, jl_100, jl_200, jl_555, jl_2000, jl_10000, jl_12345, jl_65536, jl_99999, jl_131638, jl_240023, jl_298288, jl_383153, jl_1306021, jl_1960084, jl_4147840, jl_8740238, jl_9872299, jl_175252482, jl_291595537, jl_1103515245, jl_2000000000, jl_2147483648, jl_4721686497, jl_7873079139, J_add, J_sub, J_mul, J_neg, JL_add, JL_sub, JL_mul, JL_neg, J_long, JL_int, ↓remI_fold, ↓remL_fold, Int.reduceAdd, Int.reduceSub, Int.reduceMul, Int.reduceNeg, Int.reduceToNat, mg_40, Option.bind_some]
      rw [mr_24 o _ w (by omega), Option.bind_some, show ((73 : Int) * ((s ||| 1 <<< ((popc s + i) % p) : Nat) : Int) + ((l : Int) - (i : Int))).toNat = 73 * (s ||| 1 <<< ((popc s + i) % p)) + (l - i) by omega]
      rw [show mb (mSQ S 24 (fun j => JL (A j))) 24 (73 * (s ||| 1 <<< ((popc s + i) % p)) + (l - i)) = JL (A (73 * (s ||| 1 <<< ((popc s + i) % p)) + (l - i))) from rfl, hA', JL_add, show ((l - i : Nat) : Int) = (l : Int) - i by omega]
      rfl
    · have hfr : ¬ frS p (popc s) s i = true := by unfold frS; simpa using hb
      rw [if_neg hb, if_neg (show ¬ (frS p (popc s) s i = true ∧ (i : Int) ≤ (l : Int)) from fun h => hfr h.1), Int.add_zero]
  · intro n q
    rw [fX5_laysRows_56]
    by_cases h1 : top < min (top + 1) (l + 1)
    · rw [if_pos (by rw [J_lt (by omega)]; omega)]
    · rw [if_neg (by rw [J_lt (by omega)]; omega), if_pos (by rw [J_lt (by omega)]; omega)]
theorem M_lr56f {p top : Nat} (hp : 1 ≤ p ∧ p ≤ 8) (ht : top ≤ 9) {l : Nat} (hl : l ≤ 100) (W : Wd) (y z : Int32) (q : Int64) (k : Int64 → Option Wd) {n : Nat} (hn : 0 < n) : fX5_laysRows_56 N W o (J p) y (J top) (J ((2 ^ p - 1 : Nat) : Int)) (J ((2 ^ p - 1 : Nat) : Int)) z (J l) k n q (J 0) = k q := by
  cases n with
  | zero => omega
  | succ n =>
    rw [fX5_laysRows_56, if_neg (by rw [J_lt (by omega)]; omega), if_neg (by rw [J_lt (by omega)]; omega), if_pos rfl]
/-- one set is laid -/
theorem M_lr26 {p top : Nat} (hp : 1 ≤ p ∧ p ≤ 8) (ht : top ≤ 9) {s : Nat} (hs : s < 2 ^ p) {b : Nat} (hb : b ≤ 9) {A : Nat → Int} (hA : TbM p top (p * b : Nat) A (s + 1)) (k : Wd → Option Wd) (hN : 1000000 ≤ N) {n : Nat} (hn : 100 < n) : fX5_laysRows_26 N o (J p) (J b) (J top) (J ((2 ^ p - 1 : Nat) : Int)) (J s) (J (popc s)) k n (J 0) (emM o (mSQ S 24 (fun j => JL (A j))) w) = k (emM o (mSQ S 24 (fun j => JL (if 73 * s ≤ j ∧ j < 73 * s + (p * b + 1) then cw p top (p - popc s) s ((j - 73 * s : Nat) : Int) else A j))) w) := by
  have h256 : 2 ^ p ≤ 256 := by have := Nat.pow_le_pow_right (show 2 > 0 by decide) hp.2; omega
  have hpb : p * b ≤ 72 := Nat.mul_le_mul hp.2 hb
  have key := lp_cnt (fun n i => fX5_laysRows_26 N o (J p) (J b) (J top) (J ((2 ^ p - 1 : Nat) : Int)) (J s) (J (popc s)) k n (J (i : Int)) (emM o (mSQ S 24 (fun j => JL (if 73 * s ≤ j ∧ j < 73 * s + i then cw p top (p - popc s) s ((j - 73 * s : Nat) : Int) else A j))) w)) (k (emM o (mSQ S 24 (fun j => JL (if 73 * s ≤ j ∧ j < 73 * s + (p * b + 1) then cw p top (p - popc s) s ((j - 73 * s : Nat) : Int) else A j))) w)) (p * b + 1) ?_ ?_ n (by omega)
  · have e0 : (fun j => JL (if 73 * s ≤ j ∧ j < 73 * s + 0 then cw p top (p - popc s) s ((j - 73 * s : Nat) : Int) else A j)) = fun j => JL (A j) := by funext j; rw [if_neg (by omega)]
    rw [e0] at key
    exact key
  · intro n i hi
    have hA' : TbM p top (p * b : Nat) (fun j => if 73 * s ≤ j ∧ j < 73 * s + i then cw p top (p - popc s) s ((j - 73 * s : Nat) : Int) else A j) (s + 1) := by
      intro s' l h1 h2 h3
      simp only
      rw [if_neg (show ¬ (73 * s ≤ 73 * s' + l ∧ 73 * s' + l < 73 * s + i) by omega)]
      exact hA s' l h1 h2 h3
    have hmul : J (p : Int) * J (b : Int) = J ((p * b : Nat) : Int) := by rw [J_mul, Int.natCast_mul]
    have hwr : ∀ v : Int64, fX5_laysRows_124 N (emM o (mSQ S 24 (fun j => JL (if 73 * s ≤ j ∧ j < 73 * s + i then cw p top (p - popc s) s ((j - 73 * s : Nat) : Int) else A j))) w) o (J p) (J b) (J top) (J ((2 ^ p - 1 : Nat) : Int)) (J s) (J (popc s)) (J i) v (fX5_laysRows_26 N o (J p) (J b) (J top) (J ((2 ^ p - 1 : Nat) : Int)) (J s) (J (popc s)) k n) k = fX5_laysRows_26 N o (J p) (J b) (J top) (J ((2 ^ p - 1 : Nat) : Int)) (J s) (J (popc s)) k n (J ((i + 1 : Nat) : Int)) (emM o (mSQ S 24 (vp_updL (fun j => JL (if 73 * s ≤ j ∧ j < 73 * s + i then cw p top (p - popc s) s ((j - 73 * s : Nat) : Int) else A j)) (73 * s + i) v)) w) := by
      intro v
      unfold fX5_laysRows_124 fX5_at
      simp only [jn_0, jn_1, jn_2, jn_3, jn_4, jn_5, jn_6, jn_8, jn_9, jn_10, jn_11, jn_12, jn_16, jn_20, jn_24, jn_30, jn_31, jn_32, jn_36, jn_48, jn_57, jn_59, jn_60, jn_63, jn_72, jn_73, jn_96, jn_97, jn_100, jn_122, jn_144, jn_200, jn_240, jn_288, jn_512, jn_840, jn_1200, jn_1600, jn_5040, jn_5390, jn_5400, jn_9999, jn_18688, jn_32400, jn_99999, jn_100000, jn_1000000, jn_858993459, jn_1431655765, jn_252645135, jl_0, jl_1, jl_2, jl_3, jl_8, jl_9, jl_10, jl_20, jl_27, jl_47, jl_96, jl_99, jl_100, jl_200, jl_555, jl_2000, jl_10000, jl_12345, jl_65536, jl_99999, jl_131638, jl_240023, jl_298288, jl_383153, jl_1306021, jl_1960084, jl_4147840, jl_8740238, jl_9872299, jl_175252482, jl_291595537, jl_1103515245, jl_2000000000, jl_2147483648, jl_4721686497, jl_7873079139, J_add, J_sub, J_mul, J_neg, JL_add, JL_sub, JL_mul, JL_neg, J_long, JL_int, ↓remI_fold, ↓remL_fold, Int.reduceAdd, Int.reduceSub, Int.reduceMul, Int.reduceNeg, Int.reduceToNat, mg_40, Option.bind_some]
      rw [mw_24 o _ w _ (by omega), Option.bind_some, mSB_Q, show (73 * (s : Int) + (i : Int)).toNat = 73 * s + i by omega, castS]
    have hupd : vp_updL (fun j => JL (if 73 * s ≤ j ∧ j < 73 * s + i then cw p top (p - popc s) s ((j - 73 * s : Nat) : Int) else A j)) (73 * s + i) (JL (cw p top (p - popc s) s i)) = fun j => JL (if 73 * s ≤ j ∧ j < 73 * s + (i + 1) then cw p top (p - popc s) s ((j - 73 * s : Nat) : Int) else A j) := by
      rw [vpL_J]
      funext j
      congr 1
      by_cases h1 : j = 73 * s + i
      · rw [if_pos h1, if_pos (by omega), h1, Nat.add_sub_cancel_left]
      · rw [if_neg h1]
        by_cases h2 : 73 * s ≤ j ∧ j < 73 * s + i
        · rw [if_pos h2, if_pos (by omega)]
        · rw [if_neg h2, if_neg (by omega)]
    rw [fX5_laysRows_26, hmul, if_neg (by rw [J_lt (by omega)]; omega)]
    by_cases hf : s = 2 ^ p - 1
    · have hpf : p - popc s = 0 := by
        have := (popc_full ⟨p, by omega⟩ ⟨s, by omega⟩ hs).2 hf
        simp only at this
        omega
      have hcw : cw p top (p - popc s) s i = if (i : Int) = 0 then 1 else 0 := by
        rw [hpf]
        unfold cw
        simp only [cg]
        by_cases hi0 : (i : Int) = 0
        · rw [if_pos ⟨hf, hi0⟩, if_pos hi0]
        · rw [if_neg (fun h => hi0 h.2), if_neg hi0]
      rw [if_pos (by rw [hf])]
      have f1 := fun (q : Int64) (kk : Int64 → Option Wd) => M_lr56f (N := N) (o := o) hp ht (l := i) (by omega) (emM o (mSQ S 24 (fun j => JL (if 73 * s ≤ j ∧ j < 73 * s + i then cw p top (p - popc s) s ((j - 73 * s : Nat) : Int) else A j))) w) (J b) (J (popc s)) q kk (n := N) (by omega)
      have hsx : (s : Int) = ((2 ^ p - 1 : Nat) : Int) := by rw [← hf]
      by_cases hi0 : (i : Int) = 0
      · have hw1 := hwr (JL 1)
        rw [if_pos (show J (i : Int) = 0 by rw [hi0]; rfl)]
        simp only [jn_0, jn_1, jn_2, jn_3, jn_4, jn_5, jn_6, jn_8, jn_9, jn_10, jn_11, jn_12, jn_16, jn_20, jn_24, jn_30, jn_31, jn_32, jn_36, jn_48, jn_57, jn_59, jn_60, jn_63, jn_72, jn_73, jn_96, jn_97, jn_100, jn_122, jn_144, jn_200, jn_240, jn_288, jn_512, jn_840, jn_1200, jn_1600, jn_5040, jn_5390, jn_5400, jn_9999, jn_18688, jn_32400, jn_99999, jn_100000, jn_1000000, jn_858993459, jn_1431655765, jn_252645135, jl_0, jl_1, jl_2, jl_3, jl_8, jl_9, jl_10, jl_20, jl_27, jl_47, jl_96, jl_99, jl_100, jl_200, jl_555, jl_2000, jl_10000, jl_12345, jl_65536, jl_99999, jl_131638, jl_240023, jl_298288, jl_383153, jl_1306021, jl_1960084, jl_4147840, jl_8740238, jl_9872299, jl_175252482, jl_291595537, jl_1103515245, jl_2000000000, jl_2147483648, jl_4721686497, jl_7873079139, J_add, J_sub, J_mul, J_neg, JL_add, JL_sub, JL_mul, JL_neg, J_long, JL_int, ↓remI_fold, ↓remL_fold, Int.reduceAdd, Int.reduceSub, Int.reduceMul, Int.reduceNeg, Int.reduceToNat]
        rw [hcw, if_pos hi0] at hupd
        rw [hupd] at hw1
        rw [← hw1]
        rw [show J (s : Int) = J ((2 ^ p - 1 : Nat) : Int) by rw [hsx]]
        exact f1 _ _
      · have hw1 := hwr (JL 0)
        rw [if_neg (show ¬ J (i : Int) = 0 by rw [jn_0, J_eq (by omega)]; exact hi0)]
        simp only [jn_0, jn_1, jn_2, jn_3, jn_4, jn_5, jn_6, jn_8, jn_9, jn_10, jn_11, jn_12, jn_16, jn_20, jn_24, jn_30, jn_31, jn_32, jn_36, jn_48, jn_57, jn_59, jn_60, jn_63, jn_72, jn_73, jn_96, jn_97, jn_100, jn_122, jn_144, jn_200, jn_240, jn_288, jn_512, jn_840, jn_1200, jn_1600, jn_5040, jn_5390, jn_5400, jn_9999, jn_18688, jn_32400, jn_99999, jn_100000, jn_1000000, jn_858993459, jn_1431655765, jn_252645135, jl_0, jl_1, jl_2, jl_3, jl_8, jl_9, jl_10, jl_20, jl_27, jl_47, jl_96, jl_99, jl_100, jl_200, jl_555, jl_2000, jl_10000, jl_12345, jl_65536, jl_99999, jl_131638, jl_240023, jl_298288, jl_383153, jl_1306021, jl_1960084, jl_4147840, jl_8740238, jl_9872299, jl_175252482, jl_291595537, jl_1103515245, jl_2000000000, jl_2147483648, jl_4721686497, jl_7873079139, J_add, J_sub, J_mul, J_neg, JL_add, JL_sub, JL_mul, JL_neg, J_long, JL_int, ↓remI_fold, ↓remL_fold, Int.reduceAdd, Int.reduceSub, Int.reduceMul, Int.reduceNeg, Int.reduceToNat]
        rw [hcw, if_neg hi0] at hupd
        rw [hupd] at hw1
        rw [← hw1]
        rw [show J (s : Int) = J ((2 ^ p - 1 : Nat) : Int) by rw [hsx]]
        exact f1 _ _
    · rw [if_neg (by rw [J_eq (by omega), castE]; exact hf)]
      simp only [jn_0, jn_1, jn_2, jn_3, jn_4, jn_5, jn_6, jn_8, jn_9, jn_10, jn_11, jn_12, jn_16, jn_20, jn_24, jn_30, jn_31, jn_32, jn_36, jn_48, jn_57, jn_59, jn_60, jn_63, jn_72, jn_73, jn_96, jn_97, jn_100, jn_122, jn_144, jn_200, jn_240, jn_288, jn_512, jn_840, jn_1200, jn_1600, jn_5040, jn_5390, jn_5400, jn_9999, jn_18688, jn_32400, jn_99999, jn_100000, jn_1000000, jn_858993459, jn_1431655765, jn_252645135, jl_0, jl_1, jl_2, jl_3, jl_8, jl_9, jl_10, jl_20, jl_27, jl_47, jl_96, jl_99, jl_100, jl_200, jl_555, jl_2000, jl_10000, jl_12345, jl_65536, jl_99999, jl_131638, jl_240023, jl_298288, jl_383153, jl_1306021, jl_1960084, jl_4147840, jl_8740238, jl_9872299, jl_175252482, jl_291595537, jl_1103515245, jl_2000000000, jl_2147483648, jl_4721686497, jl_7873079139, J_add, J_sub, J_mul, J_neg, JL_add, JL_sub, JL_mul, JL_neg, J_long, JL_int, ↓remI_fold, ↓remL_fold, Int.reduceAdd, Int.reduceSub, Int.reduceMul, Int.reduceNeg, Int.reduceToNat]
      rw [M_lr56 hp ht hs hf (B := ((p * b : Nat) : Int)) (by omega) (by omega) hA' _ _ (by omega), hwr, hupd]
  · intro n
    have hmul : J (p : Int) * J (b : Int) = J ((p * b : Nat) : Int) := by rw [J_mul, Int.natCast_mul]
    rw [fX5_laysRows_26, hmul, if_pos (by rw [J_lt (by omega)]; omega)]
theorem M_laysRows (hN : 1000000 ≤ N) {p top b : Nat} (hp : 1 ≤ p ∧ p ≤ 8) (ht : top ≤ 9) (hb : b ≤ 9) : ∃ A, fX5_laysRows N (emM o S w) o (J p) (J b) (J top) = some (emM o (mSQ S 24 (fun j => JL (A j))) w) ∧ TbM p top (p * b : Nat) A 0 := by
  have h256 : 2 ^ p ≤ 256 := by have := Nat.pow_le_pow_right (show 2 > 0 by decide) hp.2; omega
  have h1p : 1 ≤ 2 ^ p := Nat.one_le_two_pow
  unfold fX5_laysRows
  have e1 : J 1 <<< (J (p : Int) &&& J 31) - J 1 = J ((2 ^ p - 1 : Nat) : Int) := by
    rw [J_shlz (by omega), Int.toNat_natCast, J_sub, Nat.shiftLeft_eq, Nat.one_mul]
    congr 1
    have hz : ∀ a : Nat, 1 ≤ a → (a : Int) - 1 = ((a - 1 : Nat) : Int) := by intro a h; omega
    exact hz _ h1p
  simp only [jn_0, jn_1, jn_2, jn_3, jn_4, jn_5, jn_6, jn_8, jn_9, jn_10, jn_11, jn_12, jn_16, jn_20, jn_24, jn_30, jn_31, jn_32, jn_36, jn_48, jn_57, jn_59, jn_60, jn_63, jn_72, jn_73, jn_96, jn_97, jn_100, jn_122, jn_144, jn_200, jn_240, jn_288, jn_512, jn_840, jn_1200, jn_1600, jn_5040, jn_5390, jn_5400, jn_9999, jn_18688, jn_32400, jn_99999, jn_100000, jn_1000000, jn_858993459, jn_1431655765, jn_252645135, jl_0, jl_1, jl_2, jl_3, jl_8, jl_9, jl_10, jl_20, jl_27, jl_47, jl_96, jl_99, jl_100, jl_200, jl_555, jl_2000, jl_10000, jl_12345, jl_65536, jl_99999, jl_131638, jl_240023, jl_298288, jl_383153, jl_1306021, jl_1960084, jl_4147840, jl_8740238, jl_9872299, jl_175252482, jl_291595537, jl_1103515245, jl_2000000000, jl_2147483648, jl_4721686497, jl_7873079139, J_add, J_sub, J_mul, J_neg, JL_add, JL_sub, JL_mul, JL_neg, J_long, JL_int, ↓remI_fold, ↓remL_fold, Int.reduceAdd, Int.reduceSub, Int.reduceMul, Int.reduceNeg, Int.reduceToNat, Option.bind_some, e1]
  have e0 : S = mSQ S 24 (fun s => JL ((mb S 24 s).toInt)) := by
    rw [fun_JL]; exact (mSQ_id S 24).symm
  have key : ∀ (m : Nat) (A : Nat → Int) (n : Nat), m ≤ 2 ^ p → m < n → TbM p top (p * b : Nat) A m → ∃ A', fX5_laysRows_11 N o (J p) (J b) (J top) (J ((2 ^ p - 1 : Nat) : Int)) (fun w19 => some w19) n (J ((m : Int) - 1)) (emM o (mSQ S 24 (fun j => JL (A j))) w) = some (emM o (mSQ S 24 (fun j => JL (A' j))) w) ∧ TbM p top (p * b : Nat) A' 0 := by
    intro m
    induction m with
    | zero =>
      intro A n _ hn hA
      cases n with
      | zero => omega
      | succ n =>
        refine ⟨A, ?_, hA⟩
        rw [fX5_laysRows_11, jn_0, if_pos (by rw [J_lt (by omega)]; omega)]
    | succ m ih =>
      intro A n hm hn hA
      cases n with
      | zero => omega
      | succ n =>
        have hpb : p * b ≤ 72 := Nat.mul_le_mul hp.2 hb
        have ⟨A', e, hA'⟩ := ih (fun j => if 73 * m ≤ j ∧ j < 73 * m + (p * b + 1) then cw p top (p - popc m) m ((j - 73 * m : Nat) : Int) else A j) n (by omega) (by omega) (by
          intro s' l h1 h2 h3
          by_cases hs' : s' = m
          · subst hs'
            simp only
            rw [if_pos (show 73 * s' ≤ 73 * s' + l ∧ 73 * s' + l < 73 * s' + (p * b + 1) by omega), Nat.add_sub_cancel_left]
          · simp only
            rw [if_neg (show ¬ (73 * m ≤ 73 * s' + l ∧ 73 * s' + l < 73 * m + (p * b + 1)) by omega)]
            exact hA s' l (by omega) h2 h3)
        refine ⟨A', ?_, hA'⟩
        rw [fX5_laysRows_11, show ((m + 1 : Nat) : Int) - 1 = (m : Int) by omega, jn_0, if_neg (by rw [J_lt (by omega)]; omega), M_bitsOf hN (by omega), Option.bind_some, M_lr26 hp ht (by omega) hb hA _ hN (by omega)]
        simp only [jn_0, jn_1, jn_2, jn_3, jn_4, jn_5, jn_6, jn_8, jn_9, jn_10, jn_11, jn_12, jn_16, jn_20, jn_24, jn_30, jn_31, jn_32, jn_36, jn_48, jn_57, jn_59, jn_60, jn_63, jn_72, jn_73, jn_96, jn_97, jn_100, jn_122, jn_144, jn_200, jn_240, jn_288, jn_512, jn_840, jn_1200, jn_1600, jn_5040, jn_5390, jn_5400, jn_9999, jn_18688, jn_32400, jn_99999, jn_100000, jn_1000000, jn_858993459, jn_1431655765, jn_252645135, jl_0, jl_1, jl_2, jl_3, jl_8, jl_9, jl_10, jl_20, jl_27, jl_47, jl_96, jl_99, jl_100, jl_200, jl_555, jl_2000, jl_10000, jl_12345, jl_65536, jl_99999, jl_131638, jl_240023, jl_298288, jl_383153, jl_1306021, jl_1960084, jl_4147840, jl_8740238, jl_9872299, jl_175252482, jl_291595537, jl_1103515245, jl_2000000000, jl_2147483648, jl_4721686497, jl_7873079139, J_add, J_sub, J_mul, J_neg, JL_add, JL_sub, JL_mul, JL_neg, J_long, JL_int, ↓remI_fold, ↓remL_fold, Int.reduceAdd, Int.reduceSub, Int.reduceMul, Int.reduceNeg, Int.reduceToNat, Option.bind_some]
        rw [show (m : Int) + -1 = (m : Int) - 1 by omega]
        exact e
  have ⟨A', e, hA'⟩ := key (2 ^ p) (fun s => (mb S 24 s).toInt) N (Nat.le_refl _) (by omega) (fun s' l h1 h2 h3 => by omega)
  refine ⟨A', ?_, hA'⟩
  rw [← e0] at e
  rw [show ((2 ^ p - 1 : Nat) : Int) = ((2 ^ p : Nat) : Int) - 1 by omega] at *
  exact e
end
