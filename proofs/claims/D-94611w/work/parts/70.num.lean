/-! numbers: J z is the int of an integer, JL z the long of it -/
set_option maxRecDepth 100000
def J (z : Int) : Int32 := Int32.ofInt z
def JL (z : Int) : Int64 := Int64.ofInt z
theorem J_toInt {z : Int} (h : -2147483648 ≤ z ∧ z ≤ 2147483647) : (J z).toInt = z := Int32.toInt_ofInt_of_le (by omega) (by omega)
theorem JL_toInt {z : Int} (h : -9223372036854775808 ≤ z ∧ z ≤ 9223372036854775807) : (JL z).toInt = z := Int64.toInt_ofInt_of_le (by omega) (by omega)
theorem J_of (x : Int32) : J x.toInt = x := Int32.ofInt_toInt x
theorem JL_of (x : Int64) : JL x.toInt = x := Int64.ofInt_toInt x
theorem J_bd (x : Int32) : -2147483648 ≤ x.toInt ∧ x.toInt ≤ 2147483647 := by
  have h1 := Int32.le_toInt x
  have h2 := Int32.toInt_lt x
  omega
theorem JL_bd (x : Int64) : -9223372036854775808 ≤ x.toInt ∧ x.toInt ≤ 9223372036854775807 := by
  have h1 := Int64.le_toInt x
  have h2 := Int64.toInt_lt x
  omega
/-- every int is J of an integer in its range -/
theorem J_ex (x : Int32) : ∃ z : Int, x = J z ∧ -2147483648 ≤ z ∧ z ≤ 2147483647 := ⟨x.toInt, (J_of x).symm, J_bd x⟩
theorem JL_ex (x : Int64) : ∃ z : Int, x = JL z ∧ -9223372036854775808 ≤ z ∧ z ≤ 9223372036854775807 := ⟨x.toInt, (JL_of x).symm, JL_bd x⟩
theorem J_add (a b : Int) : J a + J b = J (a + b) := (Int32.ofInt_add a b).symm
theorem J_sub (a b : Int) : J a - J b = J (a - b) := (Int32.ofInt_sub a b).symm
theorem J_mul (a b : Int) : J a * J b = J (a * b) := (Int32.ofInt_mul a b).symm
theorem J_neg (a : Int) : - J a = J (-a) := (Int32.ofInt_neg a).symm
theorem JL_add (a b : Int) : JL a + JL b = JL (a + b) := (Int64.ofInt_add a b).symm
theorem JL_sub (a b : Int) : JL a - JL b = JL (a - b) := (Int64.ofInt_sub a b).symm
theorem JL_mul (a b : Int) : JL a * JL b = JL (a * b) := (Int64.ofInt_mul a b).symm
theorem JL_neg (a : Int) : - JL a = JL (-a) := (Int64.ofInt_neg a).symm
theorem J_le {a b : Int} (h : (-2147483648 ≤ a ∧ a ≤ 2147483647) ∧ -2147483648 ≤ b ∧ b ≤ 2147483647) : (J a ≤ J b) = (a ≤ b) := propext (by rw [Int32.le_iff_toInt_le, J_toInt h.1, J_toInt h.2])
theorem J_lt {a b : Int} (h : (-2147483648 ≤ a ∧ a ≤ 2147483647) ∧ -2147483648 ≤ b ∧ b ≤ 2147483647) : (J a < J b) = (a < b) := propext (by rw [Int32.lt_iff_toInt_lt, J_toInt h.1, J_toInt h.2])
theorem J_eq {a b : Int} (h : (-2147483648 ≤ a ∧ a ≤ 2147483647) ∧ -2147483648 ≤ b ∧ b ≤ 2147483647) : (J a = J b) = (a = b) := propext (by rw [← Int32.toInt_inj, J_toInt h.1, J_toInt h.2])
theorem JL_le {a b : Int} (h : (-9223372036854775808 ≤ a ∧ a ≤ 9223372036854775807) ∧ -9223372036854775808 ≤ b ∧ b ≤ 9223372036854775807) : (JL a ≤ JL b) = (a ≤ b) := propext (by rw [Int64.le_iff_toInt_le, JL_toInt h.1, JL_toInt h.2])
theorem JL_lt {a b : Int} (h : (-9223372036854775808 ≤ a ∧ a ≤ 9223372036854775807) ∧ -9223372036854775808 ≤ b ∧ b ≤ 9223372036854775807) : (JL a < JL b) = (a < b) := propext (by rw [Int64.lt_iff_toInt_lt, JL_toInt h.1, JL_toInt h.2])
theorem JL_eq {a b : Int} (h : (-9223372036854775808 ≤ a ∧ a ≤ 9223372036854775807) ∧ -9223372036854775808 ≤ b ∧ b ≤ 9223372036854775807) : (JL a = JL b) = (a = b) := propext (by rw [← Int64.toInt_inj, JL_toInt h.1, JL_toInt h.2])
/-- the remainder as it is printed -/
def remI (v p : Int32) : Int32 := v - v / p * p
theorem remI_fold (v p : Int32) : v - v / p * p = remI v p := rfl
def remL (v p : Int64) : Int64 := v - v / p * p
theorem remL_fold (v p : Int64) : v - v / p * p = remL v p := rfl
theorem J_tdiv {a b : Int} (h : (-2147483648 ≤ a ∧ a ≤ 2147483647) ∧ -2147483648 ≤ b ∧ b ≤ 2147483647) : J a / J b = J (a.tdiv b) :=
  (Int32.ofInt_tdiv (by rw [show Int32.minValue.toInt = -2147483648 by decide]; exact h.1.1) (by rw [show Int32.maxValue.toInt = 2147483647 by decide]; exact h.1.2) (by rw [show Int32.minValue.toInt = -2147483648 by decide]; exact h.2.1) (by rw [show Int32.maxValue.toInt = 2147483647 by decide]; exact h.2.2)).symm
theorem JL_tdiv {a b : Int} (h : (-9223372036854775808 ≤ a ∧ a ≤ 9223372036854775807) ∧ -9223372036854775808 ≤ b ∧ b ≤ 9223372036854775807) : JL a / JL b = JL (a.tdiv b) :=
  (Int64.ofInt_tdiv (by rw [show Int64.minValue.toInt = -9223372036854775808 by decide]; exact h.1.1) (by rw [show Int64.maxValue.toInt = 9223372036854775807 by decide]; exact h.1.2) (by rw [show Int64.minValue.toInt = -9223372036854775808 by decide]; exact h.2.1) (by rw [show Int64.maxValue.toInt = 9223372036854775807 by decide]; exact h.2.2)).symm
theorem J_div {a b : Int} (h : 0 ≤ a ∧ a ≤ 2147483647 ∧ 0 < b ∧ b ≤ 2147483647) : J a / J b = J (a / b) := by
  rw [J_tdiv (by omega), Int.tdiv_eq_ediv_of_nonneg h.1]
theorem JL_div {a b : Int} (h : 0 ≤ a ∧ a ≤ 9223372036854775807 ∧ 0 < b ∧ b ≤ 9223372036854775807) : JL a / JL b = JL (a / b) := by
  rw [JL_tdiv (by omega), Int.tdiv_eq_ediv_of_nonneg h.1]
theorem J_remT {a b : Int} (h : (-2147483648 ≤ a ∧ a ≤ 2147483647) ∧ -2147483648 ≤ b ∧ b ≤ 2147483647) : remI (J a) (J b) = J (a.tmod b) := by
  rw [remI, J_tdiv h, J_mul, J_sub]
  congr 1
  have := Int.mul_tdiv_add_tmod a b
  rw [Int.mul_comm] at this
  omega
theorem JL_remT {a b : Int} (h : (-9223372036854775808 ≤ a ∧ a ≤ 9223372036854775807) ∧ -9223372036854775808 ≤ b ∧ b ≤ 9223372036854775807) : remL (JL a) (JL b) = JL (a.tmod b) := by
  rw [remL, JL_tdiv h, JL_mul, JL_sub]
  congr 1
  have := Int.mul_tdiv_add_tmod a b
  rw [Int.mul_comm] at this
  omega
theorem J_rem {a b : Int} (h : 0 ≤ a ∧ a ≤ 2147483647 ∧ 0 < b ∧ b ≤ 2147483647) : remI (J a) (J b) = J (a % b) := by
  rw [J_remT (by omega), Int.tmod_eq_emod_of_nonneg h.1]
theorem JL_rem {a b : Int} (h : 0 ≤ a ∧ a ≤ 9223372036854775807 ∧ 0 < b ∧ b ≤ 9223372036854775807) : remL (JL a) (JL b) = JL (a % b) := by
  rw [JL_remT (by omega), Int.tmod_eq_emod_of_nonneg h.1]
theorem J_nn {z : Int} (h : 0 ≤ z ∧ z ≤ 2147483647) : (J z).toNatClampNeg = z.toNat := by
  show (J z).toInt.toNat = z.toNat
  rw [J_toInt (by omega)]
theorem J_long {z : Int} (h : -2147483648 ≤ z ∧ z ≤ 2147483647) : (J z).toInt64 = JL z := by
  rw [← Int64.toInt_inj, Int32.toInt_toInt64, J_toInt h, JL_toInt (by omega)]
theorem JL_int (z : Int) : (JL z).toInt32 = J z := Int64.toInt32_ofInt
theorem lt_cmp {a b : Int} (h : (-9223372036854775808 ≤ a ∧ a ≤ 9223372036854775807) ∧ -9223372036854775808 ≤ b ∧ b ≤ 9223372036854775807) : lg_cmp (JL a) (JL b) = J (if b < a then 1 else if a = b then 0 else -1) := by
  unfold lg_cmp
  simp only [GT.gt, JL_lt (And.intro h.2 h.1), JL_eq h]
  split
  · rfl
  · split <;> rfl
theorem cmp_lt0 {a b : Int} (h : (-9223372036854775808 ≤ a ∧ a ≤ 9223372036854775807) ∧ -9223372036854775808 ≤ b ∧ b ≤ 9223372036854775807) : (lg_cmp (JL a) (JL b) < J 0) = (a < b) := by
  rw [lt_cmp h, J_lt (by split <;> (try split) <;> omega)]
  apply propext
  split <;> (try split) <;> omega
theorem cmp_gt0 {a b : Int} (h : (-9223372036854775808 ≤ a ∧ a ≤ 9223372036854775807) ∧ -9223372036854775808 ≤ b ∧ b ≤ 9223372036854775807) : (J 0 < lg_cmp (JL a) (JL b)) = (b < a) := by
  rw [lt_cmp h, J_lt (by split <;> (try split) <;> omega)]
  apply propext
  split <;> (try split) <;> omega
theorem cmp_le0 {a b : Int} (h : (-9223372036854775808 ≤ a ∧ a ≤ 9223372036854775807) ∧ -9223372036854775808 ≤ b ∧ b ≤ 9223372036854775807) : (lg_cmp (JL a) (JL b) ≤ J 0) = (a ≤ b) := by
  rw [lt_cmp h, J_le (by split <;> (try split) <;> omega)]
  apply propext
  split <;> (try split) <;> omega
theorem cmp_ge0 {a b : Int} (h : (-9223372036854775808 ≤ a ∧ a ≤ 9223372036854775807) ∧ -9223372036854775808 ≤ b ∧ b ≤ 9223372036854775807) : (J 0 ≤ lg_cmp (JL a) (JL b)) = (b ≤ a) := by
  rw [lt_cmp h, J_le (by split <;> (try split) <;> omega)]
  apply propext
  split <;> (try split) <;> omega
theorem cmp_eq0 {a b : Int} (h : (-9223372036854775808 ≤ a ∧ a ≤ 9223372036854775807) ∧ -9223372036854775808 ≤ b ∧ b ≤ 9223372036854775807) : (lg_cmp (JL a) (JL b) = J 0) = (a = b) := by
  rw [lt_cmp h, J_eq (by split <;> (try split) <;> omega)]
  apply propext
  split <;> (try split) <;> omega
/-- what a yes or no is as an int -/
def Bp (P : Prop) [Decidable P] : Int32 := if P then J 1 else J 0
theorem Bp_eq0 (P : Prop) [Decidable P] : (Bp P = J 0) = ¬ P := by by_cases h : P <;> simp [Bp, h, J_eq]
theorem Bp_eq1 (P : Prop) [Decidable P] : (Bp P = J 1) = P := by by_cases h : P <;> simp [Bp, h, J_eq]
theorem Bp_01 (P : Prop) [Decidable P] : (Bp P = J 0 ∨ Bp P = J 1) = True := by by_cases h : P <;> simp [Bp, h]
theorem Bp_t {P : Prop} [Decidable P] (h : P) : Bp P = J 1 := by simp [Bp, h]
theorem Bp_f {P : Prop} [Decidable P] (h : ¬ P) : Bp P = J 0 := by simp [Bp, h]
theorem Bp_congr {P Q : Prop} [Decidable P] [Decidable Q] (h : P ↔ Q) : Bp P = Bp Q := by
  by_cases hp : P
  · rw [Bp_t hp, Bp_t (h.1 hp)]
  · rw [Bp_f hp, Bp_f (fun hq => hp (h.2 hq))]
theorem Bp_mk (P : Prop) [Decidable P] : (if P then some (J 1) else some (J 0)) = some (Bp P) := by by_cases h : P <;> simp [Bp, h]
theorem Bp_mk' (P : Prop) [Decidable P] : (if P then some (J 0) else some (J 1)) = some (Bp (¬ P)) := by by_cases h : P <;> simp [Bp, h]
theorem Bp_0 (P Q : Prop) [Decidable P] [Decidable Q] : (if P then some (J 0) else some (Bp Q)) = some (Bp (¬ P ∧ Q)) := by by_cases h : P <;> by_cases h' : Q <;> simp [Bp, h, h']
theorem Bp_0' (P Q : Prop) [Decidable P] [Decidable Q] : (if P then some (Bp Q) else some (J 0)) = some (Bp (P ∧ Q)) := by by_cases h : P <;> by_cases h' : Q <;> simp [Bp, h, h']
theorem Bp_1 (P Q : Prop) [Decidable P] [Decidable Q] : (if P then some (J 1) else some (Bp Q)) = some (Bp (P ∨ Q)) := by by_cases h : P <;> by_cases h' : Q <;> simp [Bp, h, h']
theorem Bp_1' (P Q : Prop) [Decidable P] [Decidable Q] : (if P then some (Bp Q) else some (J 1)) = some (Bp (P → Q)) := by by_cases h : P <;> by_cases h' : Q <;> simp [Bp, h, h']
theorem Bp_ii (P Q R : Prop) [Decidable P] [Decidable Q] [Decidable R] : (if P then some (Bp Q) else some (Bp R)) = some (Bp ((P ∧ Q) ∨ (¬ P ∧ R))) := by by_cases h : P <;> by_cases h' : Q <;> by_cases h'' : R <;> simp [Bp, h, h', h'']
theorem cast0 (z : Nat) : ((z : Int) = 0) = (z = 0) := propext (by omega)
theorem castE (a b : Nat) : ((a : Int) = (b : Int)) = (a = b) := propext (by omega)
theorem castL (a b : Nat) : ((a : Int) ≤ (b : Int)) = (a ≤ b) := propext (by omega)
theorem castT (a b : Nat) : ((a : Int) < (b : Int)) = (a < b) := propext (by omega)
theorem castS (i : Nat) : (i : Int) + 1 = ((i + 1 : Nat) : Int) := by omega
theorem em_t (P : Prop) : (¬ P ∨ P) = True := eq_true ((Classical.em P).symm)
/-! bits -/
theorem J_bv (n : Nat) : (J (n : Int)).toBitVec = BitVec.ofNat 32 n := by
  show (Int32.ofInt n).toBitVec = _
  rw [Int32.toBitVec_ofInt]; simp
theorem J_or (a b : Nat) : J (a : Int) ||| J (b : Int) = J ((a ||| b : Nat) : Int) := by
  apply Int32.toBitVec_inj.1
  rw [Int32.toBitVec_or, J_bv, J_bv, J_bv]
  apply BitVec.eq_of_toNat_eq
  simp [Nat.or_mod_two_pow]
theorem J_and (a b : Nat) : J (a : Int) &&& J (b : Int) = J ((a &&& b : Nat) : Int) := by
  apply Int32.toBitVec_inj.1
  rw [Int32.toBitVec_and, J_bv, J_bv, J_bv]
  apply BitVec.eq_of_toNat_eq
  simp [Nat.and_mod_two_pow]
theorem J_shl (a k : Nat) (h : k < 32) : J (a : Int) <<< (J (k : Int) &&& J 31) = J ((a <<< k : Nat) : Int) := by
  have e : J (k : Int) &&& J 31 = J (k : Int) := by
    have := J_and k 31
    rw [show k &&& 31 = k from by rw [show (31 : Nat) = 2 ^ 5 - 1 from rfl, Nat.and_two_pow_sub_one_eq_mod]; exact Nat.mod_eq_of_lt h] at this
    exact this
  rw [e]
  apply Int32.toBitVec_inj.1
  rw [Int32.toBitVec_shiftLeft, J_bv, J_bv, J_bv]
  apply BitVec.eq_of_toNat_eq
  have hk : BitVec.smod (BitVec.ofNat 32 k) 32 = BitVec.ofNat 32 k := by
    apply BitVec.eq_of_toInt_eq
    rw [BitVec.toInt_smod]
    have : (BitVec.ofNat 32 k).toInt = k := by
      rw [← J_bv]; exact J_toInt (by omega)
    rw [this]
    have h32 : (32 : BitVec 32).toInt = 32 := by decide
    rw [h32, Int.fmod_eq_emod_of_nonneg _ (by omega)]; omega
  rw [hk]
  simp [Nat.mod_eq_of_lt (show k < 4294967296 by omega), Nat.shiftLeft_eq]
theorem J_shr (a k : Nat) (ha : a < 2147483648) (h : k < 32) : J (a : Int) >>> (J (k : Int) &&& J 31) = J ((a >>> k : Nat) : Int) := by
  have e : J (k : Int) &&& J 31 = J (k : Int) := by
    have := J_and k 31
    rw [show k &&& 31 = k from by rw [show (31 : Nat) = 2 ^ 5 - 1 from rfl, Nat.and_two_pow_sub_one_eq_mod]; exact Nat.mod_eq_of_lt h] at this
    exact this
  rw [e]
  apply Int32.toBitVec_inj.1
  rw [Int32.toBitVec_shiftRight, J_bv, J_bv, J_bv]
  have hk : BitVec.smod (BitVec.ofNat 32 k) 32 = BitVec.ofNat 32 k := by
    apply BitVec.eq_of_toInt_eq
    rw [BitVec.toInt_smod]
    have : (BitVec.ofNat 32 k).toInt = k := by
      rw [← J_bv]; exact J_toInt (by omega)
    rw [this]
    have h32 : (32 : BitVec 32).toInt = 32 := by decide
    rw [h32, Int.fmod_eq_emod_of_nonneg _ (by omega)]; omega
  rw [hk]
  have hm : (BitVec.ofNat 32 a).msb = false := by
    rw [BitVec.msb_eq_decide]; simp; omega
  rw [BitVec.sshiftRight_eq', BitVec.sshiftRight_eq_of_msb_false hm]
  apply BitVec.eq_of_toNat_eq
  have h2 : a >>> k ≤ a := Nat.shiftRight_le a k
  simp [Nat.mod_eq_of_lt (show k < 4294967296 by omega), Nat.mod_eq_of_lt (show a < 4294967296 by omega), Nat.mod_eq_of_lt (show a >>> k < 4294967296 by omega)]
