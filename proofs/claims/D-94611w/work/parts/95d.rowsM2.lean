/-! the reference: rows, least -/
set_option maxRecDepth 100000
theorem gs_pop {p top : Nat} {B : Int} (hp : p ≤ 8) (hB : 0 ≤ B) (h : cw p top p 0 B ≠ 0) : ∀ i, i ≤ p → popc (gs p top B i).1 = i := by
  intro i
  induction i with
  | zero => intro _; show popc 0 = 0; decide +kernel
  | succ i ih =>
    intro hi
    have ⟨a, b, c⟩ := gs_ok hB h i (by omega)
    have ⟨d1, d2, d3, d4, _⟩ := gh_ok (by omega) a
    have h256 : 2 ^ p ≤ 256 := by have := Nat.pow_le_pow_right (show 2 > 0 by decide) hp; omega
    have hm := Nat.mod_lt (i + gh p top i (gs p top B i)) (show p > 0 by omega)
    have hb : (gs p top B i).1.testBit ((i + gh p top i (gs p top B i)) % p) = false := by
      unfold frS at d2; simpa using d2
    have := (popc_or ⟨(gs p top B i).1, by omega⟩ ⟨(i + gh p top i (gs p top B i)) % p, by omega⟩ hb).1
    simp only at this
    simp only [gs, nxR]
    rw [this, ih (by omega)]
section
variable {N o : Nat} {S : MS} {w : Wd} {C : Cy}
theorem M_rd24 {A : Nat → Int} {s l : Nat} (hs : s < 256) (hl : l ≤ 72) : (fX5_at N (emM o (mSQ S 24 (fun j => JL (A j))) w) (J s) (J l)).bind (fun x => aL (emM o (mSQ S 24 (fun j => JL (A j))) w) (o + 24) x) = some (JL (A (73 * s + l))) := by
  unfold fX5_at
  simp only [jn_0, jn_1, jn_2, jn_3, jn_4, jn_5, jn_6, jn_8, jn_9, jn_10, jn_11, jn_12, jn_16, jn_20, jn_24, jn_30, jn_31, jn_32, jn_36, jn_48, jn_57, jn_59, jn_60, jn_63, jn_72, jn_73, jn_96, jn_97, jn_100, jn_122, jn_144, jn_200, jn_240, jn_288, jn_512, jn_840, jn_1200, jn_1600, jn_5040, jn_5390, jn_5400, jn_9999, jn_18688, jn_32400, jn_99999, jn_100000, jn_1000000, jn_858993459, jn_1431655765, jn_252645135, jl_0, jl_1, jl_2, jl_3, jl_8, jl_9, jl_10, jl_20, jl_27, jl_47, jl_96, jl_99, jl_100, jl_200, jl_555, jl_2000, jl_10000, jl_12345, jl_65536, jl_99999, jl_131638, jl_240023, jl_298288, jl_383153, jl_1306021, jl_1960084, jl_4147840, jl_8740238, jl_9872299, jl_175252482, jl_291595537, jl_1103515245, jl_2000000000, jl_2147483648, jl_4721686497, jl_7873079139, J_add, J_sub, J_mul, J_neg, JL_add, JL_sub, JL_mul, JL_neg, J_long, JL_int, ↓remI_fold, ↓remL_fold, Int.reduceAdd, Int.reduceSub, Int.reduceMul, Int.reduceNeg, Int.reduceToNat, Option.bind_some]
  rw [mr_24 o _ w (by omega), show ((73 : Int) * (s : Int) + (l : Int)).toNat = 73 * s + l by omega]
  rfl
theorem M_rows (hN : 1000000 ≤ N) {p b t : Int} (hp : -2147483648 ≤ p ∧ p ≤ 2147483647) (hb : -2147483648 ≤ b ∧ b ≤ 2147483647) (ht : -2147483648 ≤ t ∧ t ≤ 2147483647) : ∃ S', fX5_rows N (emM o S w) o (J p) (J b) (J t) = some (JL (sp_rows p b t), emM o S' w) ∧ FrM S S' := by
  have hF : FrM S (mSI S 0 (J 0)) := FrM_I S 0 _ (by decide)
  unfold fX5_rows sp_rows
  simp only [jn_0, jn_1, jn_2, jn_3, jn_4, jn_5, jn_6, jn_8, jn_9, jn_10, jn_11, jn_12, jn_16, jn_20, jn_24, jn_30, jn_31, jn_32, jn_36, jn_48, jn_57, jn_59, jn_60, jn_63, jn_72, jn_73, jn_96, jn_97, jn_100, jn_122, jn_144, jn_200, jn_240, jn_288, jn_512, jn_840, jn_1200, jn_1600, jn_5040, jn_5390, jn_5400, jn_9999, jn_18688, jn_32400, jn_99999, jn_100000, jn_1000000, jn_858993459, jn_1431655765, jn_252645135, jl_0, jl_1, jl_2, jl_3, jl_8, jl_9, jl_10, jl_20, jl_27, jl_47, jl_96, jl_99, jl_100, jl_200, jl_555, jl_2000, jl_10000, jl_12345, jl_65536, jl_99999, jl_131638, jl_240023, jl_298288, jl_383153, jl_1306021, jl_1960084, jl_4147840, jl_8740238, jl_9872299, jl_175252482, jl_291595537, jl_1103515245, jl_2000000000, jl_2147483648, jl_4721686497, jl_7873079139, J_add, J_sub, J_mul, J_neg, JL_add, JL_sub, JL_mul, JL_neg, J_long, JL_int, ↓remI_fold, ↓remL_fold, Int.reduceAdd, Int.reduceSub, Int.reduceMul, Int.reduceNeg, Int.reduceToNat, Classical.not_not, em_t, Bp_eq0, Bp_eq1, Bp_01, Bp_mk, Bp_mk', Bp_0, Bp_0', Bp_1, Bp_1', if_true, if_false, ite_not, mp_0, M_areRows hp hb ht, Option.bind_some]
  by_cases h1 : (1 ≤ p ∧ p ≤ 8) ∧ (0 ≤ b ∧ b ≤ 9) ∧ 0 ≤ t ∧ t ≤ 9
  case neg => exact ⟨_, by rw [if_neg h1, if_neg h1], hF⟩
  rw [if_pos h1, if_pos h1]
  obtain ⟨q, hr⟩ : ∃ r : Nat, p = r := ⟨p.toNat, by omega⟩
  subst hr
  obtain ⟨c, hr⟩ : ∃ r : Nat, b = r := ⟨b.toNat, by omega⟩
  subst hr
  obtain ⟨u, hr⟩ : ∃ r : Nat, t = r := ⟨t.toNat, by omega⟩
  subst hr
  have hpb : q * c ≤ 72 := Nat.mul_le_mul (show q ≤ 8 by omega) (show c ≤ 9 by omega)
  have ⟨A, e, hA⟩ := M_laysRows (N := N) (o := o) (S := mSI S 0 (J 0)) (w := w) hN (p := q) (top := u) (b := c) (by omega) (by omega) (by omega)
  refine ⟨mSQ (mSI S 0 (J 0)) 24 (fun j => JL (A j)), ?_, FrM_t hF ⟨fun _ _ _ => rfl, rfl, rfl, rfl, rfl⟩⟩
  have hr := M_rd24 (N := N) (o := o) (S := mSI S 0 (J 0)) (w := w) (A := A) (s := 0) (l := q * c) (by omega) hpb
  rw [hA 0 (q * c) (by omega) (Nat.two_pow_pos q) (Int.le_refl _)] at hr
  rw [show popc 0 = 0 by decide +kernel, Nat.sub_zero] at hr
  rw [e, Option.bind_some, mg_40, Option.bind_some]
  simp only [Int.toNat_natCast]
  rw [show (q : Int) * (c : Int) = ((q * c : Nat) : Int) from (Int.natCast_mul q c).symm]
  have hz : ∀ {α β γ : Type} (x : Option α) (f : α → Option β) (g : β → Option γ), (x.bind fun a => (f a).bind g) = (x.bind f).bind g := by intro α β γ x f g; cases x <;> rfl
  rw [hz]
  refine Eq.trans (congrArg (fun x => Option.bind x _) hr) ?_
  rfl
theorem M_ls81 {p top b : Nat} (hp : 1 ≤ p ∧ p ≤ 8) (ht : top ≤ 9) (hb : b ≤ 9) {A : Nat → Int} (hA : TbM p top (p * b : Nat) A 0) {s l i : Nat} (hs : s < 2 ^ p) (hl : l ≤ p * b) (hi : i < p) (hpc : popc s = i) (hc : cw p top (p - i) s l ≠ 0) (y : Int32) (k : Int32 → Option (Int32 × Wd)) {n : Nat} (hn : 20 < n) : fX5_least_81 N (emM o (mSQ S 24 (fun j => JL (A j))) w) o (J p) y (J s) (J l) (J i) k n (J 0) = k (J (gh p top i (s, (l : Int)))) := by
  have h256 : 2 ^ p ≤ 256 := by have := Nat.pow_le_pow_right (show 2 > 0 by decide) hp.2; omega
  have hpb : p * b ≤ 72 := Nat.mul_le_mul hp.2 hb
  have ⟨g1, g2, g3, g4, g5⟩ := gh_ok (p := p) (top := top) hi (q := (s, (l : Int))) hc
  have g6 := fi_cut g5
  simp only at g3
  refine lp_seek (fun n h => fX5_least_81 N (emM o (mSQ S 24 (fun j => JL (A j))) w) o (J p) y (J s) (J l) (J i) k n (J (h : Int))) (fun h => k (J (h : Int))) (gh p top i (s, (l : Int)) + 1) _ ?_ g6 n (by omega)
  intro n h hh
  have hm := Nat.mod_lt (i + h) (show p > 0 by omega)
  have em : ((i : Int) + (h : Int)) % (p : Int) = (((i + h) % p : Nat) : Int) := by rw [Int.natCast_emod, Int.natCast_add]
  have hlt := or_lt8 hs hm
  have r1 : remI (J ((i : Int) + (h : Int))) (J (p : Int)) = J (((i + h) % p : Nat) : Int) := by rw [J_rem (by omega), em]
  have r2 : J 1 <<< (J (((i + h) % p : Nat) : Int) &&& J 31) = J ((1 <<< ((i + h) % p) : Nat) : Int) := by rw [J_shlz (by omega), Int.toNat_natCast]
  have r3 : (J (s : Int) >>> (J (((i + h) % p : Nat) : Int) &&& J 31) &&& J 1 = J 1) = (s.testBit ((i + h) % p) = true) := by
    rw [J_shr s _ (by omega) (by omega), J_and1 (Int.natCast_nonneg _), J_eq (by omega)]
    exact propext ⟨fun e => (shr1_bit _ _).1 (by omega), fun e => by have := (shr1_bit _ _).2 e; omega⟩
  rw [fX5_least_81]
  have hp0 : (J (p : Int) = J 0) = False := by rw [J_eq (by omega)]; exact eq_false (by omega)
  simp only [jn_0, jn_1, jn_2, jn_3, jn_4, jn_5, jn_6, jn_8, jn_9, jn_10, jn_11, jn_12, jn_16, jn_20, jn_24, jn_30, jn_31, jn_32, jn_36, jn_48, jn_57, jn_59, jn_60, jn_63, jn_72, jn_73, jn_96, jn_97, jn_100, jn_122, jn_144, jn_200, jn_240, jn_288, jn_512, jn_840, jn_1200, jn_1600, jn_5040, jn_5390, jn_5400, jn_9999, jn_18688, jn_32400, jn_99999, jn_100000, jn_1000000, jn_858993459, jn_1431655765, jn_252645135, jl_0, jl_1, jl_2, jl_3, jl_8, jl_9, jl_10, jl_20, jl_27, jl_47, jl_96, jl_99, jl_100, jl_200, jl_555, jl_2000, jl_10000, jl_12345, jl_65536, jl_99999, jl_131638, jl_240023, jl_298288, jl_383153, jl_1306021, jl_1960084, jl_4147840, jl_8740238, jl_9872299, jl_175252482, jl_291595537, jl_1103515245, jl_2000000000, jl_2147483648, jl_4721686497, jl_7873079139, J_add, J_sub, J_mul, J_neg, JL_add, JL_sub, JL_mul, JL_neg, J_long, JL_int, ↓remI_fold, ↓remL_fold, Int.reduceAdd, Int.reduceSub, Int.reduceMul, Int.reduceNeg, Int.reduceToNat, hp0, if_false, r1, r2, r3, Option.bind_some, castS]
  by_cases hb : s.testBit ((i + h) % p) = true
  · rw [if_pos hb, if_neg]
    unfold frS
    rw [hb]; simp
  · have hb' : s.testBit ((i + h) % p) = false := by simpa using hb
    have hfr : frS p i s h = true := by unfold frS; rw [hb']; rfl
    have hA' := hA (s ||| 1 <<< ((i + h) % p)) (l - h) (by omega) hlt (by omega)
    have hpo := (popc_or ⟨s, by omega⟩ ⟨(i + h) % p, by omega⟩ hb').1
    simp only at hpo
    rw [hpo, hpc, show ((l - h : Nat) : Int) = (l : Int) - h by omega] at hA'
    have hcb := cg_bd p (fun _ => 0) (fun _ => top + 1) (fun _ => by omega) (p - (i + 1)) (nxR p i s h) ((l : Int) - h)
    have h10 : (10 : Int) ^ (p - (i + 1)) ≤ 10000000 := by
      have h1 : (10 : Nat) ^ (p - (i + 1)) ≤ 10 ^ 7 := Nat.pow_le_pow_right (by decide) (by omega)
      have h2 : ((10 ^ (p - (i + 1)) : Nat) : Int) ≤ ((10 ^ 7 : Nat) : Int) := by exact_mod_cast h1
      rw [Int.natCast_pow] at h2
      exact h2
    have hcb' : 0 ≤ cw p top (p - (i + 1)) (nxR p i s h) ((l : Int) - h) ∧ cw p top (p - (i + 1)) (nxR p i s h) ((l : Int) - h) ≤ 10000000 := ⟨hcb.1, Int.le_trans hcb.2 h10⟩
    rw [if_neg hb, J_or]
    unfold fX5_at
    simp only [jn_0, jn_1, jn_2, jn_3, jn_4, jn_5, jn_6, jn_8, jn_9, jn_10, jn_11, jn_12, jn_16, jn_20, jn_24, jn_30, jn_31, jn_32, jn_36, jn_48, jn_57, jn_59, jn_60, jn_63, jn_72, jn_73, jn_96, jn_97, jn_100, jn_122, jn_144, jn_200, jn_240, jn_288, jn_512, jn_840, jn_1200, jn_1600, jn_5040, jn_5390, jn_5400, jn_9999, jn_18688, jn_32400, jn_99999, jn_100000, jn_1000000, jn_858993459, jn_1431655765, jn_252645135, jl_0, jl_1, jl_2, jl_3, jl_8, jl_9, jl_10, jl_20, jl_27, jl_47, jl_96, jl_99, jl_100, jl_200, jl_555, jl_2000, jl_10000, jl_12345, jl_65536, jl_99999, jl_131638, jl_240023, jl_298288, jl_383153, jl_1306021, jl_1960084, jl_4147840, jl_8740238, jl_9872299, jl_175252482, jl_291595537, jl_1103515245, jl_2000000000, jl_2147483648, jl_4721686497, jl_7873079139, J_add, J_sub, J_mul, J_neg, JL_add, JL_sub, JL_mul, JL_neg, J_long, JL_int, ↓remI_fold, ↓remL_fold, Int.reduceAdd, Int.reduceSub, Int.reduceMul, Int.reduceNeg, Int.reduceToNat, mg_40, Option.bind_some]
    rw [mr_24 o _ w (by omega), Option.bind_some, show ((73 : Int) * ((s ||| 1 <<< ((i + h) % p) : Nat) : Int) + ((l : Int) - (h : Int))).toNat = 73 * (s ||| 1 <<< ((i + h) % p)) + (l - h) by omega]
    rw [show mb (mSQ S 24 (fun j => JL (A j))) 24 (73 * (s ||| 1 <<< ((i + h) % p)) + (l - h)) = JL (A (73 * (s ||| 1 <<< ((i + h) % p)) + (l - h))) from rfl, hA']
    have ec : (lg_cmp (JL (cw p top (p - (i + 1)) (s ||| 1 <<< ((i + h) % p)) ((l : Int) - h))) (JL 0) = J 0) = (cw p top (p - (i + 1)) (nxR p i s h) ((l : Int) - h) = 0) := cmp_eq0 (by unfold nxR at hcb'; omega)
    by_cases hz : cw p top (p - (i + 1)) (nxR p i s h) ((l : Int) - h) = 0
    · simp only [ec, if_pos hz]
      rw [if_neg]
      simp [hz]
    · simp only [ec, if_neg hz]
      rw [if_pos]
      simp only [Bool.and_eq_true, decide_eq_true_iff]
      exact ⟨⟨hfr, by omega⟩, hz⟩
theorem M_ls71 (hN : 1000000 ≤ N) {p top b m : Nat} (hp : 1 ≤ p ∧ p ≤ 8) (ht : top ≤ 9) (hb : b ≤ 9) (hm : m < p) {A : Nat → Int} (hA : TbM p top (p * b : Nat) A 0) (hc : cw p top p 0 (p * b : Nat) ≠ 0) (k : Int32 → Option (Int32 × Wd)) {n : Nat} (hn : 20 < n) : fX5_least_71 N (emM o (mSQ S 24 (fun j => JL (A j))) w) o (J p) (J m) k n (J 0) (J (p * b : Nat)) (J 0) (J 0) = k (J (gh p top m (gs p top (p * b : Nat) m))) := by
  have hpb : p * b ≤ 72 := Nat.mul_le_mul hp.2 hb
  have h256 : 2 ^ p ≤ 256 := by have := Nat.pow_le_pow_right (show 2 > 0 by decide) hp.2; omega
  have key : ∀ i, i ≤ m + 1 → ∀ x : Int32, (i = 0 → x = J 0) → (∀ j, i = j + 1 → x = J (gh p top j (gs p top (p * b : Nat) j))) → ∀ n', 20 < n' + i → fX5_least_71 N (emM o (mSQ S 24 (fun j => JL (A j))) w) o (J p) (J m) k n' (J (gs p top (p * b : Nat) i).1) (J (gs p top (p * b : Nat) i).2) x (J i) = k (J (gh p top m (gs p top (p * b : Nat) m))) := by
    intro i hi
    obtain ⟨d, hd⟩ : ∃ d, i + d = m + 1 := ⟨m + 1 - i, by omega⟩
    induction d generalizing i with
    | zero =>
      intro x h0 h1 n' hn'
      cases n' with
      | zero => omega
      | succ n' =>
        rw [fX5_least_71, if_pos (by rw [J_lt (by omega)]; omega), h1 m (by omega)]
    | succ d ih =>
      intro x h0 h1 n' hn'
      cases n' with
      | zero => omega
      | succ n' =>
        have ⟨a, b1, c1, c2⟩ := gs_ok (p := p) (top := top) (B := ((p * b : Nat) : Int)) (Int.natCast_nonneg _) hc i (by omega)
        have hpop := gs_pop (p := p) (top := top) (B := ((p * b : Nat) : Int)) hp.2 (Int.natCast_nonneg _) hc i (by omega)
        have ⟨d1, d2, d3, d4, _⟩ := gh_ok (p := p) (top := top) (show i < p by omega) a
        obtain ⟨l, hl⟩ : ∃ l : Nat, (gs p top (p * b : Nat) i).2 = l := ⟨(gs p top (p * b : Nat) i).2.toNat, by omega⟩
        obtain ⟨s, hs⟩ : ∃ s : Nat, (gs p top (p * b : Nat) i).1 = s := ⟨_, rfl⟩
        have hq : gs p top (p * b : Nat) i = (s, (l : Int)) := Prod.ext hs hl
        have ihs := ih (i + 1) (by omega) (by omega) (J (gh p top i (gs p top (p * b : Nat) i))) (by omega) (fun j hj => by rw [show j = i by omega]) n' (by omega)
        simp only [gs] at ihs
        rw [hq] at ihs a b1 c1 c2 hpop d1 d2 d3 d4
        simp only at ihs a b1 c1 c2 hpop d1 d2 d3 d4
        rw [hq]
        rw [fX5_least_71, if_neg (by rw [J_lt (by omega)]; omega)]
        simp only
        rw [show (0 : Int32) = J 0 from rfl, M_ls81 hp ht hb hA b1 (by omega) (by omega) hpop a _ _ (by omega)]
        rw [if_neg (by rw [J_eq (by omega)]; omega)]
        have hmm := Nat.mod_lt (i + gh p top i (s, (l : Int))) (show p > 0 by omega)
        have em : ((i : Int) + (gh p top i (s, (l : Int)) : Int)) % (p : Int) = (((i + gh p top i (s, (l : Int))) % p : Nat) : Int) := by rw [Int.natCast_emod, Int.natCast_add]
        have r1 : remI (J ((i : Int) + (gh p top i (s, (l : Int)) : Int))) (J (p : Int)) = J (((i + gh p top i (s, (l : Int))) % p : Nat) : Int) := by rw [J_rem (by omega), em]
        have r2 : J 1 <<< (J (((i + gh p top i (s, (l : Int))) % p : Nat) : Int) &&& J 31) = J ((1 <<< ((i + gh p top i (s, (l : Int))) % p) : Nat) : Int) := by rw [J_shlz (by omega), Int.toNat_natCast]
        simp only [jn_0, jn_1, jn_2, jn_3, jn_4, jn_5, jn_6, jn_8, jn_9, jn_10, jn_11, jn_12, jn_16, jn_20, jn_24, jn_30, jn_31, jn_32, jn_36, jn_48, jn_57, jn_59, jn_60, jn_63, jn_72, jn_73, jn_96, jn_97, jn_100, jn_122, jn_144, jn_200, jn_240, jn_288, jn_512, jn_840, jn_1200, jn_1600, jn_5040, jn_5390, jn_5400, jn_9999, jn_18688, jn_32400, jn_99999, jn_100000, jn_1000000, jn_858993459, jn_1431655765, jn_252645135, jl_0, jl_1, jl_2, jl_3, jl_8, jl_9, jl_10, jl_20, jl_27, jl_47, jl_96, jl_99, jl_100, jl_200, jl_555, jl_2000, jl_10000, jl_12345, jl_65536, jl_99999, jl_131638, jl_240023, jl_298288, jl_383153, jl_1306021, jl_1960084, jl_4147840, jl_8740238, jl_9872299, jl_175252482, jl_291595537, jl_1103515245, jl_2000000000, jl_2147483648, jl_4721686497, jl_7873079139, J_add, J_sub, J_mul, J_neg, JL_add, JL_sub, JL_mul, JL_neg, J_long, JL_int, ↓remI_fold, ↓remL_fold, Int.reduceAdd, Int.reduceSub, Int.reduceMul, Int.reduceNeg, Int.reduceToNat, r1, r2, J_or, Option.bind_some, castS]
        exact ihs
  exact key 0 (by omega) (J 0) (fun _ => rfl) (by omega) n (by omega)
theorem M_least (hN : 1000000 ≤ N) {p b t n : Int} (hp : -2147483648 ≤ p ∧ p ≤ 2147483647) (hb : -2147483648 ≤ b ∧ b ≤ 2147483647) (ht : -2147483648 ≤ t ∧ t ≤ 2147483647) (hn : -2147483648 ≤ n ∧ n ≤ 2147483647) : ∃ S', fX5_least N (emM o S w) o (J p) (J b) (J t) (J n) = some (J (sp_least p b t n), emM o S' w) ∧ FrM S S' := by
  have hF : FrM S (mSI S 0 (J 0)) := FrM_I S 0 _ (by decide)
  unfold fX5_least sp_least
  simp only [jn_0, jn_1, jn_2, jn_3, jn_4, jn_5, jn_6, jn_8, jn_9, jn_10, jn_11, jn_12, jn_16, jn_20, jn_24, jn_30, jn_31, jn_32, jn_36, jn_48, jn_57, jn_59, jn_60, jn_63, jn_72, jn_73, jn_96, jn_97, jn_100, jn_122, jn_144, jn_200, jn_240, jn_288, jn_512, jn_840, jn_1200, jn_1600, jn_5040, jn_5390, jn_5400, jn_9999, jn_18688, jn_32400, jn_99999, jn_100000, jn_1000000, jn_858993459, jn_1431655765, jn_252645135, jl_0, jl_1, jl_2, jl_3, jl_8, jl_9, jl_10, jl_20, jl_27, jl_47, jl_96, jl_99, jl_100, jl_200, jl_555, jl_2000, jl_10000, jl_12345, jl_65536, jl_99999, jl_131638, jl_240023, jl_298288, jl_383153, jl_1306021, jl_1960084, jl_4147840, jl_8740238, jl_9872299, jl_175252482, jl_291595537, jl_1103515245, jl_2000000000, jl_2147483648, jl_4721686497, jl_7873079139, J_add, J_sub, J_mul, J_neg, JL_add, JL_sub, JL_mul, JL_neg, J_long, JL_int, ↓remI_fold, ↓remL_fold, Int.reduceAdd, Int.reduceSub, Int.reduceMul, Int.reduceNeg, Int.reduceToNat, Classical.not_not, em_t, Bp_eq0, Bp_eq1, Bp_01, Bp_mk, Bp_mk', Bp_0, Bp_0', Bp_1, Bp_1', if_true, if_false, ite_not, mp_0, M_areRows hp hb ht, Option.bind_some]
  by_cases h1 : (1 ≤ p ∧ p ≤ 8) ∧ (0 ≤ b ∧ b ≤ 9) ∧ 0 ≤ t ∧ t ≤ 9
  case neg => exact ⟨_, by rw [if_neg h1, if_neg h1], hF⟩
  rw [if_pos h1, if_pos h1, J_long hn, J_long (by omega), M_in (by omega), Option.bind_some]
  simp only [Classical.not_not, em_t, Bp_eq0, Bp_eq1, Bp_01, Bp_mk, Bp_mk', Bp_0, Bp_0', Bp_1, Bp_1', if_true, if_false, ite_not]
  by_cases h2 : 0 ≤ n ∧ n ≤ p - 1
  case neg => exact ⟨_, by rw [if_neg h2, if_neg h2], hF⟩
  rw [if_pos h2, if_pos h2]
  obtain ⟨q, hr⟩ : ∃ r : Nat, p = r := ⟨p.toNat, by omega⟩
  subst hr
  obtain ⟨c, hr⟩ : ∃ r : Nat, b = r := ⟨b.toNat, by omega⟩
  subst hr
  obtain ⟨u, hr⟩ : ∃ r : Nat, t = r := ⟨t.toNat, by omega⟩
  subst hr
  obtain ⟨m, hr⟩ : ∃ r : Nat, n = r := ⟨n.toNat, by omega⟩
  subst hr
  have hpb : q * c ≤ 72 := Nat.mul_le_mul (show q ≤ 8 by omega) (show c ≤ 9 by omega)
  have ⟨A, e, hA⟩ := M_laysRows (N := N) (o := o) (S := mSI S 0 (J 0)) (w := w) hN (p := q) (top := u) (b := c) (by omega) (by omega) (by omega)
  refine ⟨mSQ (mSI S 0 (J 0)) 24 (fun j => JL (A j)), ?_, FrM_t hF ⟨fun _ _ _ => rfl, rfl, rfl, rfl, rfl⟩⟩
  have hr := M_rd24 (N := N) (o := o) (S := mSI S 0 (J 0)) (w := w) (A := A) (s := 0) (l := q * c) (by omega) hpb
  rw [hA 0 (q * c) (by omega) (Nat.two_pow_pos q) (Int.le_refl _)] at hr
  rw [show popc 0 = 0 by decide +kernel, Nat.sub_zero] at hr
  rw [e, Option.bind_some, mg_40, Option.bind_some]
  simp only [Int.toNat_natCast]
  rw [show (q : Int) * (c : Int) = ((q * c : Nat) : Int) from (Int.natCast_mul q c).symm]
  have hz : ∀ {α β γ : Type} (x : Option α) (f : α → Option β) (g : β → Option γ), (x.bind fun a => (f a).bind g) = (x.bind f).bind g := by intro α β γ x f g; cases x <;> rfl
  rw [hz]
  refine Eq.trans (congrArg (fun x => Option.bind x _) hr) ?_
  have hcb := cg_bd q (fun _ => 0) (fun _ => u + 1) (fun _ => by omega) q 0 ((q * c : Nat) : Int)
  have h10 : (10 : Int) ^ q ≤ 100000000 := by
    have h1 : (10 : Nat) ^ q ≤ 10 ^ 8 := Nat.pow_le_pow_right (by decide) (by omega)
    have h2 : ((10 ^ q : Nat) : Int) ≤ ((10 ^ 8 : Nat) : Int) := by exact_mod_cast h1
    rw [Int.natCast_pow] at h2
    exact h2
  have hcb' : 0 ≤ cw q u q 0 ((q * c : Nat) : Int) ∧ cw q u q 0 ((q * c : Nat) : Int) ≤ 100000000 := ⟨hcb.1, Int.le_trans hcb.2 h10⟩
  have ec : (lg_cmp (JL (cw q u q 0 ((q * c : Nat) : Int))) (JL 0) = J 0) = (cw q u q 0 ((q * c : Nat) : Int) = 0) := cmp_eq0 (by omega)
  rw [Option.bind_some]
  simp only [ec]
  by_cases h3 : cw q u q 0 ((q * c : Nat) : Int) = 0
  · rw [if_pos h3, if_pos h3]
  · rw [if_neg h3, if_neg h3, M_ls71 hN (by omega) (by omega) (by omega) (by omega) hA h3 _ (by omega)]
end
