/-! slots: what they hold; the reference -/
set_option maxRecDepth 100000
abbrev Sl : Type := Nat → Option (Nat × Nat × (Nat → Int64))
def cutW (w : Nat) (v : Int64) : Int64 := if w = 0 then v.toInt32.toInt8.toInt32.toInt64 else if w = 1 then v.toInt32.toInt16.toInt32.toInt64 else if w = 2 then v.toInt32.toInt64 else v
def SlM (S : MS) (σ : Sl) : Prop := ∀ v, v < 4 → (σ v = none → ma S 1 v = J (-1)) ∧ ∀ w n g, σ v = some (w, n, g) → w ≤ 3 ∧ n ≤ 60 ∧ ma S 1 v = J (w : Int) ∧ ma S 2 v = J (n : Int) ∧ ∀ i, i < n → mb S 3 (60 * v + i) = g i
def slU (σ : Sl) (v : Nat) (x : Nat × Nat × (Nat → Int64)) : Sl := fun u => if u = v then some x else σ u
def sp_row (σ : Sl) (v w n : Int) : Int × Sl := if 0 ≤ v ∧ v ≤ 3 then if 0 ≤ w ∧ w ≤ 3 then if n ≤ 60 then if 0 ≤ n then (0, slU σ v.toNat (w.toNat, n.toNat, fun _ => 0)) else (-3, σ) else (-2, σ) else (-2, σ) else (-2, σ)
def sp_write (σ : Sl) (v i : Int) (x : Int64) : Int × Sl := if 0 ≤ v ∧ v ≤ 3 then (match σ v.toNat with
  | none => (-6, σ)
  | some (w, n, g) => if 0 ≤ i ∧ i < n then (0, slU σ v.toNat (w, n, vp_updL g i.toNat (cutW w x))) else (-7, σ)) else (-2, σ)
def sp_paste (σ : Sl) (v i u k n : Int) : Int × Sl := if 0 ≤ v ∧ v ≤ 3 then if 0 ≤ u ∧ u ≤ 3 then (match σ v.toNat with
  | none => (-6, σ)
  | some (w1, n1, g1) => (match σ u.toNat with
    | none => (-6, σ)
    | some (w2, n2, g2) => if w1 = w2 then if (0 ≤ i ∧ 0 ≤ k ∧ 0 ≤ n) ∧ i + n ≤ n1 ∧ k + n ≤ n2 then (0, slU σ u.toNat (w2, n2, va_cpy g1 g2 i.toNat k.toNat n.toNat)) else (-7, σ) else (-8, σ))) else (-2, σ) else (-2, σ)
def okc (R r : Nat) (z : Int64) : Bool := decide ((0 ≤ z.toInt ∧ z.toInt ≤ 99) ∧ z.toInt % 10 < R ∧ (z.toInt / 10 = 0 → z.toInt % 10 = r))
def rwG (σ : Sl) (v : Nat) : Nat → Int64 := match σ v with
  | none => fun _ => 0
  | some (_, _, g) => g
def sp_asks (C : Cy) (σ : Sl) (v r : Int) : Int := if 0 ≤ v ∧ v ≤ 3 then if 0 ≤ r ∧ r < cR C then (match σ v.toNat with
  | none => -6
  | some (_, n, g) => if 1 ≤ n ∧ n ≤ 8 then (match fi (fun i => !okc (cR C) r.toNat (g i)) n with
    | none => (n : Int)
    | some _ => -2) else -2) else -2 else -2
def tkC (C : Cy) (g : Nat → Int64) (r n : Nat) : Cy := cRow C r n (fun i => ((g i).toInt / 10).toNat) (fun i => ((g i).toInt % 10).toNat)
def sp_takes (C : Cy) (σ : Sl) (v r : Int) : Int × Cy := (sp_asks C σ v r, if 0 < sp_asks C σ v r then tkC C (rwG σ v.toNat) r.toNat (sp_asks C σ v r).toNat else C)
def sp_judge (C : Cy) (σ : Sl) (v r : Int) : Int := if 0 < sp_asks C σ v r then (if kp (tkC C (rwG σ v.toNat) r.toNat (sp_asks C σ v r).toNat) = true then 1 else 0) else sp_asks C σ v r
/-- what it says of a row that is taken -/
theorem asks_pos {C : Cy} {σ : Sl} {v r : Int} (h : 0 < sp_asks C σ v r) : (0 ≤ v ∧ v ≤ 3) ∧ (0 ≤ r ∧ r < cR C) ∧ ∃ w n, σ v.toNat = some (w, n, rwG σ v.toNat) ∧ (1 ≤ n ∧ n ≤ 8) ∧ sp_asks C σ v r = n ∧ ∀ i, i < n → okc (cR C) r.toNat (rwG σ v.toNat i) = true := by
  unfold sp_asks at h ⊢
  by_cases h1 : 0 ≤ v ∧ v ≤ 3
  case neg => rw [if_neg h1] at h; omega
  rw [if_pos h1] at h ⊢
  by_cases h2 : 0 ≤ r ∧ r < cR C
  case neg => rw [if_neg h2] at h; omega
  rw [if_pos h2] at h ⊢
  refine ⟨h1, h2, ?_⟩
  unfold rwG
  cases hs : σ v.toNat with
  | none => rw [hs] at h; simp only at h; omega
  | some x =>
    obtain ⟨w, n, g⟩ := x
    rw [hs] at h
    simp only at h ⊢
    by_cases h3 : 1 ≤ n ∧ n ≤ 8
    case neg => rw [if_neg h3] at h; omega
    rw [if_pos h3] at h ⊢
    cases hf : fi (fun i => !okc (cR C) r.toNat (g i)) n with
    | some i => rw [hf] at h; simp only at h; omega
    | none =>
      refine ⟨w, n, rfl, h3, rfl, fun i hi => ?_⟩
      have := (fi_none _ _).1 hf i hi
      cases ho : okc (cR C) r.toNat (g i) with
      | true => rfl
      | false => rw [ho] at this; exact absurd rfl this
theorem okc_t {R r : Nat} {z : Int64} (h : okc R r z = true) : (0 ≤ z.toInt ∧ z.toInt ≤ 99) ∧ z.toInt % 10 < R ∧ (z.toInt / 10 = 0 → z.toInt % 10 = r) := by
  unfold okc at h
  rwa [decide_eq_true_iff] at h
theorem tk_Ok {C : Cy} (ho : OkC C) {g : Nat → Int64} {r n : Nat} (hn : 1 ≤ n ∧ n ≤ 8) (hg : ∀ i, i < n → okc (cR C) r (g i) = true) : OkC (tkC C g r n) := cRow_Ok ho hn (fun i hi => by
  have := okc_t (hg i hi)
  omega)
def FrS (S S' : MS) : Prop := (∀ a, 3 ≤ a → a ≤ 16 → ma S' a = ma S a) ∧ mi S' 6 = mi S 6 ∧ mi S' 14 = mi S 14 ∧ mi S' 15 = mi S 15
theorem FrS_r (S : MS) : FrS S S := ⟨fun _ _ _ => rfl, rfl, rfl, rfl⟩
theorem FrS_t {S T U : MS} (h : FrS S T) (h' : FrS T U) : FrS S U := ⟨fun a h1 h2 => (h'.1 a h1 h2).trans (h.1 a h1 h2), h'.2.1.trans h.2.1, h'.2.2.1.trans h.2.2.1, h'.2.2.2.trans h.2.2.2⟩
theorem FrS_I0 (S : MS) : FrS S (mSI S 0 (J 0)) := ⟨fun _ _ _ => rfl, rfl, rfl, rfl⟩
theorem FrS_A (S : MS) (a i : Nat) (x : Int32) (h : a ≤ 2) : FrS S (mSA S a i x) := by
  refine ⟨fun b h1 h2 => ?_, rfl, rfl, rfl⟩
  rw [ma_A, if_neg (by omega)]
theorem FrS_Q (S : MS) (a : Nat) (f : Nat → Int64) : FrS S (mSQ S a f) := ⟨fun _ _ _ => rfl, rfl, rfl, rfl⟩
section
variable {N o : Nat} {S : MS} {w : Wd} {C : Cy} {σ : Sl}
theorem SlM_I0 (h : SlM S σ) : SlM (mSI S 0 (J 0)) σ := h
theorem M_row (hS : SlM S σ) (hN : 1000000 ≤ N) {v u n : Int} (hv : -2147483648 ≤ v ∧ v ≤ 2147483647) (hu : -2147483648 ≤ u ∧ u ≤ 2147483647) (hn : -2147483648 ≤ n ∧ n ≤ 2147483647) : ∃ S', fX5_row N (emM o S w) o (J v) (J u) (J n) = some (J (sp_row σ v u n).1, emM o S' w) ∧ FrS S S' ∧ SlM S' (sp_row σ v u n).2 := by
  have e1 : fX5_in N (emM o (mSI S 0 (J 0)) w) (JL u) (JL 0) (JL 3) = some (Bp (0 ≤ u ∧ u ≤ 3)) := M_in (by omega)
  unfold fX5_row sp_row
  simp only [jn_0, jn_1, jn_2, jn_3, jn_4, jn_5, jn_6, jn_8, jn_9, jn_10, jn_11, jn_12, jn_16, jn_20, jn_24, jn_30, jn_31, jn_32, jn_36, jn_48, jn_57, jn_59, jn_60, jn_63, jn_72, jn_73, jn_96, jn_97, jn_100, jn_122, jn_144, jn_200, jn_240, jn_288, jn_512, jn_840, jn_1200, jn_1600, jn_5040, jn_5390, jn_5400, jn_9999, jn_18688, jn_32400, jn_99999, jn_100000, jn_1000000, jn_858993459, jn_1431655765, jn_252645135, jl_0, jl_1, jl_2, jl_3, jl_8, jl_9, jl_10, jl_20, jl_27, jl_47, jl_96, jl_99, jl_100, jl_200, jl_555, jl_2000, jl_10000, jl_12345, jl_65536, jl_99999, jl_131638, jl_240023, jl_298288, jl_383153, jl_1306021, jl_1960084, jl_4147840, jl_8740238, jl_9872299, jl_175252482, jl_291595537, jl_1103515245, jl_2000000000, jl_2147483648, jl_4721686497, jl_7873079139, J_add, J_sub, J_mul, J_neg, JL_add, JL_sub, JL_mul, JL_neg, J_long, JL_int, ↓remI_fold, ↓remL_fold, Int.reduceAdd, Int.reduceSub, Int.reduceMul, Int.reduceNeg, Int.reduceToNat, Classical.not_not, em_t, Bp_eq0, Bp_eq1, Bp_01, Bp_mk, Bp_mk', Bp_0, Bp_0', Bp_1, Bp_1', if_true, if_false, ite_not, mp_0, M_isSlot hv, J_long hu, e1, Option.bind_some]
  by_cases h1 : 0 ≤ v ∧ v ≤ 3
  case neg => exact ⟨_, by rw [if_neg h1, if_neg h1]; first | done | rfl, FrS_I0 S, by rw [if_neg h1]; exact hS⟩
  simp only [if_pos h1]
  by_cases h2 : 0 ≤ u ∧ u ≤ 3
  case neg => exact ⟨_, by rw [if_neg h2, if_neg h2]; first | done | rfl, FrS_I0 S, by rw [if_neg h2]; exact hS⟩
  simp only [if_pos h2]
  by_cases h3 : n ≤ 60
  case neg => exact ⟨_, by rw [if_neg (by rw [J_le (by omega)]; exact h3), if_neg h3]; first | done | rfl, FrS_I0 S, by rw [if_neg h3]; exact hS⟩
  rw [if_pos (by rw [J_le (by omega)]; exact h3)]
  simp only [if_pos h3]
  by_cases h4 : 0 ≤ n
  case neg => exact ⟨_, by rw [if_neg (by rw [J_le (by omega)]; exact h4), if_neg h4]; first | done | rfl, FrS_I0 S, by rw [if_neg h4]; exact hS⟩
  rw [if_pos (by rw [J_le (by omega)]; exact h4)]
  simp only [if_pos h4]
  obtain ⟨a, ha⟩ : ∃ a : Nat, v = a := ⟨v.toNat, by omega⟩
  subst ha
  obtain ⟨m, hm⟩ : ∃ a : Nat, n = a := ⟨n.toNat, by omega⟩
  subst hm
  obtain ⟨b, hb⟩ : ∃ a : Nat, u = a := ⟨u.toNat, by omega⟩
  subst hb
  simp only [mg_1, mg_2, mw_1 o _ w _ (show 0 ≤ (a : Int) ∧ (a : Int) < 4 by omega), mw_2 o _ w _ (show 0 ≤ (a : Int) ∧ (a : Int) < 4 by omega), Int.toNat_natCast, Option.bind_some]
  have hT : ∀ j f, mb (mSQ (mSA (mSA (mSI S 0 (J 0)) 1 a (J (b : Int))) 2 a (J (m : Int))) 3 f) j = if j = 3 then f else mb S j := fun j f => rfl
  have key := lp_cnt (fun n i => fX5_row_57 N o (J (a : Int)) (J (m : Int)) (fun w11 => some (J 0, w11)) n (J (i : Int)) (emM o (mSQ (mSA (mSA (mSI S 0 (J 0)) 1 a (J (b : Int))) 2 a (J (m : Int))) 3 (fun p => if 60 * a ≤ p ∧ p < 60 * a + i then 0 else mb S 3 p)) w)) (some (J 0, emM o (mSQ (mSA (mSA (mSI S 0 (J 0)) 1 a (J (b : Int))) 2 a (J (m : Int))) 3 (fun p => if 60 * a ≤ p ∧ p < 60 * a + m then 0 else mb S 3 p)) w)) m ?_ ?_ N (by omega)
  · have e0 : mSQ (mSA (mSA (mSI S 0 (J 0)) 1 a (J (b : Int))) 2 a (J (m : Int))) 3 (fun p => if 60 * a ≤ p ∧ p < 60 * a + 0 then 0 else mb S 3 p) = mSA (mSA (mSI S 0 (J 0)) 1 a (J (b : Int))) 2 a (J (m : Int)) := by
      have : (fun p => if 60 * a ≤ p ∧ p < 60 * a + 0 then 0 else mb S 3 p) = mb (mSA (mSA (mSI S 0 (J 0)) 1 a (J (b : Int))) 2 a (J (m : Int))) 3 := by
        funext p
        rw [if_neg (by omega)]; rfl
      rw [this, mSQ_id]
    rw [e0] at key
    refine ⟨_, key, FrS_t (FrS_I0 S) (FrS_t (FrS_A _ 1 _ _ (by omega)) (FrS_t (FrS_A _ 2 _ _ (by omega)) (FrS_Q _ 3 _))), ?_⟩
    intro c hc
    have t1 : ma (mSQ (mSA (mSA (mSI S 0 (J 0)) 1 a (J (b : Int))) 2 a (J (m : Int))) 3 (fun p => if 60 * a ≤ p ∧ p < 60 * a + m then 0 else mb S 3 p)) 1 = upd (ma S 1) a (J (b : Int)) := rfl
    have t2 : ma (mSQ (mSA (mSA (mSI S 0 (J 0)) 1 a (J (b : Int))) 2 a (J (m : Int))) 3 (fun p => if 60 * a ≤ p ∧ p < 60 * a + m then 0 else mb S 3 p)) 2 = upd (ma S 2) a (J (m : Int)) := rfl
    rw [t1, t2, hT, if_pos rfl]
    unfold slU
    by_cases hca : c = a
    · rw [if_pos hca, hca, upd_s, upd_s]
      refine ⟨fun h => (by cases h), fun w' n' g' h => ?_⟩
      injection h with h
      injection h with e1 h
      injection h with e2 e3
      subst e1 e2 e3
      refine ⟨by omega, by omega, rfl, rfl, fun i hi => ?_⟩
      rw [if_pos (by omega)]; rfl
    · rw [if_neg hca, upd_o _ _ hca, upd_o _ _ hca]
      have ⟨i1, i2⟩ := hS c hc
      refine ⟨i1, fun w' n' g' h => ?_⟩
      obtain ⟨j1, j2, j3, j4, j5⟩ := i2 w' n' g' h
      refine ⟨j1, j2, j3, j4, fun i hi => ?_⟩
      rw [if_neg (by omega)]
      exact j5 i hi
  · intro n i hi
    have hz : 0 ≤ 60 * (a : Int) + (i : Int) ∧ 60 * (a : Int) + (i : Int) < 240 := by omega
    have hidx : (60 * (a : Int) + (i : Int)).toNat = 60 * a + i := by omega
    have ef : vp_updL (fun p => if 60 * a ≤ p ∧ p < 60 * a + i then 0 else mb S 3 p) (60 * a + i) 0 = fun p => if 60 * a ≤ p ∧ p < 60 * a + (i + 1) then 0 else mb S 3 p := by
      funext p
      unfold vp_updL
      by_cases h : p = 60 * a + i
      · rw [if_pos h, if_pos (by omega)]
      · rw [if_neg h]
        simp only
        by_cases h' : 60 * a ≤ p ∧ p < 60 * a + i
        · rw [if_pos h', if_pos (by omega)]
        · rw [if_neg h', if_neg (by omega)]
    show fX5_row_57 _ _ _ _ _ _ _ _ = _
    rw [fX5_row_57, if_neg (by rw [J_le (by omega)]; omega), mg_3, Option.bind_some]
    rw [show (60 : Int32) * J (a : Int) + J (i : Int) = J (60 * (a : Int) + (i : Int)) by rw [jn_60, J_mul, J_add], mw_3 o _ w _ hz, Option.bind_some, hidx, mSB_Q, ef, Option.bind_some, jn_1, J_add, castS]
  · intro n
    show fX5_row_57 _ _ _ _ _ _ _ _ = _
    rw [fX5_row_57, if_pos (by rw [J_le (by omega)]; omega)]
theorem M_cut (x : Int64) {u : Nat} (hu : u ≤ 3) : fX5_cut N w x (J (u : Int)) = some (cutW u x) := by
  unfold fX5_cut cutW
  have : u = 0 ∨ u = 1 ∨ u = 2 ∨ u = 3 := by omega
  rcases this with h | h | h | h <;> subst h <;> rfl
theorem M_write (hS : SlM S σ) (hN : 1000000 ≤ N) {v i : Int} (hv : -2147483648 ≤ v ∧ v ≤ 2147483647) (hi : -2147483648 ≤ i ∧ i ≤ 2147483647) (x : Int64) : ∃ S', fX5_write N (emM o S w) o (J v) (J i) x = some (J (sp_write σ v i x).1, emM o S' w) ∧ FrS S S' ∧ SlM S' (sp_write σ v i x).2 := by
  unfold fX5_write sp_write
  simp only [jn_0, jn_1, jn_2, jn_3, jn_4, jn_5, jn_6, jn_8, jn_9, jn_10, jn_11, jn_12, jn_16, jn_20, jn_24, jn_30, jn_31, jn_32, jn_36, jn_48, jn_57, jn_59, jn_60, jn_63, jn_72, jn_73, jn_96, jn_97, jn_100, jn_122, jn_144, jn_200, jn_240, jn_288, jn_512, jn_840, jn_1200, jn_1600, jn_5040, jn_5390, jn_5400, jn_9999, jn_18688, jn_32400, jn_99999, jn_100000, jn_1000000, jn_858993459, jn_1431655765, jn_252645135, jl_0, jl_1, jl_2, jl_3, jl_8, jl_9, jl_10, jl_20, jl_27, jl_47, jl_96, jl_99, jl_100, jl_200, jl_555, jl_2000, jl_10000, jl_12345, jl_65536, jl_99999, jl_131638, jl_240023, jl_298288, jl_383153, jl_1306021, jl_1960084, jl_4147840, jl_8740238, jl_9872299, jl_175252482, jl_291595537, jl_1103515245, jl_2000000000, jl_2147483648, jl_4721686497, jl_7873079139, J_add, J_sub, J_mul, J_neg, JL_add, JL_sub, JL_mul, JL_neg, J_long, JL_int, ↓remI_fold, ↓remL_fold, Int.reduceAdd, Int.reduceSub, Int.reduceMul, Int.reduceNeg, Int.reduceToNat, Classical.not_not, em_t, Bp_eq0, Bp_eq1, Bp_01, Bp_mk, Bp_mk', Bp_0, Bp_0', Bp_1, Bp_1', if_true, if_false, ite_not, mp_0, M_isSlot hv, Option.bind_some]
  by_cases h1 : 0 ≤ v ∧ v ≤ 3
  case neg => exact ⟨_, by rw [if_neg h1, if_neg h1]; first | done | rfl, FrS_I0 S, by rw [if_neg h1]; exact hS⟩
  simp only [if_pos h1]
  obtain ⟨a, ha⟩ : ∃ a : Nat, v = a := ⟨v.toNat, by omega⟩
  subst ha
  have hz : 0 ≤ (a : Int) ∧ (a : Int) < 4 := by omega
  have ⟨i1, i2⟩ := hS a (by omega)
  simp only [mg_1, mg_2, mg_3, mr_1 o _ w hz, mr_2 o _ w hz, Int.toNat_natCast, Option.bind_some]
  rw [show ma (mSI S 0 (J 0)) 1 = ma S 1 from rfl, show ma (mSI S 0 (J 0)) 2 = ma S 2 from rfl]
  cases hs : σ a with
  | none =>
    simp only
    exact ⟨_, by rw [i1 hs, if_pos rfl]; first | done | rfl, FrS_I0 S, hS⟩
  | some y =>
    obtain ⟨u, n, g⟩ := y
    obtain ⟨j1, j2, j3, j4, j5⟩ := i2 u n g hs
    simp only
    rw [j3, if_neg (by rw [J_eq (by omega)]; omega), j4, J_sub, J_long hi, J_long (by omega)]
    have e1 : fX5_in N (emM o (mSI S 0 (J 0)) w) (JL i) (JL 0) (JL ((n : Int) - 1)) = some (Bp (0 ≤ i ∧ i ≤ (n : Int) - 1)) := M_in (by omega)
    rw [e1, Option.bind_some, M_cut x j1, Option.bind_some]
    simp only [Classical.not_not, em_t, Bp_eq0, Bp_eq1, Bp_01, Bp_mk, Bp_mk', Bp_0, Bp_0', Bp_1, Bp_1', if_true, if_false, ite_not]
    by_cases h2 : 0 ≤ i ∧ i < n
    case neg => exact ⟨_, by rw [if_neg (by omega), if_neg h2]; first | done | rfl, FrS_I0 S, by rw [if_neg h2]; exact hS⟩
    obtain ⟨b, hb⟩ : ∃ a : Nat, i = a := ⟨i.toNat, by omega⟩
    subst hb
    rw [if_pos (by omega)]
    simp only [if_pos h2]
    rw [mw_3 o _ w _ (by omega), Option.bind_some]
    refine ⟨_, rfl, FrS_t (FrS_I0 S) ⟨fun _ _ _ => rfl, rfl, rfl, rfl⟩, ?_⟩
    intro c hc
    have t1 : ma (mSB (mSI S 0 (J 0)) 3 (60 * (a : Int) + (b : Int)).toNat (cutW u x)) 1 = ma S 1 := rfl
    have t2 : ma (mSB (mSI S 0 (J 0)) 3 (60 * (a : Int) + (b : Int)).toNat (cutW u x)) 2 = ma S 2 := rfl
    have t3 : mb (mSB (mSI S 0 (J 0)) 3 (60 * (a : Int) + (b : Int)).toNat (cutW u x)) 3 = vp_updL (mb S 3) (60 * (a : Int) + (b : Int)).toNat (cutW u x) := rfl
    rw [t1, t2, t3]
    unfold slU vp_updL
    by_cases hca : c = a
    · rw [if_pos hca, hca]
      refine ⟨fun h => (by cases h), fun w' n' g' h => ?_⟩
      injection h with h
      injection h with e1 h
      injection h with e2 e3
      subst e1 e2 e3
      refine ⟨j1, j2, j3, j4, fun q hq => ?_⟩
      show _ = (if q = (b : Int).toNat then cutW u x else g q)
      by_cases hqb : q = b
      · rw [if_pos (by omega), if_pos (by omega)]
      · rw [if_neg (by omega), if_neg (by omega)]; exact j5 q hq
    · rw [if_neg hca]
      have ⟨k1, k2⟩ := hS c hc
      refine ⟨k1, fun w' n' g' h => ?_⟩
      obtain ⟨l1, l2, l3, l4, l5⟩ := k2 w' n' g' h
      refine ⟨l1, l2, l3, l4, fun q hq => ?_⟩
      rw [if_neg (by omega)]
      exact l5 q hq
theorem M_pa118 (hN : 1000000 ≤ N) {a i n : Nat} (ha : a < 4) (hn : i + n ≤ 60) (x y : Int32) (k : Wd → Option (Int32 × Wd)) : fX5_paste_118 N o (J (a : Int)) (J (i : Int)) x y (J (n : Int)) k N (J 0) (emM o S w) = k (emM o (mSQ S 4 (fun j => if j < n then mb S 3 (60 * a + i + j) else mb S 4 j)) w) := by
  have key := lp_cnt (fun m j => fX5_paste_118 N o (J (a : Int)) (J (i : Int)) x y (J (n : Int)) k m (J (j : Int)) (emM o (mSQ S 4 (fun p => if p < j then mb S 3 (60 * a + i + p) else mb S 4 p)) w)) (k (emM o (mSQ S 4 (fun j => if j < n then mb S 3 (60 * a + i + j) else mb S 4 j)) w)) n ?_ ?_ N (by omega)
  · have e0 : (fun p => if p < 0 then mb S 3 (60 * a + i + p) else mb S 4 p) = mb S 4 := by funext p; rw [if_neg (by omega)]
    rw [e0, mSQ_id] at key
    exact key
  · intro m j hj
    have hz : 0 ≤ 60 * (a : Int) + (i : Int) + (j : Int) ∧ 60 * (a : Int) + (i : Int) + (j : Int) < 240 := by omega
    have hidx : (60 * (a : Int) + (i : Int) + (j : Int)).toNat = 60 * a + i + j := by omega
    have ef : vp_updL (fun p => if p < j then mb S 3 (60 * a + i + p) else mb S 4 p) j (mb S 3 (60 * a + i + j)) = fun p => if p < j + 1 then mb S 3 (60 * a + i + p) else mb S 4 p := by
      funext p
      unfold vp_updL
      by_cases h : p = j
      · rw [if_pos h, if_pos (by omega), h]
      · rw [if_neg h]
        simp only
        by_cases h' : p < j
        · rw [if_pos h', if_pos (by omega)]
        · rw [if_neg h', if_neg (by omega)]
    show fX5_paste_118 _ _ _ _ _ _ _ _ _ _ _ = _
    rw [fX5_paste_118, if_neg (by rw [J_le (by omega)]; omega), mg_4, Option.bind_some, mg_3, Option.bind_some]
    rw [show (60 : Int32) * J (a : Int) + J (i : Int) + J (j : Int) = J (60 * (a : Int) + (i : Int) + (j : Int)) by rw [jn_60, J_mul, J_add, J_add], mr_3 o _ w hz, Option.bind_some, hidx]
    rw [show mb (mSQ S 4 (fun p => if p < j then mb S 3 (60 * a + i + p) else mb S 4 p)) 3 = mb S 3 from rfl, mw_4 o _ w _ (by omega), Option.bind_some, Int.toNat_natCast, mSB_Q, ef, Option.bind_some, jn_1, J_add, castS]
  · intro m
    show fX5_paste_118 _ _ _ _ _ _ _ _ _ _ _ = _
    rw [fX5_paste_118, if_pos (by rw [J_le (by omega)]; omega)]
theorem M_pa155 (hN : 1000000 ≤ N) {a i n : Nat} (ha : a < 4) (hn : i + n ≤ 60) (k : Wd → Option (Int32 × Wd)) : fX5_paste_155 N o (J (a : Int)) (J (i : Int)) (J (n : Int)) k N (J 0) (emM o S w) = k (emM o (mSQ S 3 (fun p => if 60 * a + i ≤ p ∧ p < 60 * a + i + n then mb S 4 (p - (60 * a + i)) else mb S 3 p)) w) := by
  have key := lp_cnt (fun m j => fX5_paste_155 N o (J (a : Int)) (J (i : Int)) (J (n : Int)) k m (J (j : Int)) (emM o (mSQ S 3 (fun p => if 60 * a + i ≤ p ∧ p < 60 * a + i + j then mb S 4 (p - (60 * a + i)) else mb S 3 p)) w)) (k (emM o (mSQ S 3 (fun p => if 60 * a + i ≤ p ∧ p < 60 * a + i + n then mb S 4 (p - (60 * a + i)) else mb S 3 p)) w)) n ?_ ?_ N (by omega)
  · have e0 : (fun p => if 60 * a + i ≤ p ∧ p < 60 * a + i + 0 then mb S 4 (p - (60 * a + i)) else mb S 3 p) = mb S 3 := by funext p; rw [if_neg (by omega)]
    rw [e0, mSQ_id] at key
    exact key
  · intro m j hj
    have hz : 0 ≤ 60 * (a : Int) + (i : Int) + (j : Int) ∧ 60 * (a : Int) + (i : Int) + (j : Int) < 240 := by omega
    have hidx : (60 * (a : Int) + (i : Int) + (j : Int)).toNat = 60 * a + i + j := by omega
    have ef : vp_updL (fun p => if 60 * a + i ≤ p ∧ p < 60 * a + i + j then mb S 4 (p - (60 * a + i)) else mb S 3 p) (60 * a + i + j) (mb S 4 j) = fun p => if 60 * a + i ≤ p ∧ p < 60 * a + i + (j + 1) then mb S 4 (p - (60 * a + i)) else mb S 3 p := by
      funext p
      unfold vp_updL
      by_cases h : p = 60 * a + i + j
      · rw [if_pos h, if_pos (by omega), h, Nat.add_sub_cancel_left]
      · rw [if_neg h]
        simp only
        by_cases h' : 60 * a + i ≤ p ∧ p < 60 * a + i + j
        · rw [if_pos h', if_pos (by omega)]
        · rw [if_neg h', if_neg (by omega)]
    show fX5_paste_155 _ _ _ _ _ _ _ _ _ = _
    rw [fX5_paste_155, if_neg (by rw [J_le (by omega)]; omega), mg_3, Option.bind_some, mg_4, Option.bind_some, mr_4 o _ w (by omega), Option.bind_some, Int.toNat_natCast]
    rw [show mb (mSQ S 3 (fun p => if 60 * a + i ≤ p ∧ p < 60 * a + i + j then mb S 4 (p - (60 * a + i)) else mb S 3 p)) 4 = mb S 4 from rfl, show (60 : Int32) * J (a : Int) + J (i : Int) + J (j : Int) = J (60 * (a : Int) + (i : Int) + (j : Int)) by rw [jn_60, J_mul, J_add, J_add], mw_3 o _ w _ hz, Option.bind_some, hidx, mSB_Q, ef, Option.bind_some, jn_1, J_add, castS]
  · intro m
    show fX5_paste_155 _ _ _ _ _ _ _ _ _ = _
    rw [fX5_paste_155, if_pos (by rw [J_le (by omega)]; omega)]
theorem M_paste (hS : SlM S σ) (hN : 1000000 ≤ N) {v i u k n : Int} (hv : -2147483648 ≤ v ∧ v ≤ 2147483647) (hi : -2147483648 ≤ i ∧ i ≤ 2147483647) (hu : -2147483648 ≤ u ∧ u ≤ 2147483647) (hk : -2147483648 ≤ k ∧ k ≤ 2147483647) (hn : -2147483648 ≤ n ∧ n ≤ 2147483647) : ∃ S', fX5_paste N (emM o S w) o (J v) (J i) (J u) (J k) (J n) = some (J (sp_paste σ v i u k n).1, emM o S' w) ∧ FrS S S' ∧ SlM S' (sp_paste σ v i u k n).2 := by
  unfold fX5_paste sp_paste
  simp only [jn_0, jn_1, jn_2, jn_3, jn_4, jn_5, jn_6, jn_8, jn_9, jn_10, jn_11, jn_12, jn_16, jn_20, jn_24, jn_30, jn_31, jn_32, jn_36, jn_48, jn_57, jn_59, jn_60, jn_63, jn_72, jn_73, jn_96, jn_97, jn_100, jn_122, jn_144, jn_200, jn_240, jn_288, jn_512, jn_840, jn_1200, jn_1600, jn_5040, jn_5390, jn_5400, jn_9999, jn_18688, jn_32400, jn_99999, jn_100000, jn_1000000, jn_858993459, jn_1431655765, jn_252645135, jl_0, jl_1, jl_2, jl_3, jl_8, jl_9, jl_10, jl_20, jl_27, jl_47, jl_96, jl_99, jl_100, jl_200, jl_555, jl_2000, jl_10000, jl_12345, jl_65536, jl_99999, jl_131638, jl_240023, jl_298288, jl_383153, jl_1306021, jl_1960084, jl_4147840, jl_8740238, jl_9872299, jl_175252482, jl_291595537, jl_1103515245, jl_2000000000, jl_2147483648, jl_4721686497, jl_7873079139, J_add, J_sub, J_mul, J_neg, JL_add, JL_sub, JL_mul, JL_neg, J_long, JL_int, ↓remI_fold, ↓remL_fold, Int.reduceAdd, Int.reduceSub, Int.reduceMul, Int.reduceNeg, Int.reduceToNat, Classical.not_not, em_t, Bp_eq0, Bp_eq1, Bp_01, Bp_mk, Bp_mk', Bp_0, Bp_0', Bp_1, Bp_1', if_true, if_false, ite_not, mp_0, M_isSlot hv, M_isSlot hu, Option.bind_some]
  by_cases h1 : 0 ≤ v ∧ v ≤ 3
  case neg => exact ⟨_, by rw [if_neg h1, if_neg h1]; first | done | rfl, FrS_I0 S, by rw [if_neg h1]; exact hS⟩
  simp only [if_pos h1]
  by_cases h2 : 0 ≤ u ∧ u ≤ 3
  case neg => exact ⟨_, by rw [if_neg h2, if_neg h2]; first | done | rfl, FrS_I0 S, by rw [if_neg h2]; exact hS⟩
  simp only [if_pos h2]
  obtain ⟨a, ha⟩ : ∃ a : Nat, v = a := ⟨v.toNat, by omega⟩
  subst ha
  obtain ⟨b, hb⟩ : ∃ a : Nat, u = a := ⟨u.toNat, by omega⟩
  subst hb
  have hz : 0 ≤ (a : Int) ∧ (a : Int) < 4 := by omega
  have hz2 : 0 ≤ (b : Int) ∧ (b : Int) < 4 := by omega
  have ⟨i1, i2⟩ := hS a (by omega)
  have ⟨k1, k2⟩ := hS b (by omega)
  simp only [mg_1, mg_2, mr_1 o _ w hz, mr_2 o _ w hz, mr_1 o _ w hz2, mr_2 o _ w hz2, Int.toNat_natCast, Option.bind_some]
  rw [show ma (mSI S 0 (J 0)) 1 = ma S 1 from rfl, show ma (mSI S 0 (J 0)) 2 = ma S 2 from rfl]
  cases hs : σ a with
  | none =>
    simp only
    exact ⟨_, by rw [i1 hs, if_pos rfl]; first | done | rfl, FrS_I0 S, hS⟩
  | some y =>
    obtain ⟨u1, n1, g1⟩ := y
    obtain ⟨j1, j2, j3, j4, j5⟩ := i2 u1 n1 g1 hs
    simp only
    rw [j3, if_neg (by rw [J_eq (by omega)]; omega)]
    cases hs2 : σ b with
    | none =>
      simp only
      exact ⟨_, by rw [k1 hs2, if_pos rfl]; first | done | rfl, FrS_I0 S, hS⟩
    | some y =>
      obtain ⟨u2, n2, g2⟩ := y
      obtain ⟨l1, l2, l3, l4, l5⟩ := k2 u2 n2 g2 hs2
      simp only
      rw [l3, if_neg (by rw [J_eq (by omega)]; omega)]
      by_cases h3 : u1 = u2
      case neg => exact ⟨_, by rw [if_neg (by rw [J_eq (by omega)]; omega), if_neg h3]; first | done | rfl, FrS_I0 S, by rw [if_neg h3]; exact hS⟩
      rw [if_pos (by rw [h3])]
      simp only [if_pos h3]
      have lg1 : ∀ (z : Nat), (lg_cmp ((J i).toInt64 + (J n).toInt64) (J (z : Int)).toInt64 = lg_cmp (JL (i + n)) (JL (z : Int)) ∨ ¬ z ≤ 60) := fun z => by
        by_cases hz : z ≤ 60
        · left; rw [J_long hi, J_long hn, J_long (by omega), JL_add]
        · right; exact hz
      have lg2 : ∀ (z : Nat), (lg_cmp ((J k).toInt64 + (J n).toInt64) (J (z : Int)).toInt64 = lg_cmp (JL (k + n)) (JL (z : Int)) ∨ ¬ z ≤ 60) := fun z => by
        by_cases hz : z ≤ 60
        · left; rw [J_long hk, J_long hn, J_long (by omega), JL_add]
        · right; exact hz
      rw [j4, l4, (lg1 n1).resolve_right (by omega), (lg2 n2).resolve_right (by omega)]
      by_cases h4 : i < 0
      · exact ⟨_, by rw [if_pos (by rw [J_lt (by omega)]; exact h4), if_neg (by omega)]; first | done | rfl, FrS_I0 S, by rw [if_neg (by omega)]; exact hS⟩
      rw [if_neg (by rw [J_lt (by omega)]; exact h4)]
      by_cases h5 : k < 0
      · exact ⟨_, by rw [if_pos (by rw [J_lt (by omega)]; exact h5), if_neg (by omega)]; first | done | rfl, FrS_I0 S, by rw [if_neg (by omega)]; exact hS⟩
      rw [if_neg (by rw [J_lt (by omega)]; exact h5)]
      by_cases h6 : n < 0
      · exact ⟨_, by rw [if_pos (by rw [J_lt (by omega)]; exact h6), if_neg (by omega)]; first | done | rfl, FrS_I0 S, by rw [if_neg (by omega)]; exact hS⟩
      rw [if_neg (by rw [J_lt (by omega)]; exact h6)]
      by_cases h7 : i + n ≤ n1
      case neg => exact ⟨_, by rw [if_pos (by rw [cmp_gt0 (by omega)]; omega), if_neg (by omega)]; first | done | rfl, FrS_I0 S, by rw [if_neg (by omega)]; exact hS⟩
      rw [if_neg (by rw [cmp_gt0 (by omega)]; omega)]
      have hcm : (lg_cmp (JL (k + n)) (JL (n2 : Int)) ≤ J 0) = (k + n ≤ (n2 : Int)) := cmp_le0 (by omega)
      simp only [hcm]
      by_cases h8 : k + n ≤ n2
      case neg => exact ⟨_, by rw [if_neg h8, if_neg (by omega)]; first | done | rfl, FrS_I0 S, by rw [if_neg (by omega)]; exact hS⟩
      simp only [if_pos h8]
      have hc : (0 ≤ i ∧ 0 ≤ k ∧ 0 ≤ n) ∧ i + n ≤ n1 ∧ k + n ≤ n2 := by omega
      simp only [if_pos hc]
      obtain ⟨c, hc⟩ : ∃ a : Nat, i = a := ⟨i.toNat, by omega⟩
      subst hc
      obtain ⟨d, hd⟩ : ∃ a : Nat, k = a := ⟨k.toNat, by omega⟩
      subst hd
      obtain ⟨e, he⟩ : ∃ a : Nat, n = a := ⟨n.toNat, by omega⟩
      subst he
      rw [M_pa118 hN (by omega) (by omega), M_pa155 hN (by omega) (by omega)]
      refine ⟨_, rfl, FrS_t (FrS_I0 S) (FrS_t (FrS_Q _ 4 _) (FrS_Q _ 3 _)), ?_⟩
      intro q hq
      have t1 : ∀ f g, ma (mSQ (mSQ (mSI S 0 (J 0)) 4 f) 3 g) 1 = ma S 1 := fun f g => rfl
      have t2 : ∀ f g, ma (mSQ (mSQ (mSI S 0 (J 0)) 4 f) 3 g) 2 = ma S 2 := fun f g => rfl
      have t3 : ∀ f g, mb (mSQ (mSQ (mSI S 0 (J 0)) 4 f) 3 g) 3 = g := fun f g => rfl
      have t4 : ∀ f, mb (mSQ (mSI S 0 (J 0)) 4 f) 4 = f := fun f => rfl
      have t5 : ∀ f, mb (mSQ (mSI S 0 (J 0)) 4 f) 3 = mb S 3 := fun f => rfl
      have t6 : mb (mSI S 0 (J 0)) 3 = mb S 3 := rfl
      rw [t1, t2, t3, t4, t5, t6]
      unfold slU va_cpy
      simp only [Int.toNat_natCast]
      by_cases hqb : q = b
      · rw [if_pos hqb, hqb]
        refine ⟨fun h => (by cases h), fun w' n' g' h => ?_⟩
        injection h with h
        injection h with e1 h
        injection h with e2 e3
        subst e1 e2 e3
        refine ⟨l1, l2, l3, l4, fun p hp => ?_⟩
        simp only
        by_cases hp2 : d ≤ p ∧ p < d + e
        · rw [if_pos (by omega), if_pos (by omega), if_pos hp2, show 60 * a + c + (60 * b + p - (60 * b + d)) = 60 * a + (c + (p - d)) by omega]
          exact j5 _ (by omega)
        · rw [if_neg (by omega), if_neg hp2]
          exact l5 p hp
      · rw [if_neg hqb]
        have ⟨m1, m2⟩ := hS q hq
        refine ⟨m1, fun w' n' g' h => ?_⟩
        obtain ⟨o1, o2, o3, o4, o5⟩ := m2 w' n' g' h
        refine ⟨o1, o2, o3, o4, fun p hp => ?_⟩
        rw [if_neg (by omega)]
        exact o5 p hp
end
