/-! the component: row, paste, takes, judge -/
set_option maxRecDepth 100000
theorem fits_b {x : Int32} (h : nar 2 x = x) : fits .byte (.int x) = true := by
  rw [nar_2] at h
  have e : x.toInt = x.toInt8.toInt := by
    conv => lhs; rw [← h]
    exact Int8.toInt_toInt32 _
  have h1 := Int8.le_toInt x.toInt8
  have h2 := Int8.toInt_lt x.toInt8
  show (decide (-128 ≤ x) && decide (x ≤ 127)) = true
  rw [Bool.and_eq_true, decide_eq_true_iff, decide_eq_true_iff, Int32.le_iff_toInt_le, Int32.le_iff_toInt_le, show (-128 : Int32).toInt = -128 from rfl, show (127 : Int32).toInt = 127 from rfl]
  omega
theorem fits_s {x : Int32} (h : nar 4 x = x) : fits .short (.int x) = true := by
  rw [nar_4] at h
  have e : x.toInt = x.toInt16.toInt := by
    conv => lhs; rw [← h]
    exact Int16.toInt_toInt32 _
  have h1 := Int16.le_toInt x.toInt16
  have h2 := Int16.toInt_lt x.toInt16
  show (decide (-32768 ≤ x) && decide (x ≤ 32767)) = true
  rw [Bool.and_eq_true, decide_eq_true_iff, decide_eq_true_iff, Int32.le_iff_toInt_le, Int32.le_iff_toInt_le, show (-32768 : Int32).toInt = -32768 from rfl, show (32767 : Int32).toInt = 32767 from rfl]
  omega
section
variable {N o c : Nat} {S : XS} {w : Wd} {C : Cy} {th ra : Nat → Nat} {σ : Sl}
theorem X_row (h : SlX4 w o ra σ) (hN : 1000000 ≤ N) {nx : Nat} (h1 : ¬ own o nx ∧ ¬ (o + 22 ≤ nx ∧ nx ≤ o + 26)) (h2 : ∀ v, v < 4 → σ v ≠ none → ra v ≠ nx) {v u n : Int} (hv : -2147483648 ≤ v ∧ v ≤ 2147483647) (hu : -2147483648 ≤ u ∧ u ≤ 2147483647) (hn : -2147483648 ≤ n ∧ n ≤ 2147483647) : ∃ w' nx' ra', fX0_row N (emX o S w) nx o (J v) (J u) (J n) = some (J (sp_row σ v u n).1, emX o S w', nx') ∧ SlX4 w' o ra' (sp_row σ v u n).2 ∧ (∀ q, q < nx → ¬ (o + 23 ≤ q ∧ q ≤ o + 26) → w' q = w q) ∧ nx ≤ nx' ∧ ∀ v, ra' v = ra v ∨ (ra' v = nx ∧ nx < nx') := by
  have e1 : fX0_isIn N (emX o S w) (JL u) (JL 0) (JL 3) = some (Bp (0 ≤ u ∧ u ≤ 3)) := X_in (by omega)
  unfold fX0_row sp_row
  simp only [jn_0, jn_1, jn_2, jn_3, jn_4, jn_5, jn_6, jn_8, jn_9, jn_10, jn_11, jn_12, jn_16, jn_20, jn_24, jn_30, jn_31, jn_32, jn_36, jn_48, jn_57, jn_59, jn_60, jn_63, jn_72, jn_73, jn_96, jn_97, jn_100, jn_122, jn_144, jn_200, jn_240, jn_288, jn_512, jn_840, jn_1200, jn_1600, jn_5040, jn_5390, jn_5400, jn_9999, jn_18688, jn_32400, jn_99999, jn_100000, jn_1000000, jn_858993459, jn_1431655765, jn_252645135, jl_0, jl_1, jl_2, jl_3, jl_8, jl_9, jl_10, jl_20, jl_27, jl_47, jl_96, jl_99, jl_100, jl_200, jl_555, jl_2000, jl_10000, jl_12345, jl_65536, jl_99999, jl_131638, jl_240023, jl_298288, jl_383153, jl_1306021, jl_1960084, jl_4147840, jl_8740238, jl_9872299, jl_175252482, jl_291595537, jl_1103515245, jl_2000000000, jl_2147483648, jl_4721686497, jl_7873079139, J_add, J_sub, J_mul, J_neg, JL_add, JL_sub, JL_mul, JL_neg, J_long, JL_int, ↓remI_fold, ↓remL_fold, Int.reduceAdd, Int.reduceSub, Int.reduceMul, Int.reduceNeg, Int.reduceToNat, Classical.not_not, em_t, Bp_eq0, Bp_eq1, Bp_01, Bp_mk, Bp_mk', Bp_0, Bp_0', Bp_1, Bp_1', if_true, if_false, ite_not, X_isSlot hv, J_long hu, e1, Option.bind_some]
  by_cases h3 : 0 ≤ v ∧ v ≤ 3
  case neg => exact ⟨w, nx, ra, by rw [if_neg h3, if_neg h3]; first | done | rfl, by rw [if_neg h3]; exact h, fun _ _ _ => rfl, Nat.le_refl _, fun _ => Or.inl rfl⟩
  simp only [if_pos h3]
  by_cases h4 : 0 ≤ u ∧ u ≤ 3
  case neg => exact ⟨w, nx, ra, by rw [if_neg h4, if_neg h4]; first | done | rfl, by rw [if_neg h4]; exact h, fun _ _ _ => rfl, Nat.le_refl _, fun _ => Or.inl rfl⟩
  simp only [if_pos h4]
  by_cases h5 : n ≤ 60
  case neg => exact ⟨w, nx, ra, by rw [if_neg (by rw [J_le (by omega)]; exact h5), if_neg h5]; first | done | rfl, by rw [if_neg h5]; exact h, fun _ _ _ => rfl, Nat.le_refl _, fun _ => Or.inl rfl⟩
  rw [if_pos (by rw [J_le (by omega)]; exact h5)]
  simp only [if_pos h5]
  obtain ⟨a, ha⟩ : ∃ a : Nat, v = a := ⟨v.toNat, by omega⟩
  subst ha
  have ha4 : a < 4 := by omega
  simp only [Int.toNat_natCast, xg_22, sx_at h ha4, sx_k h ha4, Option.bind_some]
  by_cases h6 : 0 ≤ n
  case neg => exact ⟨w, nx, ra, by rw [if_pos (by rw [J_lt (by omega)]; omega), if_neg h6]; first | done | rfl, by rw [if_neg h6]; exact h, fun _ _ _ => rfl, Nat.le_refl _, fun _ => Or.inl rfl⟩
  rw [if_neg (by rw [J_lt (by omega)]; omega)]
  simp only [if_pos h6]
  obtain ⟨m, hm⟩ : ∃ a : Nat, n = a := ⟨n.toNat, by omega⟩
  subst hm
  obtain ⟨b, hb⟩ : ∃ a : Nat, u = a := ⟨u.toNat, by omega⟩
  subst hb
  have hn : ¬ own o (o + 23 + a) := by unfold own; omega
  have hold : ∃ row, w (o + 23 + a) = some (.inr (4, [row])) := by
    have ⟨k1, k2⟩ := h.2.1 a ha4
    cases hs : σ a with
    | none => exact ⟨_, k1 hs⟩
    | some y => obtain ⟨u', n', g'⟩ := y; exact ⟨_, (k2 u' n' g' hs).1⟩
  obtain ⟨row, hrow⟩ := hold
  have hnw : ∀ t, nwA t 60 (emX o S w) nx (J (m : Int)) = some (emX o S (wup w nx (zA t m))) := fun t => by
    unfold nwA
    rw [if_neg (by rw [jn_0, J_lt (by omega), J_nn (by omega)]; omega), J_nn (by omega), Int.toNat_natCast, emX_wup h1.1]
  have hpf : ∀ e, pF (emX o S (wup w nx e)) [4] (o + 23 + a) 0 (.ref nx) = some (emX o S (wup (wup w nx e) (o + 23 + a) (.inr (4, [.ref nx])))) := fun e => by
    have hc : emX o S (wup w nx e) (o + 23 + a) = some (.inr (4, [row])) := by rw [emX_out o S _ _ hn, wup_o _ _ (by omega)]; exact hrow
    rw [pF_of (.ref nx) hc (by decide) (show 0 < 1 from Nat.one_pos), emX_wup hn]; rfl
  have hmk : fX4_make N (emX o S w) nx (o + 23 + a) (J (b : Int)) (J (m : Int)) = some (emX o S (wup (wup w nx (zA (tyW b) m)) (o + 23 + a) (.inr (4, [.ref nx]))), nx + 1) := by
    unfold fX4_make
    have hb3 : b = 0 ∨ b = 1 ∨ b = 2 ∨ b = 3 := by omega
    rcases hb3 with hb3 | hb3 | hb3 | hb3 <;> subst hb3
    · rw [if_pos (by rfl), hnw 2, Option.bind_some, hpf, Option.bind_some]; rfl
    · rw [if_neg (by decide), if_pos (by rfl), hnw 4, Option.bind_some, hpf, Option.bind_some]; rfl
    · rw [if_neg (by decide), if_neg (by decide), if_pos (by rfl), hnw 0, Option.bind_some, hpf, Option.bind_some]; rfl
    · rw [if_neg (by decide), if_neg (by decide), if_neg (by decide), hnw 1, Option.bind_some, hpf, Option.bind_some]; rfl
  rw [hmk, Option.bind_some]
  refine ⟨_, nx + 1, fun x => if x = a then nx else ra x, rfl, ?_, fun q hq hq2 => by rw [wup_o _ _ (by omega), wup_o _ _ (by omega)], by omega, fun v => by
    by_cases hva : v = a
    · right; exact ⟨if_pos hva, by omega⟩
    · left; exact if_neg hva⟩
  have hu : ∀ x, x < 4 → x ≠ a → slU σ a (b, m, fun _ => 0) x ≠ none → σ x ≠ none := fun x hx hxa hn => by
    unfold slU at hn
    rwa [if_neg hxa] at hn
  simp only [Int.toNat_natCast]
  obtain ⟨⟨f, e1, e2⟩, k2, k3, k4⟩ := h
  refine ⟨⟨f, by rw [wup_o _ _ (by omega), wup_o _ _ (by omega)]; exact e1, e2⟩, fun x hx => ?_, fun x y hx hy hnx hny hxy => ?_, fun x hx hnx => ?_⟩
  · unfold slU
    by_cases hxa : x = a
    · simp only [if_pos hxa]
      refine ⟨fun hh => (by cases hh), fun u' n' g' hh => ?_⟩
      injection hh with hh
      injection hh with q1 hh
      injection hh with q2 q3
      subst q1 q2 q3
      refine ⟨by rw [hxa]; exact wup_s _ _ _, by omega, by omega, _, by rw [wup_o _ _ (by omega)]; exact wup_s _ _ _, ?_⟩
      have hb3 : b = 0 ∨ b = 1 ∨ b = 2 ∨ b = 3 := by omega
      rcases hb3 with hb3 | hb3 | hb3 | hb3 <;> subst hb3
      · exact Or.inr ⟨by decide, _, rfl, fun i _ => ⟨rfl, rfl⟩⟩
      · exact Or.inr ⟨by decide, _, rfl, fun i _ => ⟨rfl, rfl⟩⟩
      · exact Or.inr ⟨by decide, _, rfl, fun i _ => ⟨rfl, rfl⟩⟩
      · exact Or.inl ⟨rfl, _, rfl, fun i _ => rfl⟩
    · simp only [if_neg hxa]
      have ⟨b1, b2⟩ := k2 x hx
      refine ⟨fun hh => by rw [wup_o _ _ (by omega), wup_o _ _ (by omega)]; exact b1 hh, fun u' n' g' hh => ?_⟩
      obtain ⟨a1, a2, a3, e', a4, a5⟩ := b2 u' n' g' hh
      have hsx : σ x ≠ none := by rw [hh]; exact Option.some_ne_none _
      have hne := h2 x hx hsx
      have hne2 := k4 x hx hsx
      exact ⟨by rw [wup_o _ _ (by omega), wup_o _ _ (by omega)]; exact a1, a2, a3, e', by rw [wup_o _ _ (by omega), wup_o _ _ hne]; exact a4, a5⟩
  · simp only
    by_cases hxa : x = a
    · rw [if_pos hxa, if_neg (fun h => hxy (hxa.trans h.symm))]
      exact (h2 y hy (hu y hy (fun h => hxy (hxa.trans h.symm)) hny)).symm
    · rw [if_neg hxa]
      by_cases hya : y = a
      · rw [if_pos hya]; exact h2 x hx (hu x hx hxa hnx)
      · rw [if_neg hya]; exact k3 x y hx hy (hu x hx hxa hnx) (hu y hy hya hny) hxy
  · simp only
    by_cases hxa : x = a
    · rw [if_pos hxa]; exact h1
    · rw [if_neg hxa]; exact k4 x hx (hu x hx hxa hnx)
theorem cpI_b {V : Wd} {t a0 a n0 n1 : Nat} {f g : Nat → Int32} (h0 : V a0 = some (.inl (t, n0, .inl f))) (h1 : V a = some (.inl (t, n1, .inl g))) {i k z : Nat} (hi : i + z ≤ n0) (hk : k + z ≤ n1) (hn : n0 ≤ 60 ∧ n1 ≤ 60) (ht : t = 0 ∨ t = 2 ∨ t = 4) (hf : ∀ j, j < n0 → nar t (f j) = f j) : cpI t V a0 (J (i : Int)) a (J (k : Int)) (J (z : Int)) = some (wup V a (.inl (t, n1, .inl (va_cpy f g i k z)))) := by
  unfold cpI
  rw [h0, h1]
  simp only
  have ei : (J (i : Int)).toNatClampNeg = i := J_nn (by omega)
  have ek : (J (k : Int)).toNatClampNeg = k := J_nn (by omega)
  have ez : (J (z : Int)).toNatClampNeg = z := J_nn (by omega)
  have li : ¬ J (i : Int) < 0 := by rw [jn_0, J_lt (by omega)]; omega
  have lk : ¬ J (k : Int) < 0 := by rw [jn_0, J_lt (by omega)]; omega
  have lz : ¬ J (z : Int) < 0 := by rw [jn_0, J_lt (by omega)]; omega
  rw [ei, ek, ez, if_pos]
  refine ⟨⟨trivial, trivial, li, lk, lz, hi, hk⟩, ?_⟩
  rcases ht with ht | ht | ht
  · exact Or.inl ht
  · right
    intro j hj
    subst ht
    exact fits_b (hf (i + j) (by omega))
  · right
    intro j hj
    subst ht
    exact fits_s (hf (i + j) (by omega))
theorem cpL_b {V : Wd} {a0 a n0 n1 : Nat} {f g : Nat → Int64} (h0 : V a0 = some (.inl (1, n0, .inr (.inl f)))) (h1 : V a = some (.inl (1, n1, .inr (.inl g)))) {i k z : Nat} (hi : i + z ≤ n0) (hk : k + z ≤ n1) (hn : n0 ≤ 60 ∧ n1 ≤ 60) : cpL V a0 (J (i : Int)) a (J (k : Int)) (J (z : Int)) = some (wup V a (.inl (1, n1, .inr (.inl (va_cpy f g i k z))))) := by
  unfold cpL
  rw [h0, h1]
  simp only
  have ei : (J (i : Int)).toNatClampNeg = i := J_nn (by omega)
  have ek : (J (k : Int)).toNatClampNeg = k := J_nn (by omega)
  have ez : (J (z : Int)).toNatClampNeg = z := J_nn (by omega)
  have li : ¬ J (i : Int) < 0 := by rw [jn_0, J_lt (by omega)]; omega
  have lk : ¬ J (k : Int) < 0 := by rw [jn_0, J_lt (by omega)]; omega
  have lz : ¬ J (z : Int) < 0 := by rw [jn_0, J_lt (by omega)]; omega
  rw [ei, ek, ez, if_pos ⟨trivial, trivial, li, lk, lz, hi, hk⟩]
theorem RwX_shp {t n : Nat} {g : Nat → Int64} {e : En} (h : RwX t n g e) : shp (some e) = some (t, n) := by
  rcases h with ⟨ht, F, he, _⟩ | ⟨ht, F, he, _⟩
  · rw [he, ht]; rfl
  · rw [he]
    unfold shp
    simp only
    rw [if_pos ht]
theorem X_paste (h : SlX4 w o ra σ) (hN : 1000000 ≤ N) {v i u k n : Int} (hv : -2147483648 ≤ v ∧ v ≤ 2147483647) (hi : -2147483648 ≤ i ∧ i ≤ 2147483647) (hu : -2147483648 ≤ u ∧ u ≤ 2147483647) (hk : -2147483648 ≤ k ∧ k ≤ 2147483647) (hn : -2147483648 ≤ n ∧ n ≤ 2147483647) : ∃ w', fX0_paste N (emX o S w) o (J v) (J i) (J u) (J k) (J n) = some (J (sp_paste σ v i u k n).1, emX o S w') ∧ SlX4 w' o ra (sp_paste σ v i u k n).2 ∧ FrR ra w w' := by
  unfold fX0_paste sp_paste
  simp only [jn_0, jn_1, jn_2, jn_3, jn_4, jn_5, jn_6, jn_8, jn_9, jn_10, jn_11, jn_12, jn_16, jn_20, jn_24, jn_30, jn_31, jn_32, jn_36, jn_48, jn_57, jn_59, jn_60, jn_63, jn_72, jn_73, jn_96, jn_97, jn_100, jn_122, jn_144, jn_200, jn_240, jn_288, jn_512, jn_840, jn_1200, jn_1600, jn_5040, jn_5390, jn_5400, jn_9999, jn_18688, jn_32400, jn_99999, jn_100000, jn_1000000, jn_858993459, jn_1431655765, jn_252645135, jl_0, jl_1, jl_2, jl_3, jl_8, jl_9, jl_10, jl_20, jl_27, jl_47, jl_96, jl_99, jl_100, jl_200, jl_555, jl_2000, jl_10000, jl_12345, jl_65536, jl_99999, jl_131638, jl_240023, jl_298288, jl_383153, jl_1306021, jl_1960084, jl_4147840, jl_8740238, jl_9872299, jl_175252482, jl_291595537, jl_1103515245, jl_2000000000, jl_2147483648, jl_4721686497, jl_7873079139, J_add, J_sub, J_mul, J_neg, JL_add, JL_sub, JL_mul, JL_neg, J_long, JL_int, ↓remI_fold, ↓remL_fold, Int.reduceAdd, Int.reduceSub, Int.reduceMul, Int.reduceNeg, Int.reduceToNat, Classical.not_not, em_t, Bp_eq0, Bp_eq1, Bp_01, Bp_mk, Bp_mk', Bp_0, Bp_0', Bp_1, Bp_1', if_true, if_false, ite_not, X_isSlot hv, X_isSlot hu, Option.bind_some]
  by_cases h1 : 0 ≤ v ∧ v ≤ 3
  case neg => exact ⟨w, by rw [if_neg h1, if_neg h1]; first | done | rfl, by rw [if_neg h1]; exact h, fun _ _ => rfl⟩
  simp only [if_pos h1]
  by_cases h2 : 0 ≤ u ∧ u ≤ 3
  case neg => exact ⟨w, by rw [if_neg h2, if_neg h2]; first | done | rfl, by rw [if_neg h2]; exact h, fun _ _ => rfl⟩
  simp only [if_pos h2]
  obtain ⟨a, ha⟩ : ∃ a : Nat, v = a := ⟨v.toNat, by omega⟩
  subst ha
  obtain ⟨b, hb⟩ : ∃ a : Nat, u = a := ⟨u.toNat, by omega⟩
  subst hb
  have ha4 : a < 4 := by omega
  have hb4 : b < 4 := by omega
  simp only [Int.toNat_natCast, xg_22, sx_at h ha4, sx_at h hb4, Option.bind_some]
  cases hs : σ a with
  | none =>
    have hb2 : ∃ y, gN (emX o S w) [4] (o + 23 + b) 0 = some y := by
      cases hs2 : σ b with
      | none => exact ⟨_, sx_n h hb4 hs2⟩
      | some y => obtain ⟨u', n', g'⟩ := y; exact ⟨_, (sx_s h hb4 hs2).1⟩
    obtain ⟨y, hy⟩ := hb2
    simp only [sx_n h ha4 hs, hy, Option.bind_some]
    exact ⟨w, rfl, h, fun _ _ => rfl⟩
  | some y =>
    obtain ⟨u1, n1, g1⟩ := y
    obtain ⟨p1, p2, p3, e, p4, p4', p5⟩ := sx_s (S := S) h ha4 hs
    cases hs2 : σ b with
    | none =>
      simp only [p1, sx_n h hb4 hs2, Option.bind_some]
      exact ⟨w, rfl, h, fun _ _ => rfl⟩
    | some y =>
      obtain ⟨u2, n2, g2⟩ := y
      obtain ⟨q1, q2, q3, e', q4, q4', q5⟩ := sx_s (S := S) h hb4 hs2
      have hr := (h.2.2.2 b hb4 (by rw [hs2]; exact Option.some_ne_none _)).1
      simp only [p1, q1, Option.bind_some]
      unfold fcp
      simp only [p4, q4, RwX_shp p5, RwX_shp q5, Option.bind_some]
      by_cases h3 : u1 = u2
      case neg => exact ⟨w, by rw [if_neg (fun hh => h3 ((tyW_inj p2 q2).1 hh)), if_neg h3]; first | done | rfl, by rw [if_neg h3]; exact h, fun _ _ => rfl⟩
      rw [if_pos (by rw [h3])]
      simp only [if_pos h3]
      subst h3
      by_cases hc : (0 ≤ i ∧ 0 ≤ k ∧ 0 ≤ n) ∧ i + n ≤ n1 ∧ k + n ≤ n2
      case neg =>
        have hbad : J i < 0 ∨ J k < 0 ∨ J n < 0 ∨ n1 < (J i).toNatClampNeg + (J n).toNatClampNeg ∨ n2 < (J k).toNatClampNeg + (J n).toNatClampNeg := by
          by_cases c1 : i < 0
          · left; rw [jn_0, J_lt (by omega)]; exact c1
          by_cases c2 : k < 0
          · right; left; rw [jn_0, J_lt (by omega)]; exact c2
          by_cases c3 : n < 0
          · right; right; left; rw [jn_0, J_lt (by omega)]; exact c3
          right; right; right
          rw [J_nn (by omega), J_nn (by omega), J_nn (by omega)]
          omega
        exact ⟨w, by rw [if_pos hbad, if_pos ⟨by omega, by omega⟩, if_neg hc]; first | done | rfl, by rw [if_neg hc]; exact h, fun _ _ => rfl⟩
      simp only [if_pos hc]
      obtain ⟨x, hx⟩ : ∃ a : Nat, i = a := ⟨i.toNat, by omega⟩
      subst hx
      obtain ⟨y, hy⟩ : ∃ a : Nat, k = a := ⟨k.toNat, by omega⟩
      subst hy
      obtain ⟨z, hz⟩ : ∃ a : Nat, n = a := ⟨n.toNat, by omega⟩
      subst hz
      have hgood : ¬ (J (x : Int) < 0 ∨ J (y : Int) < 0 ∨ J (z : Int) < 0 ∨ n1 < (J (x : Int)).toNatClampNeg + (J (z : Int)).toNatClampNeg ∨ n2 < (J (y : Int)).toNatClampNeg + (J (z : Int)).toNatClampNeg) := by
        rw [jn_0, J_lt (by omega), J_lt (by omega), J_lt (by omega), J_nn (by omega), J_nn (by omega), J_nn (by omega)]
        omega
      rw [if_neg hgood]
      simp only [Int.toNat_natCast]
      rcases p5 with ⟨pt, F, pe, pF⟩ | ⟨pt, F, pe, pF⟩
      · rcases q5 with ⟨qt, G, qe, qF⟩ | ⟨qt, _⟩
        · rw [pe] at p4
          rw [qe] at q4
          rw [pt, if_neg (by decide), if_neg (by decide), if_neg (by decide), cpL_b p4 q4 (by omega) (by omega) ⟨p3, q3⟩, Option.bind_some, emX_wup hr]
          refine ⟨_, rfl, SlX4_up h hb4 hs2 (Or.inl ⟨pt, _, rfl, fun j hj => ?_⟩), fun q hq => wup_o _ _ (hq b hb4)⟩
          unfold va_cpy
          by_cases hj2 : y ≤ j ∧ j < y + z
          · rw [if_pos hj2, if_pos hj2]; exact pF _ (by omega)
          · rw [if_neg hj2, if_neg hj2]; exact qF j hj
        · omega
      · rcases q5 with ⟨qt, _⟩ | ⟨qt, G, qe, qF⟩
        · omega
        · rw [pe] at p4
          rw [qe] at q4
          have hcp := cpI_b p4 q4 (i := x) (k := y) (z := z) (by omega) (by omega) ⟨p3, q3⟩ pt (fun j hj => (pF j hj).2)
          have hres : ∀ j, j < n2 → (va_cpy F G x y z j).toInt64 = va_cpy g1 g2 x y z j ∧ nar (tyW u1) (va_cpy F G x y z j) = va_cpy F G x y z j := fun j hj => by
            unfold va_cpy
            by_cases hj2 : y ≤ j ∧ j < y + z
            · rw [if_pos hj2, if_pos hj2]; exact pF _ (by omega)
            · rw [if_neg hj2, if_neg hj2]; exact qF j hj
          refine ⟨wup w (ra b) (.inl (tyW u1, n2, .inl (va_cpy F G x y z))), ?_, SlX4_up h hb4 hs2 (Or.inr ⟨pt, _, rfl, hres⟩), fun q hq => wup_o _ _ (hq b hb4)⟩
          rcases pt with pt | pt | pt <;> rw [pt] at hcp ⊢
          · rw [if_pos rfl, hcp, Option.bind_some, emX_wup hr]; rfl
          · rw [if_neg (by decide), if_pos rfl, hcp, Option.bind_some, emX_wup hr]; rfl
          · rw [if_neg (by decide), if_neg (by decide), if_pos rfl, hcp, Option.bind_some, emX_wup hr]; rfl
end
