/-! what the printed functions' own steps do on a world -/
set_option maxRecDepth 100000
theorem jn_0 : (0 : Int32) = J 0 := rfl
theorem jn_1 : (1 : Int32) = J 1 := rfl
theorem jn_2 : (2 : Int32) = J 2 := rfl
theorem jn_3 : (3 : Int32) = J 3 := rfl
theorem jn_4 : (4 : Int32) = J 4 := rfl
theorem jn_5 : (5 : Int32) = J 5 := rfl
theorem jn_6 : (6 : Int32) = J 6 := rfl
theorem jn_8 : (8 : Int32) = J 8 := rfl
theorem jn_9 : (9 : Int32) = J 9 := rfl
theorem jn_10 : (10 : Int32) = J 10 := rfl
theorem jn_11 : (11 : Int32) = J 11 := rfl
theorem jn_12 : (12 : Int32) = J 12 := rfl
theorem jn_16 : (16 : Int32) = J 16 := rfl
theorem jn_20 : (20 : Int32) = J 20 := rfl
theorem jn_24 : (24 : Int32) = J 24 := rfl
theorem jn_30 : (30 : Int32) = J 30 := rfl
theorem jn_31 : (31 : Int32) = J 31 := rfl
theorem jn_32 : (32 : Int32) = J 32 := rfl
theorem jn_36 : (36 : Int32) = J 36 := rfl
theorem jn_48 : (48 : Int32) = J 48 := rfl
theorem jn_57 : (57 : Int32) = J 57 := rfl
theorem jn_59 : (59 : Int32) = J 59 := rfl
theorem jn_60 : (60 : Int32) = J 60 := rfl
theorem jn_63 : (63 : Int32) = J 63 := rfl
theorem jn_72 : (72 : Int32) = J 72 := rfl
theorem jn_73 : (73 : Int32) = J 73 := rfl
theorem jn_96 : (96 : Int32) = J 96 := rfl
theorem jn_97 : (97 : Int32) = J 97 := rfl
theorem jn_100 : (100 : Int32) = J 100 := rfl
theorem jn_122 : (122 : Int32) = J 122 := rfl
theorem jn_144 : (144 : Int32) = J 144 := rfl
theorem jn_200 : (200 : Int32) = J 200 := rfl
theorem jn_240 : (240 : Int32) = J 240 := rfl
theorem jn_288 : (288 : Int32) = J 288 := rfl
theorem jn_512 : (512 : Int32) = J 512 := rfl
theorem jn_840 : (840 : Int32) = J 840 := rfl
theorem jn_1200 : (1200 : Int32) = J 1200 := rfl
theorem jn_1600 : (1600 : Int32) = J 1600 := rfl
theorem jn_5040 : (5040 : Int32) = J 5040 := rfl
theorem jn_5390 : (5390 : Int32) = J 5390 := rfl
theorem jn_5400 : (5400 : Int32) = J 5400 := rfl
theorem jn_9999 : (9999 : Int32) = J 9999 := rfl
theorem jn_18688 : (18688 : Int32) = J 18688 := rfl
theorem jn_32400 : (32400 : Int32) = J 32400 := rfl
theorem jn_99999 : (99999 : Int32) = J 99999 := rfl
theorem jn_100000 : (100000 : Int32) = J 100000 := rfl
theorem jn_1000000 : (1000000 : Int32) = J 1000000 := rfl
theorem jn_858993459 : (858993459 : Int32) = J 858993459 := rfl
theorem jn_1431655765 : (1431655765 : Int32) = J 1431655765 := rfl
theorem jn_252645135 : (252645135 : Int32) = J 252645135 := rfl
theorem jl_0 : (0 : Int64) = JL 0 := rfl
theorem jl_1 : (1 : Int64) = JL 1 := rfl
theorem jl_2 : (2 : Int64) = JL 2 := rfl
theorem jl_3 : (3 : Int64) = JL 3 := rfl
theorem jl_8 : (8 : Int64) = JL 8 := rfl
theorem jl_9 : (9 : Int64) = JL 9 := rfl
theorem jl_10 : (10 : Int64) = JL 10 := rfl
theorem jl_20 : (20 : Int64) = JL 20 := rfl
theorem jl_27 : (27 : Int64) = JL 27 := rfl
theorem jl_47 : (47 : Int64) = JL 47 := rfl
theorem jl_96 : (96 : Int64) = JL 96 := rfl
theorem jl_99 : (99 : Int64) = JL 99 := rfl
theorem jl_100 : (100 : Int64) = JL 100 := rfl
theorem jl_200 : (200 : Int64) = JL 200 := rfl
theorem jl_555 : (555 : Int64) = JL 555 := rfl
theorem jl_2000 : (2000 : Int64) = JL 2000 := rfl
theorem jl_10000 : (10000 : Int64) = JL 10000 := rfl
theorem jl_12345 : (12345 : Int64) = JL 12345 := rfl
theorem jl_65536 : (65536 : Int64) = JL 65536 := rfl
theorem jl_99999 : (99999 : Int64) = JL 99999 := rfl
theorem jl_131638 : (131638 : Int64) = JL 131638 := rfl
theorem jl_240023 : (240023 : Int64) = JL 240023 := rfl
theorem jl_298288 : (298288 : Int64) = JL 298288 := rfl
theorem jl_383153 : (383153 : Int64) = JL 383153 := rfl
theorem jl_1306021 : (1306021 : Int64) = JL 1306021 := rfl
theorem jl_1960084 : (1960084 : Int64) = JL 1960084 := rfl
theorem jl_4147840 : (4147840 : Int64) = JL 4147840 := rfl
theorem jl_8740238 : (8740238 : Int64) = JL 8740238 := rfl
theorem jl_9872299 : (9872299 : Int64) = JL 9872299 := rfl
theorem jl_175252482 : (175252482 : Int64) = JL 175252482 := rfl
theorem jl_291595537 : (291595537 : Int64) = JL 291595537 := rfl
theorem jl_1103515245 : (1103515245 : Int64) = JL 1103515245 := rfl
theorem jl_2000000000 : (2000000000 : Int64) = JL 2000000000 := rfl
theorem jl_2147483648 : (2147483648 : Int64) = JL 2147483648 := rfl
theorem jl_4721686497 : (4721686497 : Int64) = JL 4721686497 := rfl
theorem jl_7873079139 : (7873079139 : Int64) = JL 7873079139 := rfl
theorem gI_of {w : Wd} {a c : Nat} {fs : List Value} {cs : List Nat} {k : Nat} {x : Int32} (h : w a = some (.inr (c, fs))) (hc : c ∈ cs) (hk : fs[k]? = some (.int x)) : gI w cs a k = some x := by
  unfold gI fld; rw [h]; simp only [if_pos hc, hk]
theorem gL_of {w : Wd} {a c : Nat} {fs : List Value} {cs : List Nat} {k : Nat} {x : Int64} (h : w a = some (.inr (c, fs))) (hc : c ∈ cs) (hk : fs[k]? = some (.long x)) : gL w cs a k = some x := by
  unfold gL fld; rw [h]; simp only [if_pos hc, hk]
theorem gR_of {w : Wd} {a c : Nat} {fs : List Value} {cs : List Nat} {k : Nat} {x : Nat} (h : w a = some (.inr (c, fs))) (hc : c ∈ cs) (hk : fs[k]? = some (.ref x)) : gR w cs a k = some x := by
  unfold gR fld; rw [h]; simp only [if_pos hc, hk]
theorem gN_of {w : Wd} {a c : Nat} {fs : List Value} {cs : List Nat} {k : Nat} {x : Nat} (h : w a = some (.inr (c, fs))) (hc : c ∈ cs) (hk : fs[k]? = some (.ref x)) : gN w cs a k = some (some x) := by
  unfold gN fld; rw [h]; simp only [if_pos hc, hk]
theorem gN_of0 {w : Wd} {a c : Nat} {fs : List Value} {cs : List Nat} {k : Nat} (h : w a = some (.inr (c, fs))) (hc : c ∈ cs) (hk : fs[k]? = some .null) : gN w cs a k = some none := by
  unfold gN fld; rw [h]; simp only [if_pos hc, hk]
theorem pF_of {w : Wd} {a c : Nat} {fs : List Value} {cs : List Nat} {k : Nat} (v : Value) (h : w a = some (.inr (c, fs))) (hc : c ∈ cs) (hk : k < fs.length) : pF w cs a k v = some (wup w a (.inr (c, fs.set k v))) := by
  unfold pF; rw [h]; simp only [if_pos (And.intro hc hk)]
theorem ckC_of {w : Wd} {a c : Nat} {fs : List Value} {cs : List Nat} (h : w a = some (.inr (c, fs))) (hc : c ∈ cs) : ckC w cs a = some c := by
  unfold ckC; rw [h]; simp only [if_pos hc]
theorem ix_ok {z : Int} {m : Nat} (hz : 0 ≤ z ∧ z < m) (hm : m ≤ 2147483647) : ¬ (J z < 0 ∨ m ≤ (J z).toNatClampNeg) := by
  rw [jn_0, J_lt (by omega), J_nn (by omega)]; omega
theorem aI_of {t : Nat} {w : Wd} {a m : Nat} {f : Nat → Int32} (h : w a = some (.inl (t, m, .inl f))) {z : Int} (hz : 0 ≤ z ∧ z < m) (hm : m ≤ 2147483647) : aI t w a (J z) = some (f z.toNat) := by
  unfold aI; rw [h]; simp only [true_and]; rw [if_pos (ix_ok hz hm), J_nn (show 0 ≤ z ∧ z ≤ 2147483647 by omega)]
theorem aL_of {w : Wd} {a m : Nat} {f : Nat → Int64} (h : w a = some (.inl (1, m, .inr (.inl f)))) {z : Int} (hz : 0 ≤ z ∧ z < m) (hm : m ≤ 2147483647) : aL w a (J z) = some (f z.toNat) := by
  unfold aL; rw [h]; simp only [true_and]; rw [if_pos (ix_ok hz hm), J_nn (show 0 ≤ z ∧ z ≤ 2147483647 by omega)]
theorem aN_of {t : Nat} {w : Wd} {a m : Nat} {f : Nat → Option Nat} (h : w a = some (.inl (t, m, .inr (.inr (.inr (.inr f)))))) {z : Int} (hz : 0 ≤ z ∧ z < m) (hm : m ≤ 2147483647) : aN t w a (J z) = some (f z.toNat) := by
  unfold aN; rw [h]; simp only [true_and]; rw [if_pos (ix_ok hz hm), J_nn (show 0 ≤ z ∧ z ≤ 2147483647 by omega)]
theorem aR_of {t : Nat} {w : Wd} {a m : Nat} {f : Nat → Option Nat} (h : w a = some (.inl (t, m, .inr (.inr (.inr (.inr f)))))) {z : Int} (hz : 0 ≤ z ∧ z < m) (hm : m ≤ 2147483647) {x : Nat} (hx : f z.toNat = some x) : aR t w a (J z) = some x := by
  unfold aR; rw [aN_of h hz hm, hx]
theorem aLen_of {t : Nat} {w : Wd} {a m : Nat} {y} (h : w a = some (.inl (t, m, y))) (ht : t < 8) : aLen w a = some (J m) := by
  unfold aLen; rw [h]; simp only [if_pos ht]
  rw [← Int32.ofInt_eq_ofNat]; rfl
theorem sI_of {t : Nat} {w : Wd} {a m : Nat} {f : Nat → Int32} (x : Int32) (h : w a = some (.inl (t, m, .inl f))) {z : Int} (hz : 0 ≤ z ∧ z < m) (hm : m ≤ 2147483647) : sI t w a (J z) x = some (wup w a (.inl (t, m, .inl (upd f z.toNat (nar t x))))) := by
  unfold sI; rw [h]; simp only [true_and]; rw [if_pos (ix_ok hz hm), J_nn (show 0 ≤ z ∧ z ≤ 2147483647 by omega)]
theorem sL_of {w : Wd} {a m : Nat} {f : Nat → Int64} (x : Int64) (h : w a = some (.inl (1, m, .inr (.inl f)))) {z : Int} (hz : 0 ≤ z ∧ z < m) (hm : m ≤ 2147483647) : sL w a (J z) x = some (wup w a (.inl (1, m, .inr (.inl (vp_updL f z.toNat x))))) := by
  unfold sL; rw [h]; simp only [true_and]; rw [if_pos (ix_ok hz hm), J_nn (show 0 ≤ z ∧ z ≤ 2147483647 by omega)]
theorem nar_0 (x : Int32) : nar 0 x = x := rfl
theorem nar_30 : nar 3 (J 0) = J 0 := by decide
theorem nar_31 : nar 3 (J 1) = J 1 := by decide
theorem nar_3B (P : Prop) [Decidable P] : nar 3 (Bp P) = Bp P := by by_cases h : P <;> simp [Bp, h, nar_30, nar_31]
theorem wup_s (w : Wd) (a : Nat) (e : En) : wup w a e a = some e := by unfold wup; rw [if_pos rfl]
theorem wup_o (w : Wd) {a q : Nat} (e : En) (h : q ≠ a) : wup w a e q = w q := by unfold wup; rw [if_neg h]
theorem wup_wup (w : Wd) (a : Nat) (e e' : En) : wup (wup w a e) a e' = wup w a e' := by
  funext q; unfold wup; split <;> rfl
theorem wup_same {w : Wd} {a : Nat} {e : En} (h : w a = some e) : wup w a e = w := by
  funext q; unfold wup; split
  · rename_i hq; rw [hq, h]
  · rfl
