/-! the reference as a state: int fields, long fields, int rows, long rows; printed by mkmw.py -/
set_option maxRecDepth 100000
abbrev MS : Type := (Nat → Int32) × (Nat → Int64) × (Nat → Nat → Int32) × (Nat → Nat → Int64)
def mi (S : MS) (k : Nat) : Int32 := S.1 k
def ml (S : MS) (k : Nat) : Int64 := S.2.1 k
def ma (S : MS) (a : Nat) : Nat → Int32 := S.2.2.1 a
def mb (S : MS) (a : Nat) : Nat → Int64 := S.2.2.2 a
def mSI (S : MS) (k : Nat) (x : Int32) : MS := (fun j => if j = k then x else S.1 j, S.2)
def mSL (S : MS) (k : Nat) (x : Int64) : MS := (S.1, fun j => if j = k then x else S.2.1 j, S.2.2)
def mSA (S : MS) (a i : Nat) (x : Int32) : MS := (S.1, S.2.1, fun j => if j = a then upd (S.2.2.1 a) i x else S.2.2.1 j, S.2.2.2)
def mSB (S : MS) (a i : Nat) (x : Int64) : MS := (S.1, S.2.1, S.2.2.1, fun j => if j = a then vp_updL (S.2.2.2 a) i x else S.2.2.2 j)
theorem mi_I (S : MS) (k j : Nat) (x : Int32) : mi (mSI S k x) j = if j = k then x else mi S j := rfl
theorem mi_L (S : MS) (k j : Nat) (x : Int64) : mi (mSL S k x) j = mi S j := rfl
theorem mi_A (S : MS) (a i j : Nat) (x : Int32) : mi (mSA S a i x) j = mi S j := rfl
theorem mi_B (S : MS) (a i j : Nat) (x : Int64) : mi (mSB S a i x) j = mi S j := rfl
theorem ml_I (S : MS) (k j : Nat) (x : Int32) : ml (mSI S k x) j = ml S j := rfl
theorem ml_L (S : MS) (k j : Nat) (x : Int64) : ml (mSL S k x) j = if j = k then x else ml S j := rfl
theorem ml_A (S : MS) (a i j : Nat) (x : Int32) : ml (mSA S a i x) j = ml S j := rfl
theorem ml_B (S : MS) (a i j : Nat) (x : Int64) : ml (mSB S a i x) j = ml S j := rfl
theorem ma_I (S : MS) (k a : Nat) (x : Int32) : ma (mSI S k x) a = ma S a := rfl
theorem ma_L (S : MS) (k a : Nat) (x : Int64) : ma (mSL S k x) a = ma S a := rfl
theorem ma_A (S : MS) (a i b : Nat) (x : Int32) : ma (mSA S a i x) b = if b = a then upd (ma S a) i x else ma S b := rfl
theorem ma_B (S : MS) (a i b : Nat) (x : Int64) : ma (mSB S a i x) b = ma S b := rfl
theorem mb_I (S : MS) (k a : Nat) (x : Int32) : mb (mSI S k x) a = mb S a := rfl
theorem mb_L (S : MS) (k a : Nat) (x : Int64) : mb (mSL S k x) a = mb S a := rfl
theorem mb_A (S : MS) (a i b : Nat) (x : Int32) : mb (mSA S a i x) b = mb S b := rfl
theorem mb_B (S : MS) (a i b : Nat) (x : Int64) : mb (mSB S a i x) b = if b = a then vp_updL (mb S a) i x else mb S b := rfl
def mSR (S : MS) (a : Nat) (f : Nat → Int32) : MS := (S.1, S.2.1, fun j => if j = a then f else S.2.2.1 j, S.2.2.2)
def mSQ (S : MS) (a : Nat) (f : Nat → Int64) : MS := (S.1, S.2.1, S.2.2.1, fun j => if j = a then f else S.2.2.2 j)
theorem mi_R (S : MS) (a : Nat) (f : Nat → Int32) (j : Nat) : mi (mSR S a f) j = mi S j := rfl
theorem ml_R (S : MS) (a : Nat) (f : Nat → Int32) (j : Nat) : ml (mSR S a f) j = ml S j := rfl
theorem ma_R (S : MS) (a : Nat) (f : Nat → Int32) (j : Nat) : ma (mSR S a f) j = if j = a then f else ma S j := rfl
theorem mb_R (S : MS) (a : Nat) (f : Nat → Int32) (j : Nat) : mb (mSR S a f) j = mb S j := rfl
theorem mi_Q (S : MS) (a : Nat) (f : Nat → Int64) (j : Nat) : mi (mSQ S a f) j = mi S j := rfl
theorem ml_Q (S : MS) (a : Nat) (f : Nat → Int64) (j : Nat) : ml (mSQ S a f) j = ml S j := rfl
theorem ma_Q (S : MS) (a : Nat) (f : Nat → Int64) (j : Nat) : ma (mSQ S a f) j = ma S j := rfl
theorem mb_Q (S : MS) (a : Nat) (f : Nat → Int64) (j : Nat) : mb (mSQ S a f) j = if j = a then f else mb S j := rfl
theorem mSA_R (S : MS) (a : Nat) (f : Nat → Int32) (i : Nat) (x : Int32) : mSA (mSR S a f) a i x = mSR S a (upd f i x) := by
  unfold mSA mSR
  refine Prod.ext rfl (Prod.ext rfl (Prod.ext (funext fun j => ?_) rfl))
  simp only
  by_cases h : j = a <;> simp [h]
theorem mSB_Q (S : MS) (a : Nat) (f : Nat → Int64) (i : Nat) (x : Int64) : mSB (mSQ S a f) a i x = mSQ S a (vp_updL f i x) := by
  unfold mSB mSQ
  refine Prod.ext rfl (Prod.ext rfl (Prod.ext rfl (funext fun j => ?_)))
  simp only
  by_cases h : j = a <;> simp [h]
theorem mSR_id (S : MS) (a : Nat) : mSR S a (ma S a) = S := by
  unfold mSR ma
  refine Prod.ext rfl (Prod.ext rfl (Prod.ext (funext fun j => ?_) rfl))
  simp only
  by_cases h : j = a <;> simp [h]
theorem mSQ_id (S : MS) (a : Nat) : mSQ S a (mb S a) = S := by
  unfold mSQ mb
  refine Prod.ext rfl (Prod.ext rfl (Prod.ext rfl (funext fun j => ?_)))
  simp only
  by_cases h : j = a <;> simp [h]
theorem mSR_R (S : MS) (a : Nat) (f g : Nat → Int32) : mSR (mSR S a f) a g = mSR S a g := by
  unfold mSR
  refine Prod.ext rfl (Prod.ext rfl (Prod.ext (funext fun j => ?_) rfl))
  simp only
  by_cases h : j = a <;> simp [h]
theorem upd_J (A : Nat → Int) (i : Nat) (v : Int) : upd (fun s => J (A s)) i (J v) = fun s => J (if s = i then v else A s) := by
  funext s; unfold upd; by_cases h : s = i <;> simp [h]
theorem fun_J (f : Nat → Int32) : (fun s => J ((f s).toInt)) = f := by funext s; exact J_of (f s)
def mFs (o : Nat) (S : MS) : List Value := [.int (mi S 0), .ref (o + 1), .ref (o + 2), .ref (o + 3), .ref (o + 4), .ref (o + 5), .int (mi S 6), .int (mi S 7), .int (mi S 8), .int (mi S 9), .int (mi S 10), .long (ml S 11), .int (mi S 12), .int (mi S 13), .int (mi S 14), .int (mi S 15), .ref (o + 6), .ref (o + 7), .ref (o + 8), .ref (o + 9), .ref (o + 10), .ref (o + 11), .ref (o + 12), .ref (o + 13), .ref (o + 14), .ref (o + 15), .int (mi S 26), .ref (o + 16), .ref (o + 17), .ref (o + 18), .int (mi S 30), .int (mi S 31), .ref (o + 19), .ref (o + 20), .ref (o + 21), .int (mi S 35), .int (mi S 36), .int (mi S 37), .ref (o + 22), .ref (o + 23), .ref (o + 24), .long (ml S 41), .ref (o + 25), .int (mi S 43), .int (mi S 44), .int (mi S 45)]
def mTys : List Nat := [0, 0, 0, 1, 1, 2, 0, 0, 0, 0, 0, 0, 0, 0, 0, 0, 3, 0, 0, 3, 3, 0, 0, 0, 1, 3]
def mLens : List Nat := [0, 4, 4, 240, 60, 1600, 6, 6, 36, 36, 288, 288, 12, 72, 144, 12, 3, 8, 8, 5040, 32400, 32400, 100, 512, 18688, 96]
def mCell (o : Nat) (S : MS) (d : Nat) : En := if d = 0 then .inr (5, mFs o S) else if mTys.getD d 0 = 1 then .inl (1, mLens.getD d 0, .inr (.inl (mb S d))) else .inl (mTys.getD d 0, mLens.getD d 0, .inl (ma S d))
theorem mCell_A (o : Nat) (S : MS) (a i : Nat) (x : Int32) (d : Nat) (h : d ≠ a) : mCell o (mSA S a i x) d = mCell o S d := by
  unfold mCell
  have e : ma (mSA S a i x) d = ma S d := by rw [ma_A, if_neg h]
  rw [e]; rfl
theorem mCell_B (o : Nat) (S : MS) (a i : Nat) (x : Int64) (d : Nat) (h : d ≠ a) : mCell o (mSB S a i x) d = mCell o S d := by
  unfold mCell
  have e : mb (mSB S a i x) d = mb S d := by rw [mb_B, if_neg h]
  rw [e]; rfl
theorem mc_1 (o : Nat) (S : MS) (w : Wd) : (some (mCell o S 1) : Option En) = some (.inl (0, 4, .inl (ma S 1))) := rfl
theorem mc_2 (o : Nat) (S : MS) (w : Wd) : (some (mCell o S 2) : Option En) = some (.inl (0, 4, .inl (ma S 2))) := rfl
theorem mc_3 (o : Nat) (S : MS) (w : Wd) : (some (mCell o S 3) : Option En) = some (.inl (1, 240, .inr (.inl (mb S 3)))) := rfl
theorem mc_4 (o : Nat) (S : MS) (w : Wd) : (some (mCell o S 4) : Option En) = some (.inl (1, 60, .inr (.inl (mb S 4)))) := rfl
theorem mc_5 (o : Nat) (S : MS) (w : Wd) : (some (mCell o S 5) : Option En) = some (.inl (2, 1600, .inl (ma S 5))) := rfl
theorem mc_6 (o : Nat) (S : MS) (w : Wd) : (some (mCell o S 6) : Option En) = some (.inl (0, 6, .inl (ma S 6))) := rfl
theorem mc_7 (o : Nat) (S : MS) (w : Wd) : (some (mCell o S 7) : Option En) = some (.inl (0, 6, .inl (ma S 7))) := rfl
theorem mc_8 (o : Nat) (S : MS) (w : Wd) : (some (mCell o S 8) : Option En) = some (.inl (0, 36, .inl (ma S 8))) := rfl
theorem mc_9 (o : Nat) (S : MS) (w : Wd) : (some (mCell o S 9) : Option En) = some (.inl (0, 36, .inl (ma S 9))) := rfl
theorem mc_10 (o : Nat) (S : MS) (w : Wd) : (some (mCell o S 10) : Option En) = some (.inl (0, 288, .inl (ma S 10))) := rfl
theorem mc_11 (o : Nat) (S : MS) (w : Wd) : (some (mCell o S 11) : Option En) = some (.inl (0, 288, .inl (ma S 11))) := rfl
theorem mc_12 (o : Nat) (S : MS) (w : Wd) : (some (mCell o S 12) : Option En) = some (.inl (0, 12, .inl (ma S 12))) := rfl
theorem mc_13 (o : Nat) (S : MS) (w : Wd) : (some (mCell o S 13) : Option En) = some (.inl (0, 72, .inl (ma S 13))) := rfl
theorem mc_14 (o : Nat) (S : MS) (w : Wd) : (some (mCell o S 14) : Option En) = some (.inl (0, 144, .inl (ma S 14))) := rfl
theorem mc_15 (o : Nat) (S : MS) (w : Wd) : (some (mCell o S 15) : Option En) = some (.inl (0, 12, .inl (ma S 15))) := rfl
theorem mc_16 (o : Nat) (S : MS) (w : Wd) : (some (mCell o S 16) : Option En) = some (.inl (3, 3, .inl (ma S 16))) := rfl
theorem mc_17 (o : Nat) (S : MS) (w : Wd) : (some (mCell o S 17) : Option En) = some (.inl (0, 8, .inl (ma S 17))) := rfl
theorem mc_18 (o : Nat) (S : MS) (w : Wd) : (some (mCell o S 18) : Option En) = some (.inl (0, 8, .inl (ma S 18))) := rfl
theorem mc_19 (o : Nat) (S : MS) (w : Wd) : (some (mCell o S 19) : Option En) = some (.inl (3, 5040, .inl (ma S 19))) := rfl
theorem mc_20 (o : Nat) (S : MS) (w : Wd) : (some (mCell o S 20) : Option En) = some (.inl (3, 32400, .inl (ma S 20))) := rfl
theorem mc_21 (o : Nat) (S : MS) (w : Wd) : (some (mCell o S 21) : Option En) = some (.inl (0, 32400, .inl (ma S 21))) := rfl
theorem mc_22 (o : Nat) (S : MS) (w : Wd) : (some (mCell o S 22) : Option En) = some (.inl (0, 100, .inl (ma S 22))) := rfl
theorem mc_23 (o : Nat) (S : MS) (w : Wd) : (some (mCell o S 23) : Option En) = some (.inl (0, 512, .inl (ma S 23))) := rfl
theorem mc_24 (o : Nat) (S : MS) (w : Wd) : (some (mCell o S 24) : Option En) = some (.inl (1, 18688, .inr (.inl (mb S 24)))) := rfl
theorem mc_25 (o : Nat) (S : MS) (w : Wd) : (some (mCell o S 25) : Option En) = some (.inl (3, 96, .inl (ma S 25))) := rfl
def emM (o : Nat) (S : MS) (w : Wd) : Wd := fun q => if o ≤ q ∧ q ≤ o + 25 then some (mCell o S (q - o)) else w q
theorem emM_at (o : Nat) (S : MS) (w : Wd) (d : Nat) (h : d ≤ 25) : emM o S w (o + d) = some (mCell o S d) := by
  unfold emM; rw [if_pos (by omega), Nat.add_sub_cancel_left]
theorem emM_0 (o : Nat) (S : MS) (w : Wd) : emM o S w o = some (.inr (5, mFs o S)) := emM_at o S w 0 (by omega)
theorem emM_out (o : Nat) (S : MS) (w : Wd) (q : Nat) (h : ¬ (o ≤ q ∧ q ≤ o + 25)) : emM o S w q = w q := by unfold emM; rw [if_neg h]
theorem emM_up {o : Nat} {S S' : MS} {w : Wd} {d : Nat} {e : En} (h : d ≤ 25) (h0 : mCell o S' d = e) (h1 : ∀ d', d' ≠ d → mCell o S' d' = mCell o S d') : wup (emM o S w) (o + d) e = emM o S' w := by
  funext q
  unfold wup emM
  by_cases hq : q = o + d
  · rw [if_pos hq, if_pos (by omega), hq, Nat.add_sub_cancel_left, h0]
  · rw [if_neg hq]
    by_cases h2 : o ≤ q ∧ q ≤ o + 25
    · rw [if_pos h2, if_pos h2, h1 (q - o) (by omega)]
    · rw [if_neg h2, if_neg h2]
theorem mCell_I (o : Nat) (S : MS) (k : Nat) (x : Int32) (d : Nat) (h : d ≠ 0) : mCell o (mSI S k x) d = mCell o S d := by
  unfold mCell; rw [if_neg h, if_neg h]; rfl
theorem mCell_L (o : Nat) (S : MS) (k : Nat) (x : Int64) (d : Nat) (h : d ≠ 0) : mCell o (mSL S k x) d = mCell o S d := by
  unfold mCell; rw [if_neg h, if_neg h]; rfl
theorem mg_0 (o : Nat) (S : MS) (w : Wd) : gI (emM o S w) [5] o 0 = some (mi S 0) := gI_of (emM_0 o S w) (by decide) rfl
theorem mp_0 (o : Nat) (S : MS) (w : Wd) (x : Int32) : pF (emM o S w) [5] o 0 (.int x) = some (emM o (mSI S 0 x) w) := by
  rw [pF_of (.int x) (emM_0 o S w) (by decide) (show 0 < 46 by decide)]; exact congrArg some (emM_up (d := 0) (by decide) rfl (fun d h => mCell_I o S 0 x d h))
theorem mg_1 (o : Nat) (S : MS) (w : Wd) : gR (emM o S w) [5] o 1 = some (o + 1) := gR_of (emM_0 o S w) (by decide) rfl
theorem mg_2 (o : Nat) (S : MS) (w : Wd) : gR (emM o S w) [5] o 2 = some (o + 2) := gR_of (emM_0 o S w) (by decide) rfl
theorem mg_3 (o : Nat) (S : MS) (w : Wd) : gR (emM o S w) [5] o 3 = some (o + 3) := gR_of (emM_0 o S w) (by decide) rfl
theorem mg_4 (o : Nat) (S : MS) (w : Wd) : gR (emM o S w) [5] o 4 = some (o + 4) := gR_of (emM_0 o S w) (by decide) rfl
theorem mg_5 (o : Nat) (S : MS) (w : Wd) : gR (emM o S w) [5] o 5 = some (o + 5) := gR_of (emM_0 o S w) (by decide) rfl
theorem mg_6 (o : Nat) (S : MS) (w : Wd) : gI (emM o S w) [5] o 6 = some (mi S 6) := gI_of (emM_0 o S w) (by decide) rfl
theorem mp_6 (o : Nat) (S : MS) (w : Wd) (x : Int32) : pF (emM o S w) [5] o 6 (.int x) = some (emM o (mSI S 6 x) w) := by
  rw [pF_of (.int x) (emM_0 o S w) (by decide) (show 6 < 46 by decide)]; exact congrArg some (emM_up (d := 0) (by decide) rfl (fun d h => mCell_I o S 6 x d h))
theorem mg_7 (o : Nat) (S : MS) (w : Wd) : gI (emM o S w) [5] o 7 = some (mi S 7) := gI_of (emM_0 o S w) (by decide) rfl
theorem mp_7 (o : Nat) (S : MS) (w : Wd) (x : Int32) : pF (emM o S w) [5] o 7 (.int x) = some (emM o (mSI S 7 x) w) := by
  rw [pF_of (.int x) (emM_0 o S w) (by decide) (show 7 < 46 by decide)]; exact congrArg some (emM_up (d := 0) (by decide) rfl (fun d h => mCell_I o S 7 x d h))
theorem mg_8 (o : Nat) (S : MS) (w : Wd) : gI (emM o S w) [5] o 8 = some (mi S 8) := gI_of (emM_0 o S w) (by decide) rfl
theorem mp_8 (o : Nat) (S : MS) (w : Wd) (x : Int32) : pF (emM o S w) [5] o 8 (.int x) = some (emM o (mSI S 8 x) w) := by
  rw [pF_of (.int x) (emM_0 o S w) (by decide) (show 8 < 46 by decide)]; exact congrArg some (emM_up (d := 0) (by decide) rfl (fun d h => mCell_I o S 8 x d h))
theorem mg_9 (o : Nat) (S : MS) (w : Wd) : gI (emM o S w) [5] o 9 = some (mi S 9) := gI_of (emM_0 o S w) (by decide) rfl
theorem mp_9 (o : Nat) (S : MS) (w : Wd) (x : Int32) : pF (emM o S w) [5] o 9 (.int x) = some (emM o (mSI S 9 x) w) := by
  rw [pF_of (.int x) (emM_0 o S w) (by decide) (show 9 < 46 by decide)]; exact congrArg some (emM_up (d := 0) (by decide) rfl (fun d h => mCell_I o S 9 x d h))
theorem mg_10 (o : Nat) (S : MS) (w : Wd) : gI (emM o S w) [5] o 10 = some (mi S 10) := gI_of (emM_0 o S w) (by decide) rfl
theorem mp_10 (o : Nat) (S : MS) (w : Wd) (x : Int32) : pF (emM o S w) [5] o 10 (.int x) = some (emM o (mSI S 10 x) w) := by
  rw [pF_of (.int x) (emM_0 o S w) (by decide) (show 10 < 46 by decide)]; exact congrArg some (emM_up (d := 0) (by decide) rfl (fun d h => mCell_I o S 10 x d h))
theorem mg_11 (o : Nat) (S : MS) (w : Wd) : gL (emM o S w) [5] o 11 = some (ml S 11) := gL_of (emM_0 o S w) (by decide) rfl
theorem mp_11 (o : Nat) (S : MS) (w : Wd) (x : Int64) : pF (emM o S w) [5] o 11 (.long x) = some (emM o (mSL S 11 x) w) := by
  rw [pF_of (.long x) (emM_0 o S w) (by decide) (show 11 < 46 by decide)]; exact congrArg some (emM_up (d := 0) (by decide) rfl (fun d h => mCell_L o S 11 x d h))
theorem mg_12 (o : Nat) (S : MS) (w : Wd) : gI (emM o S w) [5] o 12 = some (mi S 12) := gI_of (emM_0 o S w) (by decide) rfl
theorem mp_12 (o : Nat) (S : MS) (w : Wd) (x : Int32) : pF (emM o S w) [5] o 12 (.int x) = some (emM o (mSI S 12 x) w) := by
  rw [pF_of (.int x) (emM_0 o S w) (by decide) (show 12 < 46 by decide)]; exact congrArg some (emM_up (d := 0) (by decide) rfl (fun d h => mCell_I o S 12 x d h))
theorem mg_13 (o : Nat) (S : MS) (w : Wd) : gI (emM o S w) [5] o 13 = some (mi S 13) := gI_of (emM_0 o S w) (by decide) rfl
theorem mp_13 (o : Nat) (S : MS) (w : Wd) (x : Int32) : pF (emM o S w) [5] o 13 (.int x) = some (emM o (mSI S 13 x) w) := by
  rw [pF_of (.int x) (emM_0 o S w) (by decide) (show 13 < 46 by decide)]; exact congrArg some (emM_up (d := 0) (by decide) rfl (fun d h => mCell_I o S 13 x d h))
theorem mg_14 (o : Nat) (S : MS) (w : Wd) : gI (emM o S w) [5] o 14 = some (mi S 14) := gI_of (emM_0 o S w) (by decide) rfl
theorem mp_14 (o : Nat) (S : MS) (w : Wd) (x : Int32) : pF (emM o S w) [5] o 14 (.int x) = some (emM o (mSI S 14 x) w) := by
  rw [pF_of (.int x) (emM_0 o S w) (by decide) (show 14 < 46 by decide)]; exact congrArg some (emM_up (d := 0) (by decide) rfl (fun d h => mCell_I o S 14 x d h))
theorem mg_15 (o : Nat) (S : MS) (w : Wd) : gI (emM o S w) [5] o 15 = some (mi S 15) := gI_of (emM_0 o S w) (by decide) rfl
theorem mp_15 (o : Nat) (S : MS) (w : Wd) (x : Int32) : pF (emM o S w) [5] o 15 (.int x) = some (emM o (mSI S 15 x) w) := by
  rw [pF_of (.int x) (emM_0 o S w) (by decide) (show 15 < 46 by decide)]; exact congrArg some (emM_up (d := 0) (by decide) rfl (fun d h => mCell_I o S 15 x d h))
theorem mg_16 (o : Nat) (S : MS) (w : Wd) : gR (emM o S w) [5] o 16 = some (o + 6) := gR_of (emM_0 o S w) (by decide) rfl
theorem mg_17 (o : Nat) (S : MS) (w : Wd) : gR (emM o S w) [5] o 17 = some (o + 7) := gR_of (emM_0 o S w) (by decide) rfl
theorem mg_18 (o : Nat) (S : MS) (w : Wd) : gR (emM o S w) [5] o 18 = some (o + 8) := gR_of (emM_0 o S w) (by decide) rfl
theorem mg_19 (o : Nat) (S : MS) (w : Wd) : gR (emM o S w) [5] o 19 = some (o + 9) := gR_of (emM_0 o S w) (by decide) rfl
theorem mg_20 (o : Nat) (S : MS) (w : Wd) : gR (emM o S w) [5] o 20 = some (o + 10) := gR_of (emM_0 o S w) (by decide) rfl
theorem mg_21 (o : Nat) (S : MS) (w : Wd) : gR (emM o S w) [5] o 21 = some (o + 11) := gR_of (emM_0 o S w) (by decide) rfl
theorem mg_22 (o : Nat) (S : MS) (w : Wd) : gR (emM o S w) [5] o 22 = some (o + 12) := gR_of (emM_0 o S w) (by decide) rfl
theorem mg_23 (o : Nat) (S : MS) (w : Wd) : gR (emM o S w) [5] o 23 = some (o + 13) := gR_of (emM_0 o S w) (by decide) rfl
theorem mg_24 (o : Nat) (S : MS) (w : Wd) : gR (emM o S w) [5] o 24 = some (o + 14) := gR_of (emM_0 o S w) (by decide) rfl
theorem mg_25 (o : Nat) (S : MS) (w : Wd) : gR (emM o S w) [5] o 25 = some (o + 15) := gR_of (emM_0 o S w) (by decide) rfl
theorem mg_26 (o : Nat) (S : MS) (w : Wd) : gI (emM o S w) [5] o 26 = some (mi S 26) := gI_of (emM_0 o S w) (by decide) rfl
theorem mp_26 (o : Nat) (S : MS) (w : Wd) (x : Int32) : pF (emM o S w) [5] o 26 (.int x) = some (emM o (mSI S 26 x) w) := by
  rw [pF_of (.int x) (emM_0 o S w) (by decide) (show 26 < 46 by decide)]; exact congrArg some (emM_up (d := 0) (by decide) rfl (fun d h => mCell_I o S 26 x d h))
theorem mg_27 (o : Nat) (S : MS) (w : Wd) : gR (emM o S w) [5] o 27 = some (o + 16) := gR_of (emM_0 o S w) (by decide) rfl
theorem mg_28 (o : Nat) (S : MS) (w : Wd) : gR (emM o S w) [5] o 28 = some (o + 17) := gR_of (emM_0 o S w) (by decide) rfl
theorem mg_29 (o : Nat) (S : MS) (w : Wd) : gR (emM o S w) [5] o 29 = some (o + 18) := gR_of (emM_0 o S w) (by decide) rfl
theorem mg_30 (o : Nat) (S : MS) (w : Wd) : gI (emM o S w) [5] o 30 = some (mi S 30) := gI_of (emM_0 o S w) (by decide) rfl
theorem mp_30 (o : Nat) (S : MS) (w : Wd) (x : Int32) : pF (emM o S w) [5] o 30 (.int x) = some (emM o (mSI S 30 x) w) := by
  rw [pF_of (.int x) (emM_0 o S w) (by decide) (show 30 < 46 by decide)]; exact congrArg some (emM_up (d := 0) (by decide) rfl (fun d h => mCell_I o S 30 x d h))
theorem mg_31 (o : Nat) (S : MS) (w : Wd) : gI (emM o S w) [5] o 31 = some (mi S 31) := gI_of (emM_0 o S w) (by decide) rfl
theorem mp_31 (o : Nat) (S : MS) (w : Wd) (x : Int32) : pF (emM o S w) [5] o 31 (.int x) = some (emM o (mSI S 31 x) w) := by
  rw [pF_of (.int x) (emM_0 o S w) (by decide) (show 31 < 46 by decide)]; exact congrArg some (emM_up (d := 0) (by decide) rfl (fun d h => mCell_I o S 31 x d h))
theorem mg_32 (o : Nat) (S : MS) (w : Wd) : gR (emM o S w) [5] o 32 = some (o + 19) := gR_of (emM_0 o S w) (by decide) rfl
theorem mg_33 (o : Nat) (S : MS) (w : Wd) : gR (emM o S w) [5] o 33 = some (o + 20) := gR_of (emM_0 o S w) (by decide) rfl
theorem mg_34 (o : Nat) (S : MS) (w : Wd) : gR (emM o S w) [5] o 34 = some (o + 21) := gR_of (emM_0 o S w) (by decide) rfl
theorem mg_35 (o : Nat) (S : MS) (w : Wd) : gI (emM o S w) [5] o 35 = some (mi S 35) := gI_of (emM_0 o S w) (by decide) rfl
theorem mp_35 (o : Nat) (S : MS) (w : Wd) (x : Int32) : pF (emM o S w) [5] o 35 (.int x) = some (emM o (mSI S 35 x) w) := by
  rw [pF_of (.int x) (emM_0 o S w) (by decide) (show 35 < 46 by decide)]; exact congrArg some (emM_up (d := 0) (by decide) rfl (fun d h => mCell_I o S 35 x d h))
theorem mg_36 (o : Nat) (S : MS) (w : Wd) : gI (emM o S w) [5] o 36 = some (mi S 36) := gI_of (emM_0 o S w) (by decide) rfl
theorem mp_36 (o : Nat) (S : MS) (w : Wd) (x : Int32) : pF (emM o S w) [5] o 36 (.int x) = some (emM o (mSI S 36 x) w) := by
  rw [pF_of (.int x) (emM_0 o S w) (by decide) (show 36 < 46 by decide)]; exact congrArg some (emM_up (d := 0) (by decide) rfl (fun d h => mCell_I o S 36 x d h))
theorem mg_37 (o : Nat) (S : MS) (w : Wd) : gI (emM o S w) [5] o 37 = some (mi S 37) := gI_of (emM_0 o S w) (by decide) rfl
theorem mp_37 (o : Nat) (S : MS) (w : Wd) (x : Int32) : pF (emM o S w) [5] o 37 (.int x) = some (emM o (mSI S 37 x) w) := by
  rw [pF_of (.int x) (emM_0 o S w) (by decide) (show 37 < 46 by decide)]; exact congrArg some (emM_up (d := 0) (by decide) rfl (fun d h => mCell_I o S 37 x d h))
theorem mg_38 (o : Nat) (S : MS) (w : Wd) : gR (emM o S w) [5] o 38 = some (o + 22) := gR_of (emM_0 o S w) (by decide) rfl
theorem mg_39 (o : Nat) (S : MS) (w : Wd) : gR (emM o S w) [5] o 39 = some (o + 23) := gR_of (emM_0 o S w) (by decide) rfl
theorem mg_40 (o : Nat) (S : MS) (w : Wd) : gR (emM o S w) [5] o 40 = some (o + 24) := gR_of (emM_0 o S w) (by decide) rfl
theorem mg_41 (o : Nat) (S : MS) (w : Wd) : gL (emM o S w) [5] o 41 = some (ml S 41) := gL_of (emM_0 o S w) (by decide) rfl
theorem mp_41 (o : Nat) (S : MS) (w : Wd) (x : Int64) : pF (emM o S w) [5] o 41 (.long x) = some (emM o (mSL S 41 x) w) := by
  rw [pF_of (.long x) (emM_0 o S w) (by decide) (show 41 < 46 by decide)]; exact congrArg some (emM_up (d := 0) (by decide) rfl (fun d h => mCell_L o S 41 x d h))
theorem mg_42 (o : Nat) (S : MS) (w : Wd) : gR (emM o S w) [5] o 42 = some (o + 25) := gR_of (emM_0 o S w) (by decide) rfl
theorem mg_43 (o : Nat) (S : MS) (w : Wd) : gI (emM o S w) [5] o 43 = some (mi S 43) := gI_of (emM_0 o S w) (by decide) rfl
theorem mp_43 (o : Nat) (S : MS) (w : Wd) (x : Int32) : pF (emM o S w) [5] o 43 (.int x) = some (emM o (mSI S 43 x) w) := by
  rw [pF_of (.int x) (emM_0 o S w) (by decide) (show 43 < 46 by decide)]; exact congrArg some (emM_up (d := 0) (by decide) rfl (fun d h => mCell_I o S 43 x d h))
theorem mg_44 (o : Nat) (S : MS) (w : Wd) : gI (emM o S w) [5] o 44 = some (mi S 44) := gI_of (emM_0 o S w) (by decide) rfl
theorem mp_44 (o : Nat) (S : MS) (w : Wd) (x : Int32) : pF (emM o S w) [5] o 44 (.int x) = some (emM o (mSI S 44 x) w) := by
  rw [pF_of (.int x) (emM_0 o S w) (by decide) (show 44 < 46 by decide)]; exact congrArg some (emM_up (d := 0) (by decide) rfl (fun d h => mCell_I o S 44 x d h))
theorem mg_45 (o : Nat) (S : MS) (w : Wd) : gI (emM o S w) [5] o 45 = some (mi S 45) := gI_of (emM_0 o S w) (by decide) rfl
theorem mp_45 (o : Nat) (S : MS) (w : Wd) (x : Int32) : pF (emM o S w) [5] o 45 (.int x) = some (emM o (mSI S 45 x) w) := by
  rw [pF_of (.int x) (emM_0 o S w) (by decide) (show 45 < 46 by decide)]; exact congrArg some (emM_up (d := 0) (by decide) rfl (fun d h => mCell_I o S 45 x d h))
theorem mr_1 (o : Nat) (S : MS) (w : Wd) {z : Int} (h : 0 ≤ z ∧ z < 4) : aI 0 (emM o S w) (o + 1) (J z) = some (ma S 1 z.toNat) := aI_of ((emM_at o S w 1 (by decide)).trans (mc_1 o S w)) h (by decide)
theorem mw_1 (o : Nat) (S : MS) (w : Wd) {z : Int} (x : Int32) (h : 0 ≤ z ∧ z < 4) : sI 0 (emM o S w) (o + 1) (J z) x = some (emM o (mSA S 1 z.toNat (x)) w) := by
  rw [sI_of x ((emM_at o S w 1 (by decide)).trans (mc_1 o S w)) h (by decide)]
  exact congrArg some (emM_up (by decide) rfl (fun d hd => mCell_A o S 1 _ _ d hd))
theorem mr_2 (o : Nat) (S : MS) (w : Wd) {z : Int} (h : 0 ≤ z ∧ z < 4) : aI 0 (emM o S w) (o + 2) (J z) = some (ma S 2 z.toNat) := aI_of ((emM_at o S w 2 (by decide)).trans (mc_2 o S w)) h (by decide)
theorem mw_2 (o : Nat) (S : MS) (w : Wd) {z : Int} (x : Int32) (h : 0 ≤ z ∧ z < 4) : sI 0 (emM o S w) (o + 2) (J z) x = some (emM o (mSA S 2 z.toNat (x)) w) := by
  rw [sI_of x ((emM_at o S w 2 (by decide)).trans (mc_2 o S w)) h (by decide)]
  exact congrArg some (emM_up (by decide) rfl (fun d hd => mCell_A o S 2 _ _ d hd))
theorem mr_3 (o : Nat) (S : MS) (w : Wd) {z : Int} (h : 0 ≤ z ∧ z < 240) : aL (emM o S w) (o + 3) (J z) = some (mb S 3 z.toNat) := aL_of ((emM_at o S w 3 (by decide)).trans (mc_3 o S w)) h (by decide)
theorem mw_3 (o : Nat) (S : MS) (w : Wd) {z : Int} (x : Int64) (h : 0 ≤ z ∧ z < 240) : sL (emM o S w) (o + 3) (J z) x = some (emM o (mSB S 3 z.toNat x) w) := by
  rw [sL_of x ((emM_at o S w 3 (by decide)).trans (mc_3 o S w)) h (by decide)]
  exact congrArg some (emM_up (by decide) rfl (fun d hd => mCell_B o S 3 _ _ d hd))
theorem mr_4 (o : Nat) (S : MS) (w : Wd) {z : Int} (h : 0 ≤ z ∧ z < 60) : aL (emM o S w) (o + 4) (J z) = some (mb S 4 z.toNat) := aL_of ((emM_at o S w 4 (by decide)).trans (mc_4 o S w)) h (by decide)
theorem mw_4 (o : Nat) (S : MS) (w : Wd) {z : Int} (x : Int64) (h : 0 ≤ z ∧ z < 60) : sL (emM o S w) (o + 4) (J z) x = some (emM o (mSB S 4 z.toNat x) w) := by
  rw [sL_of x ((emM_at o S w 4 (by decide)).trans (mc_4 o S w)) h (by decide)]
  exact congrArg some (emM_up (by decide) rfl (fun d hd => mCell_B o S 4 _ _ d hd))
theorem mr_5 (o : Nat) (S : MS) (w : Wd) {z : Int} (h : 0 ≤ z ∧ z < 1600) : aI 2 (emM o S w) (o + 5) (J z) = some (ma S 5 z.toNat) := aI_of ((emM_at o S w 5 (by decide)).trans (mc_5 o S w)) h (by decide)
theorem mw_5 (o : Nat) (S : MS) (w : Wd) {z : Int} (x : Int32) (h : 0 ≤ z ∧ z < 1600) : sI 2 (emM o S w) (o + 5) (J z) x = some (emM o (mSA S 5 z.toNat (nar 2 x)) w) := by
  rw [sI_of x ((emM_at o S w 5 (by decide)).trans (mc_5 o S w)) h (by decide)]
  exact congrArg some (emM_up (by decide) rfl (fun d hd => mCell_A o S 5 _ _ d hd))
theorem mr_6 (o : Nat) (S : MS) (w : Wd) {z : Int} (h : 0 ≤ z ∧ z < 6) : aI 0 (emM o S w) (o + 6) (J z) = some (ma S 6 z.toNat) := aI_of ((emM_at o S w 6 (by decide)).trans (mc_6 o S w)) h (by decide)
theorem mw_6 (o : Nat) (S : MS) (w : Wd) {z : Int} (x : Int32) (h : 0 ≤ z ∧ z < 6) : sI 0 (emM o S w) (o + 6) (J z) x = some (emM o (mSA S 6 z.toNat (x)) w) := by
  rw [sI_of x ((emM_at o S w 6 (by decide)).trans (mc_6 o S w)) h (by decide)]
  exact congrArg some (emM_up (by decide) rfl (fun d hd => mCell_A o S 6 _ _ d hd))
theorem mr_7 (o : Nat) (S : MS) (w : Wd) {z : Int} (h : 0 ≤ z ∧ z < 6) : aI 0 (emM o S w) (o + 7) (J z) = some (ma S 7 z.toNat) := aI_of ((emM_at o S w 7 (by decide)).trans (mc_7 o S w)) h (by decide)
theorem mw_7 (o : Nat) (S : MS) (w : Wd) {z : Int} (x : Int32) (h : 0 ≤ z ∧ z < 6) : sI 0 (emM o S w) (o + 7) (J z) x = some (emM o (mSA S 7 z.toNat (x)) w) := by
  rw [sI_of x ((emM_at o S w 7 (by decide)).trans (mc_7 o S w)) h (by decide)]
  exact congrArg some (emM_up (by decide) rfl (fun d hd => mCell_A o S 7 _ _ d hd))
theorem mr_8 (o : Nat) (S : MS) (w : Wd) {z : Int} (h : 0 ≤ z ∧ z < 36) : aI 0 (emM o S w) (o + 8) (J z) = some (ma S 8 z.toNat) := aI_of ((emM_at o S w 8 (by decide)).trans (mc_8 o S w)) h (by decide)
theorem mw_8 (o : Nat) (S : MS) (w : Wd) {z : Int} (x : Int32) (h : 0 ≤ z ∧ z < 36) : sI 0 (emM o S w) (o + 8) (J z) x = some (emM o (mSA S 8 z.toNat (x)) w) := by
  rw [sI_of x ((emM_at o S w 8 (by decide)).trans (mc_8 o S w)) h (by decide)]
  exact congrArg some (emM_up (by decide) rfl (fun d hd => mCell_A o S 8 _ _ d hd))
theorem mr_9 (o : Nat) (S : MS) (w : Wd) {z : Int} (h : 0 ≤ z ∧ z < 36) : aI 0 (emM o S w) (o + 9) (J z) = some (ma S 9 z.toNat) := aI_of ((emM_at o S w 9 (by decide)).trans (mc_9 o S w)) h (by decide)
theorem mw_9 (o : Nat) (S : MS) (w : Wd) {z : Int} (x : Int32) (h : 0 ≤ z ∧ z < 36) : sI 0 (emM o S w) (o + 9) (J z) x = some (emM o (mSA S 9 z.toNat (x)) w) := by
  rw [sI_of x ((emM_at o S w 9 (by decide)).trans (mc_9 o S w)) h (by decide)]
  exact congrArg some (emM_up (by decide) rfl (fun d hd => mCell_A o S 9 _ _ d hd))
theorem mr_10 (o : Nat) (S : MS) (w : Wd) {z : Int} (h : 0 ≤ z ∧ z < 288) : aI 0 (emM o S w) (o + 10) (J z) = some (ma S 10 z.toNat) := aI_of ((emM_at o S w 10 (by decide)).trans (mc_10 o S w)) h (by decide)
theorem mw_10 (o : Nat) (S : MS) (w : Wd) {z : Int} (x : Int32) (h : 0 ≤ z ∧ z < 288) : sI 0 (emM o S w) (o + 10) (J z) x = some (emM o (mSA S 10 z.toNat (x)) w) := by
  rw [sI_of x ((emM_at o S w 10 (by decide)).trans (mc_10 o S w)) h (by decide)]
  exact congrArg some (emM_up (by decide) rfl (fun d hd => mCell_A o S 10 _ _ d hd))
theorem mr_11 (o : Nat) (S : MS) (w : Wd) {z : Int} (h : 0 ≤ z ∧ z < 288) : aI 0 (emM o S w) (o + 11) (J z) = some (ma S 11 z.toNat) := aI_of ((emM_at o S w 11 (by decide)).trans (mc_11 o S w)) h (by decide)
theorem mw_11 (o : Nat) (S : MS) (w : Wd) {z : Int} (x : Int32) (h : 0 ≤ z ∧ z < 288) : sI 0 (emM o S w) (o + 11) (J z) x = some (emM o (mSA S 11 z.toNat (x)) w) := by
  rw [sI_of x ((emM_at o S w 11 (by decide)).trans (mc_11 o S w)) h (by decide)]
  exact congrArg some (emM_up (by decide) rfl (fun d hd => mCell_A o S 11 _ _ d hd))
theorem mr_12 (o : Nat) (S : MS) (w : Wd) {z : Int} (h : 0 ≤ z ∧ z < 12) : aI 0 (emM o S w) (o + 12) (J z) = some (ma S 12 z.toNat) := aI_of ((emM_at o S w 12 (by decide)).trans (mc_12 o S w)) h (by decide)
theorem mw_12 (o : Nat) (S : MS) (w : Wd) {z : Int} (x : Int32) (h : 0 ≤ z ∧ z < 12) : sI 0 (emM o S w) (o + 12) (J z) x = some (emM o (mSA S 12 z.toNat (x)) w) := by
  rw [sI_of x ((emM_at o S w 12 (by decide)).trans (mc_12 o S w)) h (by decide)]
  exact congrArg some (emM_up (by decide) rfl (fun d hd => mCell_A o S 12 _ _ d hd))
theorem mr_13 (o : Nat) (S : MS) (w : Wd) {z : Int} (h : 0 ≤ z ∧ z < 72) : aI 0 (emM o S w) (o + 13) (J z) = some (ma S 13 z.toNat) := aI_of ((emM_at o S w 13 (by decide)).trans (mc_13 o S w)) h (by decide)
theorem mw_13 (o : Nat) (S : MS) (w : Wd) {z : Int} (x : Int32) (h : 0 ≤ z ∧ z < 72) : sI 0 (emM o S w) (o + 13) (J z) x = some (emM o (mSA S 13 z.toNat (x)) w) := by
  rw [sI_of x ((emM_at o S w 13 (by decide)).trans (mc_13 o S w)) h (by decide)]
  exact congrArg some (emM_up (by decide) rfl (fun d hd => mCell_A o S 13 _ _ d hd))
theorem mr_14 (o : Nat) (S : MS) (w : Wd) {z : Int} (h : 0 ≤ z ∧ z < 144) : aI 0 (emM o S w) (o + 14) (J z) = some (ma S 14 z.toNat) := aI_of ((emM_at o S w 14 (by decide)).trans (mc_14 o S w)) h (by decide)
theorem mw_14 (o : Nat) (S : MS) (w : Wd) {z : Int} (x : Int32) (h : 0 ≤ z ∧ z < 144) : sI 0 (emM o S w) (o + 14) (J z) x = some (emM o (mSA S 14 z.toNat (x)) w) := by
  rw [sI_of x ((emM_at o S w 14 (by decide)).trans (mc_14 o S w)) h (by decide)]
  exact congrArg some (emM_up (by decide) rfl (fun d hd => mCell_A o S 14 _ _ d hd))
theorem mr_15 (o : Nat) (S : MS) (w : Wd) {z : Int} (h : 0 ≤ z ∧ z < 12) : aI 0 (emM o S w) (o + 15) (J z) = some (ma S 15 z.toNat) := aI_of ((emM_at o S w 15 (by decide)).trans (mc_15 o S w)) h (by decide)
theorem mw_15 (o : Nat) (S : MS) (w : Wd) {z : Int} (x : Int32) (h : 0 ≤ z ∧ z < 12) : sI 0 (emM o S w) (o + 15) (J z) x = some (emM o (mSA S 15 z.toNat (x)) w) := by
  rw [sI_of x ((emM_at o S w 15 (by decide)).trans (mc_15 o S w)) h (by decide)]
  exact congrArg some (emM_up (by decide) rfl (fun d hd => mCell_A o S 15 _ _ d hd))
theorem mr_16 (o : Nat) (S : MS) (w : Wd) {z : Int} (h : 0 ≤ z ∧ z < 3) : aI 3 (emM o S w) (o + 16) (J z) = some (ma S 16 z.toNat) := aI_of ((emM_at o S w 16 (by decide)).trans (mc_16 o S w)) h (by decide)
theorem mw_16 (o : Nat) (S : MS) (w : Wd) {z : Int} (x : Int32) (h : 0 ≤ z ∧ z < 3) : sI 3 (emM o S w) (o + 16) (J z) x = some (emM o (mSA S 16 z.toNat (nar 3 x)) w) := by
  rw [sI_of x ((emM_at o S w 16 (by decide)).trans (mc_16 o S w)) h (by decide)]
  exact congrArg some (emM_up (by decide) rfl (fun d hd => mCell_A o S 16 _ _ d hd))
theorem mr_17 (o : Nat) (S : MS) (w : Wd) {z : Int} (h : 0 ≤ z ∧ z < 8) : aI 0 (emM o S w) (o + 17) (J z) = some (ma S 17 z.toNat) := aI_of ((emM_at o S w 17 (by decide)).trans (mc_17 o S w)) h (by decide)
theorem mw_17 (o : Nat) (S : MS) (w : Wd) {z : Int} (x : Int32) (h : 0 ≤ z ∧ z < 8) : sI 0 (emM o S w) (o + 17) (J z) x = some (emM o (mSA S 17 z.toNat (x)) w) := by
  rw [sI_of x ((emM_at o S w 17 (by decide)).trans (mc_17 o S w)) h (by decide)]
  exact congrArg some (emM_up (by decide) rfl (fun d hd => mCell_A o S 17 _ _ d hd))
theorem mr_18 (o : Nat) (S : MS) (w : Wd) {z : Int} (h : 0 ≤ z ∧ z < 8) : aI 0 (emM o S w) (o + 18) (J z) = some (ma S 18 z.toNat) := aI_of ((emM_at o S w 18 (by decide)).trans (mc_18 o S w)) h (by decide)
theorem mw_18 (o : Nat) (S : MS) (w : Wd) {z : Int} (x : Int32) (h : 0 ≤ z ∧ z < 8) : sI 0 (emM o S w) (o + 18) (J z) x = some (emM o (mSA S 18 z.toNat (x)) w) := by
  rw [sI_of x ((emM_at o S w 18 (by decide)).trans (mc_18 o S w)) h (by decide)]
  exact congrArg some (emM_up (by decide) rfl (fun d hd => mCell_A o S 18 _ _ d hd))
theorem mr_19 (o : Nat) (S : MS) (w : Wd) {z : Int} (h : 0 ≤ z ∧ z < 5040) : aI 3 (emM o S w) (o + 19) (J z) = some (ma S 19 z.toNat) := aI_of ((emM_at o S w 19 (by decide)).trans (mc_19 o S w)) h (by decide)
theorem mw_19 (o : Nat) (S : MS) (w : Wd) {z : Int} (x : Int32) (h : 0 ≤ z ∧ z < 5040) : sI 3 (emM o S w) (o + 19) (J z) x = some (emM o (mSA S 19 z.toNat (nar 3 x)) w) := by
  rw [sI_of x ((emM_at o S w 19 (by decide)).trans (mc_19 o S w)) h (by decide)]
  exact congrArg some (emM_up (by decide) rfl (fun d hd => mCell_A o S 19 _ _ d hd))
theorem mr_20 (o : Nat) (S : MS) (w : Wd) {z : Int} (h : 0 ≤ z ∧ z < 32400) : aI 3 (emM o S w) (o + 20) (J z) = some (ma S 20 z.toNat) := aI_of ((emM_at o S w 20 (by decide)).trans (mc_20 o S w)) h (by decide)
theorem mw_20 (o : Nat) (S : MS) (w : Wd) {z : Int} (x : Int32) (h : 0 ≤ z ∧ z < 32400) : sI 3 (emM o S w) (o + 20) (J z) x = some (emM o (mSA S 20 z.toNat (nar 3 x)) w) := by
  rw [sI_of x ((emM_at o S w 20 (by decide)).trans (mc_20 o S w)) h (by decide)]
  exact congrArg some (emM_up (by decide) rfl (fun d hd => mCell_A o S 20 _ _ d hd))
theorem mr_21 (o : Nat) (S : MS) (w : Wd) {z : Int} (h : 0 ≤ z ∧ z < 32400) : aI 0 (emM o S w) (o + 21) (J z) = some (ma S 21 z.toNat) := aI_of ((emM_at o S w 21 (by decide)).trans (mc_21 o S w)) h (by decide)
theorem mw_21 (o : Nat) (S : MS) (w : Wd) {z : Int} (x : Int32) (h : 0 ≤ z ∧ z < 32400) : sI 0 (emM o S w) (o + 21) (J z) x = some (emM o (mSA S 21 z.toNat (x)) w) := by
  rw [sI_of x ((emM_at o S w 21 (by decide)).trans (mc_21 o S w)) h (by decide)]
  exact congrArg some (emM_up (by decide) rfl (fun d hd => mCell_A o S 21 _ _ d hd))
theorem mr_22 (o : Nat) (S : MS) (w : Wd) {z : Int} (h : 0 ≤ z ∧ z < 100) : aI 0 (emM o S w) (o + 22) (J z) = some (ma S 22 z.toNat) := aI_of ((emM_at o S w 22 (by decide)).trans (mc_22 o S w)) h (by decide)
theorem mw_22 (o : Nat) (S : MS) (w : Wd) {z : Int} (x : Int32) (h : 0 ≤ z ∧ z < 100) : sI 0 (emM o S w) (o + 22) (J z) x = some (emM o (mSA S 22 z.toNat (x)) w) := by
  rw [sI_of x ((emM_at o S w 22 (by decide)).trans (mc_22 o S w)) h (by decide)]
  exact congrArg some (emM_up (by decide) rfl (fun d hd => mCell_A o S 22 _ _ d hd))
theorem mr_23 (o : Nat) (S : MS) (w : Wd) {z : Int} (h : 0 ≤ z ∧ z < 512) : aI 0 (emM o S w) (o + 23) (J z) = some (ma S 23 z.toNat) := aI_of ((emM_at o S w 23 (by decide)).trans (mc_23 o S w)) h (by decide)
theorem mw_23 (o : Nat) (S : MS) (w : Wd) {z : Int} (x : Int32) (h : 0 ≤ z ∧ z < 512) : sI 0 (emM o S w) (o + 23) (J z) x = some (emM o (mSA S 23 z.toNat (x)) w) := by
  rw [sI_of x ((emM_at o S w 23 (by decide)).trans (mc_23 o S w)) h (by decide)]
  exact congrArg some (emM_up (by decide) rfl (fun d hd => mCell_A o S 23 _ _ d hd))
theorem mr_24 (o : Nat) (S : MS) (w : Wd) {z : Int} (h : 0 ≤ z ∧ z < 18688) : aL (emM o S w) (o + 24) (J z) = some (mb S 24 z.toNat) := aL_of ((emM_at o S w 24 (by decide)).trans (mc_24 o S w)) h (by decide)
theorem mw_24 (o : Nat) (S : MS) (w : Wd) {z : Int} (x : Int64) (h : 0 ≤ z ∧ z < 18688) : sL (emM o S w) (o + 24) (J z) x = some (emM o (mSB S 24 z.toNat x) w) := by
  rw [sL_of x ((emM_at o S w 24 (by decide)).trans (mc_24 o S w)) h (by decide)]
  exact congrArg some (emM_up (by decide) rfl (fun d hd => mCell_B o S 24 _ _ d hd))
theorem mr_25 (o : Nat) (S : MS) (w : Wd) {z : Int} (h : 0 ≤ z ∧ z < 96) : aI 3 (emM o S w) (o + 25) (J z) = some (ma S 25 z.toNat) := aI_of ((emM_at o S w 25 (by decide)).trans (mc_25 o S w)) h (by decide)
theorem mw_25 (o : Nat) (S : MS) (w : Wd) {z : Int} (x : Int32) (h : 0 ≤ z ∧ z < 96) : sI 3 (emM o S w) (o + 25) (J z) x = some (emM o (mSA S 25 z.toNat (nar 3 x)) w) := by
  rw [sI_of x ((emM_at o S w 25 (by decide)).trans (mc_25 o S w)) h (by decide)]
  exact congrArg some (emM_up (by decide) rfl (fun d hd => mCell_A o S 25 _ _ d hd))
