/-! the component's own cells as a state: its city, ints, int rows, long rows; printed by mkxw.py -/
set_option maxRecDepth 100000
abbrev XS : Type := Nat × (Nat → Int32) × (Nat → Nat → Int32) × (Nat → Nat → Int64)
def xc (S : XS) : Nat := S.1
def xi (S : XS) (k : Nat) : Int32 := S.2.1 k
def xa (S : XS) (a : Nat) : Nat → Int32 := S.2.2.1 a
def xb (S : XS) (a : Nat) : Nat → Int64 := S.2.2.2 a
def xSC (S : XS) (c : Nat) : XS := (c, S.2)
def xSI (S : XS) (k : Nat) (x : Int32) : XS := (S.1, fun j => if j = k then x else S.2.1 j, S.2.2)
def xSA (S : XS) (a i : Nat) (x : Int32) : XS := (S.1, S.2.1, fun j => if j = a then upd (S.2.2.1 a) i x else S.2.2.1 j, S.2.2.2)
def xSR (S : XS) (a : Nat) (f : Nat → Int32) : XS := (S.1, S.2.1, fun j => if j = a then f else S.2.2.1 j, S.2.2.2)
def xSB (S : XS) (a i : Nat) (x : Int64) : XS := (S.1, S.2.1, S.2.2.1, fun j => if j = a then vp_updL (S.2.2.2 a) i x else S.2.2.2 j)
def xSQ (S : XS) (a : Nat) (f : Nat → Int64) : XS := (S.1, S.2.1, S.2.2.1, fun j => if j = a then f else S.2.2.2 j)
theorem xc_C (S : XS) (c : Nat) : xc (xSC S c) = c := rfl
theorem xi_C (S : XS) (c : Nat) (j : Nat) : xi (xSC S c) j = xi S j := rfl
theorem xa_C (S : XS) (c : Nat) (j : Nat) : xa (xSC S c) j = xa S j := rfl
theorem xb_C (S : XS) (c : Nat) (j : Nat) : xb (xSC S c) j = xb S j := rfl
theorem xc_I (S : XS) (k : Nat) (x : Int32) : xc (xSI S k x) = xc S := rfl
theorem xi_I (S : XS) (k : Nat) (x : Int32) (j : Nat) : xi (xSI S k x) j = if j = k then x else xi S j := rfl
theorem xa_I (S : XS) (k : Nat) (x : Int32) (j : Nat) : xa (xSI S k x) j = xa S j := rfl
theorem xb_I (S : XS) (k : Nat) (x : Int32) (j : Nat) : xb (xSI S k x) j = xb S j := rfl
theorem xc_A (S : XS) (a i : Nat) (x : Int32) : xc (xSA S a i x) = xc S := rfl
theorem xi_A (S : XS) (a i : Nat) (x : Int32) (j : Nat) : xi (xSA S a i x) j = xi S j := rfl
theorem xa_A (S : XS) (a i : Nat) (x : Int32) (j : Nat) : xa (xSA S a i x) j = if j = a then upd (xa S a) i x else xa S j := rfl
theorem xb_A (S : XS) (a i : Nat) (x : Int32) (j : Nat) : xb (xSA S a i x) j = xb S j := rfl
theorem xc_R (S : XS) (a : Nat) (f : Nat → Int32) : xc (xSR S a f) = xc S := rfl
theorem xi_R (S : XS) (a : Nat) (f : Nat → Int32) (j : Nat) : xi (xSR S a f) j = xi S j := rfl
theorem xa_R (S : XS) (a : Nat) (f : Nat → Int32) (j : Nat) : xa (xSR S a f) j = if j = a then f else xa S j := rfl
theorem xb_R (S : XS) (a : Nat) (f : Nat → Int32) (j : Nat) : xb (xSR S a f) j = xb S j := rfl
theorem xc_B (S : XS) (a i : Nat) (x : Int64) : xc (xSB S a i x) = xc S := rfl
theorem xi_B (S : XS) (a i : Nat) (x : Int64) (j : Nat) : xi (xSB S a i x) j = xi S j := rfl
theorem xa_B (S : XS) (a i : Nat) (x : Int64) (j : Nat) : xa (xSB S a i x) j = xa S j := rfl
theorem xb_B (S : XS) (a i : Nat) (x : Int64) (j : Nat) : xb (xSB S a i x) j = if j = a then vp_updL (xb S a) i x else xb S j := rfl
theorem xc_Q (S : XS) (a : Nat) (f : Nat → Int64) : xc (xSQ S a f) = xc S := rfl
theorem xi_Q (S : XS) (a : Nat) (f : Nat → Int64) (j : Nat) : xi (xSQ S a f) j = xi S j := rfl
theorem xa_Q (S : XS) (a : Nat) (f : Nat → Int64) (j : Nat) : xa (xSQ S a f) j = xa S j := rfl
theorem xb_Q (S : XS) (a : Nat) (f : Nat → Int64) (j : Nat) : xb (xSQ S a f) j = if j = a then f else xb S j := rfl
theorem xSA_R (S : XS) (a : Nat) (f : Nat → Int32) (i : Nat) (x : Int32) : xSA (xSR S a f) a i x = xSR S a (upd f i x) := by
  unfold xSA xSR
  refine Prod.ext rfl (Prod.ext rfl (Prod.ext (funext fun j => ?_) rfl))
  simp only
  by_cases h : j = a <;> simp [h]
theorem xSB_Q (S : XS) (a : Nat) (f : Nat → Int64) (i : Nat) (x : Int64) : xSB (xSQ S a f) a i x = xSQ S a (vp_updL f i x) := by
  unfold xSB xSQ
  refine Prod.ext rfl (Prod.ext rfl (Prod.ext rfl (funext fun j => ?_)))
  simp only
  by_cases h : j = a <;> simp [h]
theorem xSR_id (S : XS) (a : Nat) : xSR S a (xa S a) = S := by
  unfold xSR xa
  refine Prod.ext rfl (Prod.ext rfl (Prod.ext (funext fun j => ?_) rfl))
  simp only
  by_cases h : j = a <;> simp [h]
theorem xSQ_id (S : XS) (a : Nat) : xSQ S a (xb S a) = S := by
  unfold xSQ xb
  refine Prod.ext rfl (Prod.ext rfl (Prod.ext rfl (funext fun j => ?_)))
  simp only
  by_cases h : j = a <;> simp [h]
theorem xSR_R (S : XS) (a : Nat) (f g : Nat → Int32) : xSR (xSR S a f) a g = xSR S a g := by
  unfold xSR
  refine Prod.ext rfl (Prod.ext rfl (Prod.ext (funext fun j => ?_) rfl))
  simp only
  by_cases h : j = a <;> simp [h]
def xFs (o : Nat) (S : XS) : List Value := [.ref (xc S), .ref (o + 8), .int (xi S 2), .int (xi S 3), .int (xi S 4), .ref (o + 9), .ref (o + 12), .ref (o + 13), .ref (o + 14), .ref (o + 15), .int (xi S 10), .int (xi S 11), .ref (o + 16), .int (xi S 13), .ref (o + 17), .ref (o + 18), .ref (o + 19), .ref (o + 20), .ref (o + 21), .int (xi S 19), .int (xi S 20), .int (xi S 21), .ref (o + 22), .ref (o + 27)]
def xTys : List Nat := [0, 0, 0, 0, 0, 0, 0, 0, 2, 0, 0, 0, 0, 3, 0, 0, 0, 1, 1, 0, 0, 3]
def xLens : List Nat := [0, 0, 0, 0, 0, 0, 0, 0, 1600, 0, 8, 8, 0, 5040, 6, 1200, 512, 18688, 18688, 8, 48, 60]
def xCell (o : Nat) (S : XS) (d : Nat) : En := if d = 0 then .inr (0, xFs o S) else if d = 9 then .inr (2, [.int (J 0), .ref (o + 10), .ref (o + 11), .int (xi S 41)]) else if d = 12 then .inr (3, [.int (xi S 30), .int (xi S 31), .ref o]) else if xTys.getD d 0 = 1 then .inl (1, xLens.getD d 0, .inr (.inl (xb S d))) else .inl (xTys.getD d 0, xLens.getD d 0, .inl (xa S d))
theorem xCell_A (o : Nat) (S : XS) (a i : Nat) (x : Int32) (d : Nat) (h : d ≠ a) : xCell o (xSA S a i x) d = xCell o S d := by
  unfold xCell
  have e : xa (xSA S a i x) d = xa S d := by rw [xa_A, if_neg h]
  rw [e]; rfl
theorem xCell_R (o : Nat) (S : XS) (a : Nat) (f : Nat → Int32) (d : Nat) (h : d ≠ a) : xCell o (xSR S a f) d = xCell o S d := by
  unfold xCell
  have e : xa (xSR S a f) d = xa S d := by rw [xa_R, if_neg h]
  rw [e]; rfl
theorem xCell_B (o : Nat) (S : XS) (a i : Nat) (x : Int64) (d : Nat) (h : d ≠ a) : xCell o (xSB S a i x) d = xCell o S d := by
  unfold xCell
  have e : xb (xSB S a i x) d = xb S d := by rw [xb_B, if_neg h]
  rw [e]; rfl
theorem xCell_Q (o : Nat) (S : XS) (a : Nat) (f : Nat → Int64) (d : Nat) (h : d ≠ a) : xCell o (xSQ S a f) d = xCell o S d := by
  unfold xCell
  have e : xb (xSQ S a f) d = xb S d := by rw [xb_Q, if_neg h]
  rw [e]; rfl
theorem xCell_C (o : Nat) (S : XS) (c : Nat) (d : Nat) (h : d ≠ 0) : xCell o (xSC S c) d = xCell o S d := by
  unfold xCell; rw [if_neg h, if_neg h]; rfl
def emX (o : Nat) (S : XS) (w : Wd) : Wd := fun q => if q = o ∨ (o + 8 ≤ q ∧ q ≤ o + 21) then some (xCell o S (q - o)) else w q
theorem emX_at (o : Nat) (S : XS) (w : Wd) (d : Nat) (h : d = 0 ∨ 8 ≤ d ∧ d ≤ 21) : emX o S w (o + d) = some (xCell o S d) := by
  unfold emX; rw [if_pos (by omega), Nat.add_sub_cancel_left]
theorem emX_0 (o : Nat) (S : XS) (w : Wd) : emX o S w o = some (.inr (0, xFs o S)) := emX_at o S w 0 (by omega)
theorem emX_9 (o : Nat) (S : XS) (w : Wd) : emX o S w (o + 9) = some (.inr (2, [.int (J 0), .ref (o + 10), .ref (o + 11), .int (xi S 41)])) := emX_at o S w 9 (by omega)
theorem emX_12 (o : Nat) (S : XS) (w : Wd) : emX o S w (o + 12) = some (.inr (3, [.int (xi S 30), .int (xi S 31), .ref o])) := emX_at o S w 12 (by omega)
theorem emX_out (o : Nat) (S : XS) (w : Wd) (q : Nat) (h : ¬ (q = o ∨ (o + 8 ≤ q ∧ q ≤ o + 21))) : emX o S w q = w q := by unfold emX; rw [if_neg h]
theorem emX_up {o : Nat} {S S' : XS} {w : Wd} {d : Nat} {e : En} (h : d = 0 ∨ 8 ≤ d ∧ d ≤ 21) (h0 : xCell o S' d = e) (h1 : ∀ d', d' ≠ d → xCell o S' d' = xCell o S d') : wup (emX o S w) (o + d) e = emX o S' w := by
  funext q
  unfold wup emX
  by_cases hq : q = o + d
  · rw [if_pos hq, if_pos (by omega), hq, Nat.add_sub_cancel_left, h0]
  · rw [if_neg hq]
    by_cases h2 : q = o ∨ (o + 8 ≤ q ∧ q ≤ o + 21)
    · rw [if_pos h2, if_pos h2, h1 (q - o) (by omega)]
    · rw [if_neg h2, if_neg h2]
/-- a write to a cell that is not its own -/
theorem emX_wup {o : Nat} {S : XS} {w : Wd} {a : Nat} {e : En} (h : ¬ (a = o ∨ (o + 8 ≤ a ∧ a ≤ o + 21))) : wup (emX o S w) a e = emX o S (wup w a e) := by
  funext q
  unfold wup emX
  by_cases hq : q = a
  · rw [if_pos hq, hq, if_neg h]; exact (if_pos rfl).symm
  · rw [if_neg hq]
    by_cases h2 : q = o ∨ (o + 8 ≤ q ∧ q ≤ o + 21)
    · rw [if_pos h2, if_pos h2]
    · rw [if_neg h2, if_neg h2]; exact (if_neg hq).symm
theorem xg_0 (o : Nat) (S : XS) (w : Wd) : gR (emX o S w) [0] o 0 = some (xc S) := gR_of (emX_0 o S w) (by decide) rfl
theorem xp_0 (o : Nat) (S : XS) (w : Wd) (c : Nat) : pF (emX o S w) [0] o 0 (.ref c) = some (emX o (xSC S c) w) := by
  rw [pF_of (.ref c) (emX_0 o S w) (by decide) (show 0 < 24 by decide)]; exact congrArg some (emX_up (d := 0) (by decide) rfl (fun d h => xCell_C o S c d h))
theorem xg_1 (o : Nat) (S : XS) (w : Wd) : gR (emX o S w) [0] o 1 = some (o + 8) := gR_of (emX_0 o S w) (by decide) rfl
theorem xg_2 (o : Nat) (S : XS) (w : Wd) : gI (emX o S w) [0] o 2 = some (xi S 2) := gI_of (emX_0 o S w) (by decide) rfl
theorem xp_2 (o : Nat) (S : XS) (w : Wd) (x : Int32) : pF (emX o S w) [0] o 2 (.int x) = some (emX o (xSI S 2 x) w) := by
  rw [pF_of (.int x) (emX_0 o S w) (by decide) (show 2 < 24 by decide)]; exact congrArg some (emX_up (d := 0) (by decide) rfl (fun d h => by unfold xCell; rw [if_neg h, if_neg h]; rfl))
theorem xg_3 (o : Nat) (S : XS) (w : Wd) : gI (emX o S w) [0] o 3 = some (xi S 3) := gI_of (emX_0 o S w) (by decide) rfl
theorem xp_3 (o : Nat) (S : XS) (w : Wd) (x : Int32) : pF (emX o S w) [0] o 3 (.int x) = some (emX o (xSI S 3 x) w) := by
  rw [pF_of (.int x) (emX_0 o S w) (by decide) (show 3 < 24 by decide)]; exact congrArg some (emX_up (d := 0) (by decide) rfl (fun d h => by unfold xCell; rw [if_neg h, if_neg h]; rfl))
theorem xg_4 (o : Nat) (S : XS) (w : Wd) : gI (emX o S w) [0] o 4 = some (xi S 4) := gI_of (emX_0 o S w) (by decide) rfl
theorem xp_4 (o : Nat) (S : XS) (w : Wd) (x : Int32) : pF (emX o S w) [0] o 4 (.int x) = some (emX o (xSI S 4 x) w) := by
  rw [pF_of (.int x) (emX_0 o S w) (by decide) (show 4 < 24 by decide)]; exact congrArg some (emX_up (d := 0) (by decide) rfl (fun d h => by unfold xCell; rw [if_neg h, if_neg h]; rfl))
theorem xg_5 (o : Nat) (S : XS) (w : Wd) : gR (emX o S w) [0] o 5 = some (o + 9) := gR_of (emX_0 o S w) (by decide) rfl
theorem xg_6 (o : Nat) (S : XS) (w : Wd) : gR (emX o S w) [0] o 6 = some (o + 12) := gR_of (emX_0 o S w) (by decide) rfl
theorem xg_7 (o : Nat) (S : XS) (w : Wd) : gR (emX o S w) [0] o 7 = some (o + 13) := gR_of (emX_0 o S w) (by decide) rfl
theorem xg_8 (o : Nat) (S : XS) (w : Wd) : gR (emX o S w) [0] o 8 = some (o + 14) := gR_of (emX_0 o S w) (by decide) rfl
theorem xg_9 (o : Nat) (S : XS) (w : Wd) : gR (emX o S w) [0] o 9 = some (o + 15) := gR_of (emX_0 o S w) (by decide) rfl
theorem xg_10 (o : Nat) (S : XS) (w : Wd) : gI (emX o S w) [0] o 10 = some (xi S 10) := gI_of (emX_0 o S w) (by decide) rfl
theorem xp_10 (o : Nat) (S : XS) (w : Wd) (x : Int32) : pF (emX o S w) [0] o 10 (.int x) = some (emX o (xSI S 10 x) w) := by
  rw [pF_of (.int x) (emX_0 o S w) (by decide) (show 10 < 24 by decide)]; exact congrArg some (emX_up (d := 0) (by decide) rfl (fun d h => by unfold xCell; rw [if_neg h, if_neg h]; rfl))
theorem xg_11 (o : Nat) (S : XS) (w : Wd) : gI (emX o S w) [0] o 11 = some (xi S 11) := gI_of (emX_0 o S w) (by decide) rfl
theorem xp_11 (o : Nat) (S : XS) (w : Wd) (x : Int32) : pF (emX o S w) [0] o 11 (.int x) = some (emX o (xSI S 11 x) w) := by
  rw [pF_of (.int x) (emX_0 o S w) (by decide) (show 11 < 24 by decide)]; exact congrArg some (emX_up (d := 0) (by decide) rfl (fun d h => by unfold xCell; rw [if_neg h, if_neg h]; rfl))
theorem xg_12 (o : Nat) (S : XS) (w : Wd) : gR (emX o S w) [0] o 12 = some (o + 16) := gR_of (emX_0 o S w) (by decide) rfl
theorem xg_13 (o : Nat) (S : XS) (w : Wd) : gI (emX o S w) [0] o 13 = some (xi S 13) := gI_of (emX_0 o S w) (by decide) rfl
theorem xp_13 (o : Nat) (S : XS) (w : Wd) (x : Int32) : pF (emX o S w) [0] o 13 (.int x) = some (emX o (xSI S 13 x) w) := by
  rw [pF_of (.int x) (emX_0 o S w) (by decide) (show 13 < 24 by decide)]; exact congrArg some (emX_up (d := 0) (by decide) rfl (fun d h => by unfold xCell; rw [if_neg h, if_neg h]; rfl))
theorem xg_14 (o : Nat) (S : XS) (w : Wd) : gR (emX o S w) [0] o 14 = some (o + 17) := gR_of (emX_0 o S w) (by decide) rfl
theorem xg_15 (o : Nat) (S : XS) (w : Wd) : gR (emX o S w) [0] o 15 = some (o + 18) := gR_of (emX_0 o S w) (by decide) rfl
theorem xg_16 (o : Nat) (S : XS) (w : Wd) : gR (emX o S w) [0] o 16 = some (o + 19) := gR_of (emX_0 o S w) (by decide) rfl
theorem xg_17 (o : Nat) (S : XS) (w : Wd) : gR (emX o S w) [0] o 17 = some (o + 20) := gR_of (emX_0 o S w) (by decide) rfl
theorem xg_18 (o : Nat) (S : XS) (w : Wd) : gR (emX o S w) [0] o 18 = some (o + 21) := gR_of (emX_0 o S w) (by decide) rfl
theorem xg_19 (o : Nat) (S : XS) (w : Wd) : gI (emX o S w) [0] o 19 = some (xi S 19) := gI_of (emX_0 o S w) (by decide) rfl
theorem xp_19 (o : Nat) (S : XS) (w : Wd) (x : Int32) : pF (emX o S w) [0] o 19 (.int x) = some (emX o (xSI S 19 x) w) := by
  rw [pF_of (.int x) (emX_0 o S w) (by decide) (show 19 < 24 by decide)]; exact congrArg some (emX_up (d := 0) (by decide) rfl (fun d h => by unfold xCell; rw [if_neg h, if_neg h]; rfl))
theorem xg_20 (o : Nat) (S : XS) (w : Wd) : gI (emX o S w) [0] o 20 = some (xi S 20) := gI_of (emX_0 o S w) (by decide) rfl
theorem xp_20 (o : Nat) (S : XS) (w : Wd) (x : Int32) : pF (emX o S w) [0] o 20 (.int x) = some (emX o (xSI S 20 x) w) := by
  rw [pF_of (.int x) (emX_0 o S w) (by decide) (show 20 < 24 by decide)]; exact congrArg some (emX_up (d := 0) (by decide) rfl (fun d h => by unfold xCell; rw [if_neg h, if_neg h]; rfl))
theorem xg_21 (o : Nat) (S : XS) (w : Wd) : gI (emX o S w) [0] o 21 = some (xi S 21) := gI_of (emX_0 o S w) (by decide) rfl
theorem xp_21 (o : Nat) (S : XS) (w : Wd) (x : Int32) : pF (emX o S w) [0] o 21 (.int x) = some (emX o (xSI S 21 x) w) := by
  rw [pF_of (.int x) (emX_0 o S w) (by decide) (show 21 < 24 by decide)]; exact congrArg some (emX_up (d := 0) (by decide) rfl (fun d h => by unfold xCell; rw [if_neg h, if_neg h]; rfl))
theorem xg_22 (o : Nat) (S : XS) (w : Wd) : gR (emX o S w) [0] o 22 = some (o + 22) := gR_of (emX_0 o S w) (by decide) rfl
theorem xg_23 (o : Nat) (S : XS) (w : Wd) : gR (emX o S w) [0] o 23 = some (o + 27) := gR_of (emX_0 o S w) (by decide) rfl
theorem xg_s1 (o : Nat) (S : XS) (w : Wd) : gR (emX o S w) [2, 8, 9, 10, 11] (o + 9) 1 = some (o + 10) := gR_of (emX_9 o S w) (by decide) rfl
theorem xg_s2 (o : Nat) (S : XS) (w : Wd) : gR (emX o S w) [2, 8, 9, 10, 11] (o + 9) 2 = some (o + 11) := gR_of (emX_9 o S w) (by decide) rfl
theorem xg_s3 (o : Nat) (S : XS) (w : Wd) : gI (emX o S w) [2, 8, 9, 10, 11] (o + 9) 3 = some (xi S 41) := gI_of (emX_9 o S w) (by decide) rfl
theorem xp_s3 (o : Nat) (S : XS) (w : Wd) (x : Int32) : pF (emX o S w) [2, 8, 9, 10, 11] (o + 9) 3 (.int x) = some (emX o (xSI S 41 x) w) := by
  rw [pF_of (.int x) (emX_9 o S w) (by decide) (show 3 < 4 by decide)]
  refine congrArg some (emX_up (d := 9) (by decide) rfl (fun d h => ?_))
  unfold xCell
  by_cases h0 : d = 0
  · rw [if_pos h0, if_pos h0]; rfl
  · rw [if_neg h0, if_neg h0]
    by_cases h1 : d = 12
    · rw [if_neg h, if_pos h1, if_neg h, if_pos h1]; rfl
    · rw [if_neg h, if_neg h, if_neg h1, if_neg h1]; rfl
theorem xg_b0 (o : Nat) (S : XS) (w : Wd) : gI (emX o S w) [3] (o + 12) 0 = some (xi S 30) := gI_of (emX_12 o S w) (by decide) rfl
theorem xp_b0 (o : Nat) (S : XS) (w : Wd) (x : Int32) : pF (emX o S w) [3] (o + 12) 0 (.int x) = some (emX o (xSI S 30 x) w) := by
  rw [pF_of (.int x) (emX_12 o S w) (by decide) (show 0 < 3 by decide)]
  refine congrArg some (emX_up (d := 12) (by decide) rfl (fun d h => ?_))
  unfold xCell
  by_cases h0 : d = 0
  · rw [if_pos h0, if_pos h0]; rfl
  · rw [if_neg h0, if_neg h0]
    by_cases h1 : d = 9
    · rw [if_pos h1, if_pos h1]; rfl
    · rw [if_neg h1, if_neg h1, if_neg h, if_neg h]; rfl
theorem xg_b1 (o : Nat) (S : XS) (w : Wd) : gI (emX o S w) [3] (o + 12) 1 = some (xi S 31) := gI_of (emX_12 o S w) (by decide) rfl
theorem xp_b1 (o : Nat) (S : XS) (w : Wd) (x : Int32) : pF (emX o S w) [3] (o + 12) 1 (.int x) = some (emX o (xSI S 31 x) w) := by
  rw [pF_of (.int x) (emX_12 o S w) (by decide) (show 1 < 3 by decide)]
  refine congrArg some (emX_up (d := 12) (by decide) rfl (fun d h => ?_))
  unfold xCell
  by_cases h0 : d = 0
  · rw [if_pos h0, if_pos h0]; rfl
  · rw [if_neg h0, if_neg h0]
    by_cases h1 : d = 9
    · rw [if_pos h1, if_pos h1]; rfl
    · rw [if_neg h1, if_neg h1, if_neg h, if_neg h]; rfl
theorem xg_b2 (o : Nat) (S : XS) (w : Wd) : gR (emX o S w) [3] (o + 12) 2 = some o := gR_of (emX_12 o S w) (by decide) rfl
theorem xk_0 (o : Nat) (S : XS) (w : Wd) : ckC (emX o S w) [0] o = some 0 := ckC_of (emX_0 o S w) (by decide)
theorem xk_s (o : Nat) (S : XS) (w : Wd) : ckC (emX o S w) famT (o + 9) = some 2 := ckC_of (emX_9 o S w) (by decide)
theorem xk_b (o : Nat) (S : XS) (w : Wd) : ckC (emX o S w) [3] (o + 12) = some 3 := ckC_of (emX_12 o S w) (by decide)
theorem xm_8 (o : Nat) (S : XS) (w : Wd) : emX o S w (o + 8) = some (.inl (2, 1600, .inl (xa S 8))) := emX_at o S w 8 (by decide)
theorem xr_8 (o : Nat) (S : XS) (w : Wd) {z : Int} (h : 0 ≤ z ∧ z < 1600) : aI 2 (emX o S w) (o + 8) (J z) = some (xa S 8 z.toNat) := aI_of (xm_8 o S w) h (by decide)
theorem xw_8 (o : Nat) (S : XS) (w : Wd) {z : Int} (x : Int32) (h : 0 ≤ z ∧ z < 1600) : sI 2 (emX o S w) (o + 8) (J z) x = some (emX o (xSA S 8 z.toNat (nar 2 x)) w) := by
  rw [sI_of x (xm_8 o S w) h (by decide)]
  exact congrArg some (emX_up (by decide) rfl (fun d hd => xCell_A o S 8 _ _ d hd))
theorem xn_8 (o : Nat) (S : XS) (w : Wd) : aLen (emX o S w) (o + 8) = some (J 1600) := aLen_of (xm_8 o S w) (by decide)
theorem xm_10 (o : Nat) (S : XS) (w : Wd) : emX o S w (o + 10) = some (.inl (0, 8, .inl (xa S 10))) := emX_at o S w 10 (by decide)
theorem xr_10 (o : Nat) (S : XS) (w : Wd) {z : Int} (h : 0 ≤ z ∧ z < 8) : aI 0 (emX o S w) (o + 10) (J z) = some (xa S 10 z.toNat) := aI_of (xm_10 o S w) h (by decide)
theorem xw_10 (o : Nat) (S : XS) (w : Wd) {z : Int} (x : Int32) (h : 0 ≤ z ∧ z < 8) : sI 0 (emX o S w) (o + 10) (J z) x = some (emX o (xSA S 10 z.toNat (x)) w) := by
  rw [sI_of x (xm_10 o S w) h (by decide)]
  exact congrArg some (emX_up (by decide) rfl (fun d hd => xCell_A o S 10 _ _ d hd))
theorem xn_10 (o : Nat) (S : XS) (w : Wd) : aLen (emX o S w) (o + 10) = some (J 8) := aLen_of (xm_10 o S w) (by decide)
theorem xm_11 (o : Nat) (S : XS) (w : Wd) : emX o S w (o + 11) = some (.inl (0, 8, .inl (xa S 11))) := emX_at o S w 11 (by decide)
theorem xr_11 (o : Nat) (S : XS) (w : Wd) {z : Int} (h : 0 ≤ z ∧ z < 8) : aI 0 (emX o S w) (o + 11) (J z) = some (xa S 11 z.toNat) := aI_of (xm_11 o S w) h (by decide)
theorem xw_11 (o : Nat) (S : XS) (w : Wd) {z : Int} (x : Int32) (h : 0 ≤ z ∧ z < 8) : sI 0 (emX o S w) (o + 11) (J z) x = some (emX o (xSA S 11 z.toNat (x)) w) := by
  rw [sI_of x (xm_11 o S w) h (by decide)]
  exact congrArg some (emX_up (by decide) rfl (fun d hd => xCell_A o S 11 _ _ d hd))
theorem xn_11 (o : Nat) (S : XS) (w : Wd) : aLen (emX o S w) (o + 11) = some (J 8) := aLen_of (xm_11 o S w) (by decide)
theorem xm_13 (o : Nat) (S : XS) (w : Wd) : emX o S w (o + 13) = some (.inl (3, 5040, .inl (xa S 13))) := emX_at o S w 13 (by decide)
theorem xr_13 (o : Nat) (S : XS) (w : Wd) {z : Int} (h : 0 ≤ z ∧ z < 5040) : aI 3 (emX o S w) (o + 13) (J z) = some (xa S 13 z.toNat) := aI_of (xm_13 o S w) h (by decide)
theorem xw_13 (o : Nat) (S : XS) (w : Wd) {z : Int} (x : Int32) (h : 0 ≤ z ∧ z < 5040) : sI 3 (emX o S w) (o + 13) (J z) x = some (emX o (xSA S 13 z.toNat (nar 3 x)) w) := by
  rw [sI_of x (xm_13 o S w) h (by decide)]
  exact congrArg some (emX_up (by decide) rfl (fun d hd => xCell_A o S 13 _ _ d hd))
theorem xn_13 (o : Nat) (S : XS) (w : Wd) : aLen (emX o S w) (o + 13) = some (J 5040) := aLen_of (xm_13 o S w) (by decide)
theorem xm_14 (o : Nat) (S : XS) (w : Wd) : emX o S w (o + 14) = some (.inl (0, 6, .inl (xa S 14))) := emX_at o S w 14 (by decide)
theorem xr_14 (o : Nat) (S : XS) (w : Wd) {z : Int} (h : 0 ≤ z ∧ z < 6) : aI 0 (emX o S w) (o + 14) (J z) = some (xa S 14 z.toNat) := aI_of (xm_14 o S w) h (by decide)
theorem xw_14 (o : Nat) (S : XS) (w : Wd) {z : Int} (x : Int32) (h : 0 ≤ z ∧ z < 6) : sI 0 (emX o S w) (o + 14) (J z) x = some (emX o (xSA S 14 z.toNat (x)) w) := by
  rw [sI_of x (xm_14 o S w) h (by decide)]
  exact congrArg some (emX_up (by decide) rfl (fun d hd => xCell_A o S 14 _ _ d hd))
theorem xn_14 (o : Nat) (S : XS) (w : Wd) : aLen (emX o S w) (o + 14) = some (J 6) := aLen_of (xm_14 o S w) (by decide)
theorem xm_15 (o : Nat) (S : XS) (w : Wd) : emX o S w (o + 15) = some (.inl (0, 1200, .inl (xa S 15))) := emX_at o S w 15 (by decide)
theorem xr_15 (o : Nat) (S : XS) (w : Wd) {z : Int} (h : 0 ≤ z ∧ z < 1200) : aI 0 (emX o S w) (o + 15) (J z) = some (xa S 15 z.toNat) := aI_of (xm_15 o S w) h (by decide)
theorem xw_15 (o : Nat) (S : XS) (w : Wd) {z : Int} (x : Int32) (h : 0 ≤ z ∧ z < 1200) : sI 0 (emX o S w) (o + 15) (J z) x = some (emX o (xSA S 15 z.toNat (x)) w) := by
  rw [sI_of x (xm_15 o S w) h (by decide)]
  exact congrArg some (emX_up (by decide) rfl (fun d hd => xCell_A o S 15 _ _ d hd))
theorem xn_15 (o : Nat) (S : XS) (w : Wd) : aLen (emX o S w) (o + 15) = some (J 1200) := aLen_of (xm_15 o S w) (by decide)
theorem xm_16 (o : Nat) (S : XS) (w : Wd) : emX o S w (o + 16) = some (.inl (0, 512, .inl (xa S 16))) := emX_at o S w 16 (by decide)
theorem xr_16 (o : Nat) (S : XS) (w : Wd) {z : Int} (h : 0 ≤ z ∧ z < 512) : aI 0 (emX o S w) (o + 16) (J z) = some (xa S 16 z.toNat) := aI_of (xm_16 o S w) h (by decide)
theorem xw_16 (o : Nat) (S : XS) (w : Wd) {z : Int} (x : Int32) (h : 0 ≤ z ∧ z < 512) : sI 0 (emX o S w) (o + 16) (J z) x = some (emX o (xSA S 16 z.toNat (x)) w) := by
  rw [sI_of x (xm_16 o S w) h (by decide)]
  exact congrArg some (emX_up (by decide) rfl (fun d hd => xCell_A o S 16 _ _ d hd))
theorem xn_16 (o : Nat) (S : XS) (w : Wd) : aLen (emX o S w) (o + 16) = some (J 512) := aLen_of (xm_16 o S w) (by decide)
theorem xm_17 (o : Nat) (S : XS) (w : Wd) : emX o S w (o + 17) = some (.inl (1, 18688, .inr (.inl (xb S 17)))) := emX_at o S w 17 (by decide)
theorem xr_17 (o : Nat) (S : XS) (w : Wd) {z : Int} (h : 0 ≤ z ∧ z < 18688) : aL (emX o S w) (o + 17) (J z) = some (xb S 17 z.toNat) := aL_of (xm_17 o S w) h (by decide)
theorem xw_17 (o : Nat) (S : XS) (w : Wd) {z : Int} (x : Int64) (h : 0 ≤ z ∧ z < 18688) : sL (emX o S w) (o + 17) (J z) x = some (emX o (xSB S 17 z.toNat x) w) := by
  rw [sL_of x (xm_17 o S w) h (by decide)]
  exact congrArg some (emX_up (by decide) rfl (fun d hd => xCell_B o S 17 _ _ d hd))
theorem xn_17 (o : Nat) (S : XS) (w : Wd) : aLen (emX o S w) (o + 17) = some (J 18688) := aLen_of (xm_17 o S w) (by decide)
theorem xm_18 (o : Nat) (S : XS) (w : Wd) : emX o S w (o + 18) = some (.inl (1, 18688, .inr (.inl (xb S 18)))) := emX_at o S w 18 (by decide)
theorem xr_18 (o : Nat) (S : XS) (w : Wd) {z : Int} (h : 0 ≤ z ∧ z < 18688) : aL (emX o S w) (o + 18) (J z) = some (xb S 18 z.toNat) := aL_of (xm_18 o S w) h (by decide)
theorem xw_18 (o : Nat) (S : XS) (w : Wd) {z : Int} (x : Int64) (h : 0 ≤ z ∧ z < 18688) : sL (emX o S w) (o + 18) (J z) x = some (emX o (xSB S 18 z.toNat x) w) := by
  rw [sL_of x (xm_18 o S w) h (by decide)]
  exact congrArg some (emX_up (by decide) rfl (fun d hd => xCell_B o S 18 _ _ d hd))
theorem xn_18 (o : Nat) (S : XS) (w : Wd) : aLen (emX o S w) (o + 18) = some (J 18688) := aLen_of (xm_18 o S w) (by decide)
theorem xm_19 (o : Nat) (S : XS) (w : Wd) : emX o S w (o + 19) = some (.inl (0, 8, .inl (xa S 19))) := emX_at o S w 19 (by decide)
theorem xr_19 (o : Nat) (S : XS) (w : Wd) {z : Int} (h : 0 ≤ z ∧ z < 8) : aI 0 (emX o S w) (o + 19) (J z) = some (xa S 19 z.toNat) := aI_of (xm_19 o S w) h (by decide)
theorem xw_19 (o : Nat) (S : XS) (w : Wd) {z : Int} (x : Int32) (h : 0 ≤ z ∧ z < 8) : sI 0 (emX o S w) (o + 19) (J z) x = some (emX o (xSA S 19 z.toNat (x)) w) := by
  rw [sI_of x (xm_19 o S w) h (by decide)]
  exact congrArg some (emX_up (by decide) rfl (fun d hd => xCell_A o S 19 _ _ d hd))
theorem xn_19 (o : Nat) (S : XS) (w : Wd) : aLen (emX o S w) (o + 19) = some (J 8) := aLen_of (xm_19 o S w) (by decide)
theorem xm_20 (o : Nat) (S : XS) (w : Wd) : emX o S w (o + 20) = some (.inl (0, 48, .inl (xa S 20))) := emX_at o S w 20 (by decide)
theorem xr_20 (o : Nat) (S : XS) (w : Wd) {z : Int} (h : 0 ≤ z ∧ z < 48) : aI 0 (emX o S w) (o + 20) (J z) = some (xa S 20 z.toNat) := aI_of (xm_20 o S w) h (by decide)
theorem xw_20 (o : Nat) (S : XS) (w : Wd) {z : Int} (x : Int32) (h : 0 ≤ z ∧ z < 48) : sI 0 (emX o S w) (o + 20) (J z) x = some (emX o (xSA S 20 z.toNat (x)) w) := by
  rw [sI_of x (xm_20 o S w) h (by decide)]
  exact congrArg some (emX_up (by decide) rfl (fun d hd => xCell_A o S 20 _ _ d hd))
theorem xn_20 (o : Nat) (S : XS) (w : Wd) : aLen (emX o S w) (o + 20) = some (J 48) := aLen_of (xm_20 o S w) (by decide)
theorem xm_21 (o : Nat) (S : XS) (w : Wd) : emX o S w (o + 21) = some (.inl (3, 60, .inl (xa S 21))) := emX_at o S w 21 (by decide)
theorem xr_21 (o : Nat) (S : XS) (w : Wd) {z : Int} (h : 0 ≤ z ∧ z < 60) : aI 3 (emX o S w) (o + 21) (J z) = some (xa S 21 z.toNat) := aI_of (xm_21 o S w) h (by decide)
theorem xw_21 (o : Nat) (S : XS) (w : Wd) {z : Int} (x : Int32) (h : 0 ≤ z ∧ z < 60) : sI 3 (emX o S w) (o + 21) (J z) x = some (emX o (xSA S 21 z.toNat (nar 3 x)) w) := by
  rw [sI_of x (xm_21 o S w) h (by decide)]
  exact congrArg some (emX_up (by decide) rfl (fun d hd => xCell_A o S 21 _ _ d hd))
theorem xn_21 (o : Nat) (S : XS) (w : Wd) : aLen (emX o S w) (o + 21) = some (J 60) := aLen_of (xm_21 o S w) (by decide)
