/-! THE WORLD OF A HAND: its cells laid over a heap (printed by genw.py) -/
set_option maxRecDepth 100000
def wobj (m : Nat) (I : Nat → Int32) : List Value := [.ref (m + 1), .ref (m + 2), .ref (m + 3), .ref (m + 4), .ref (m + 5), .ref (m + 6), .ref (m + 7), .int (I 7), .int (I 8), .int (I 9), .int (I 10), .int (I 11)]
/-- int fields by number; int arrays by offset -/
abbrev WS : Type := (Nat → Int32) × (Nat → Nat → Int32) × Unit
def wcell (m : Nat) (S : WS) (j : Nat) : Option va_E := match j with
  | 0 => some (.inr (23, wobj m S.1))
  | 1 => some (.inl (0, 32, .inl (S.2.1 1)))
  | 2 => some (.inl (0, 8, .inl (S.2.1 2)))
  | 3 => some (.inl (0, 24, .inl (S.2.1 3)))
  | 4 => some (.inl (0, 24, .inl (S.2.1 4)))
  | 5 => some (.inl (0, 24, .inl (S.2.1 5)))
  | 6 => some (.inl (0, 24, .inl (S.2.1 6)))
  | 7 => some (.inl (0, 6, .inl (S.2.1 7)))
  | _ => none
def wput (h : pH) (m : Nat) (S : WS) : pH := (fun q => if m ≤ q ∧ q < m + 8 then wcell m S (q - m) else h.1 q, h.2)
section
variable {h : pH} {m : Nat} {S : WS} {i : Nat} {v : Int32} {lv : Int64} {q : Option Nat}
theorem wcell_f {I I1 : Nat → Int32} {T : (Nat → Nat → Int32) × Unit} {i : Nat} (h0 : i ≠ 0) : wcell m (I, T) i = wcell m (I1, T) i := by
  unfold wcell
  split <;> first | rfl | exact absurd rfl h0
theorem wput_at {j : Nat} (hj : j < 8) : (wput h m S).1 (m + j) = wcell m S j := by
  simp [wput, hj]
theorem wput_out {a : Nat} (ha : a < m ∨ m + 8 ≤ a) : (wput h m S).1 a = h.1 a := by
  simp only [wput]
  rw [if_neg (by omega)]
theorem wput_2 : (wput h m S).2 = h.2 := rfl
theorem wput_o : (wput h m S).1 m = some (.inr (23, wobj m S.1)) := by have := wput_at (h := h) (m := m) (S := S) (j := 0) (by decide); exact this
theorem wput_up {S1 : WS} {j : Nat} {c : va_E} (hj : j < 8) (h1 : wcell m S1 j = some c) (h2 : ∀ i, i < 8 → i ≠ j → wcell m S1 i = wcell m S i) : pup (wput h m S) (m + j) c = wput h m S1 := by
  unfold pup wput
  simp only [Prod.mk.injEq, and_true]
  funext q
  by_cases hq : q = m + j
  · subst hq
    rw [if_pos rfl, if_pos ⟨by omega, by omega⟩, Nat.add_sub_cancel_left, h1]
  · rw [if_neg hq]
    by_cases hr : m ≤ q ∧ q < m + 8
    · rw [if_pos hr, if_pos hr, h2 (q - m) (by omega) (by omega)]
    · rw [if_neg hr, if_neg hr]
theorem wput_put {S1 : WS} : wput (wput h m S) m S1 = wput h m S1 := by
  unfold wput
  simp only [Prod.mk.injEq, and_true]
  funext q
  by_cases hr : m ≤ q ∧ q < m + 8
  · rw [if_pos hr, if_pos hr]
  · rw [if_neg hr, if_neg hr, if_neg hr]
theorem wCl : pcl (wput h m S) m = 23 := pcl_of wput_o
theorem wF0 : pfl (wput h m S) 23 m 0 = .ref (m + 1) := pfl_of wput_o rfl rfl
theorem wF1 : pfl (wput h m S) 23 m 1 = .ref (m + 2) := pfl_of wput_o rfl rfl
theorem wF2 : pfl (wput h m S) 23 m 2 = .ref (m + 3) := pfl_of wput_o rfl rfl
theorem wF3 : pfl (wput h m S) 23 m 3 = .ref (m + 4) := pfl_of wput_o rfl rfl
theorem wF4 : pfl (wput h m S) 23 m 4 = .ref (m + 5) := pfl_of wput_o rfl rfl
theorem wF5 : pfl (wput h m S) 23 m 5 = .ref (m + 6) := pfl_of wput_o rfl rfl
theorem wF6 : pfl (wput h m S) 23 m 6 = .ref (m + 7) := pfl_of wput_o rfl rfl
theorem wF7 : pfl (wput h m S) 23 m 7 = .int (S.1 7) := pfl_of wput_o rfl rfl
theorem wP7 : psf (wput h m S) m 7 (.int v) = wput h m (upd S.1 7 v, S.2) := by
  rw [psf_of wput_o]
  exact wput_up (j := 0) (by decide) rfl (fun i hi h0 => wcell_f h0)
theorem wF8 : pfl (wput h m S) 23 m 8 = .int (S.1 8) := pfl_of wput_o rfl rfl
theorem wP8 : psf (wput h m S) m 8 (.int v) = wput h m (upd S.1 8 v, S.2) := by
  rw [psf_of wput_o]
  exact wput_up (j := 0) (by decide) rfl (fun i hi h0 => wcell_f h0)
theorem wF9 : pfl (wput h m S) 23 m 9 = .int (S.1 9) := pfl_of wput_o rfl rfl
theorem wP9 : psf (wput h m S) m 9 (.int v) = wput h m (upd S.1 9 v, S.2) := by
  rw [psf_of wput_o]
  exact wput_up (j := 0) (by decide) rfl (fun i hi h0 => wcell_f h0)
theorem wF10 : pfl (wput h m S) 23 m 10 = .int (S.1 10) := pfl_of wput_o rfl rfl
theorem wP10 : psf (wput h m S) m 10 (.int v) = wput h m (upd S.1 10 v, S.2) := by
  rw [psf_of wput_o]
  exact wput_up (j := 0) (by decide) rfl (fun i hi h0 => wcell_f h0)
theorem wF11 : pfl (wput h m S) 23 m 11 = .int (S.1 11) := pfl_of wput_o rfl rfl
theorem wP11 : psf (wput h m S) m 11 (.int v) = wput h m (upd S.1 11 v, S.2) := by
  rw [psf_of wput_o]
  exact wput_up (j := 0) (by decide) rfl (fun i hi h0 => wcell_f h0)
theorem wA1 : (wput h m S).1 (m + 1) = some (.inl (0, 32, .inl (S.2.1 1))) := wput_at (by decide)
theorem wL1 : pln (wput h m S) 0 (m + 1) = 32 := pln_of wA1
theorem wL1n : pln (wput h m S) 9 (m + 1) = 0 := pln_no wA1 (by decide)
theorem wC1 : pct (wput h m S) (m + 1) = S.2.1 1 := pct_of wA1
theorem wW1 : pst (wput h m S) (m + 1) i v = wput h m (S.1, ua S.2.1 1 i v, S.2.2) := by
  rw [pst_of wA1]
  refine wput_up (j := 1) (by decide) ?_ (fun i hi h0 => ?_)
  · rfl
  · match i, h0 with
    | 0, h0 => rfl
    | 1, h0 => exact absurd rfl h0
    | 2, h0 => rfl
    | 3, h0 => rfl
    | 4, h0 => rfl
    | 5, h0 => rfl
    | 6, h0 => rfl
    | 7, h0 => rfl
    | i + 8, _ => rfl
theorem wA2 : (wput h m S).1 (m + 2) = some (.inl (0, 8, .inl (S.2.1 2))) := wput_at (by decide)
theorem wL2 : pln (wput h m S) 0 (m + 2) = 8 := pln_of wA2
theorem wL2n : pln (wput h m S) 9 (m + 2) = 0 := pln_no wA2 (by decide)
theorem wC2 : pct (wput h m S) (m + 2) = S.2.1 2 := pct_of wA2
theorem wW2 : pst (wput h m S) (m + 2) i v = wput h m (S.1, ua S.2.1 2 i v, S.2.2) := by
  rw [pst_of wA2]
  refine wput_up (j := 2) (by decide) ?_ (fun i hi h0 => ?_)
  · rfl
  · match i, h0 with
    | 0, h0 => rfl
    | 1, h0 => rfl
    | 2, h0 => exact absurd rfl h0
    | 3, h0 => rfl
    | 4, h0 => rfl
    | 5, h0 => rfl
    | 6, h0 => rfl
    | 7, h0 => rfl
    | i + 8, _ => rfl
theorem wA3 : (wput h m S).1 (m + 3) = some (.inl (0, 24, .inl (S.2.1 3))) := wput_at (by decide)
theorem wL3 : pln (wput h m S) 0 (m + 3) = 24 := pln_of wA3
theorem wL3n : pln (wput h m S) 9 (m + 3) = 0 := pln_no wA3 (by decide)
theorem wC3 : pct (wput h m S) (m + 3) = S.2.1 3 := pct_of wA3
theorem wW3 : pst (wput h m S) (m + 3) i v = wput h m (S.1, ua S.2.1 3 i v, S.2.2) := by
  rw [pst_of wA3]
  refine wput_up (j := 3) (by decide) ?_ (fun i hi h0 => ?_)
  · rfl
  · match i, h0 with
    | 0, h0 => rfl
    | 1, h0 => rfl
    | 2, h0 => rfl
    | 3, h0 => exact absurd rfl h0
    | 4, h0 => rfl
    | 5, h0 => rfl
    | 6, h0 => rfl
    | 7, h0 => rfl
    | i + 8, _ => rfl
theorem wA4 : (wput h m S).1 (m + 4) = some (.inl (0, 24, .inl (S.2.1 4))) := wput_at (by decide)
theorem wL4 : pln (wput h m S) 0 (m + 4) = 24 := pln_of wA4
theorem wL4n : pln (wput h m S) 9 (m + 4) = 0 := pln_no wA4 (by decide)
theorem wC4 : pct (wput h m S) (m + 4) = S.2.1 4 := pct_of wA4
theorem wW4 : pst (wput h m S) (m + 4) i v = wput h m (S.1, ua S.2.1 4 i v, S.2.2) := by
  rw [pst_of wA4]
  refine wput_up (j := 4) (by decide) ?_ (fun i hi h0 => ?_)
  · rfl
  · match i, h0 with
    | 0, h0 => rfl
    | 1, h0 => rfl
    | 2, h0 => rfl
    | 3, h0 => rfl
    | 4, h0 => exact absurd rfl h0
    | 5, h0 => rfl
    | 6, h0 => rfl
    | 7, h0 => rfl
    | i + 8, _ => rfl
theorem wA5 : (wput h m S).1 (m + 5) = some (.inl (0, 24, .inl (S.2.1 5))) := wput_at (by decide)
theorem wL5 : pln (wput h m S) 0 (m + 5) = 24 := pln_of wA5
theorem wL5n : pln (wput h m S) 9 (m + 5) = 0 := pln_no wA5 (by decide)
theorem wC5 : pct (wput h m S) (m + 5) = S.2.1 5 := pct_of wA5
theorem wW5 : pst (wput h m S) (m + 5) i v = wput h m (S.1, ua S.2.1 5 i v, S.2.2) := by
  rw [pst_of wA5]
  refine wput_up (j := 5) (by decide) ?_ (fun i hi h0 => ?_)
  · rfl
  · match i, h0 with
    | 0, h0 => rfl
    | 1, h0 => rfl
    | 2, h0 => rfl
    | 3, h0 => rfl
    | 4, h0 => rfl
    | 5, h0 => exact absurd rfl h0
    | 6, h0 => rfl
    | 7, h0 => rfl
    | i + 8, _ => rfl
theorem wA6 : (wput h m S).1 (m + 6) = some (.inl (0, 24, .inl (S.2.1 6))) := wput_at (by decide)
theorem wL6 : pln (wput h m S) 0 (m + 6) = 24 := pln_of wA6
theorem wL6n : pln (wput h m S) 9 (m + 6) = 0 := pln_no wA6 (by decide)
theorem wC6 : pct (wput h m S) (m + 6) = S.2.1 6 := pct_of wA6
theorem wW6 : pst (wput h m S) (m + 6) i v = wput h m (S.1, ua S.2.1 6 i v, S.2.2) := by
  rw [pst_of wA6]
  refine wput_up (j := 6) (by decide) ?_ (fun i hi h0 => ?_)
  · rfl
  · match i, h0 with
    | 0, h0 => rfl
    | 1, h0 => rfl
    | 2, h0 => rfl
    | 3, h0 => rfl
    | 4, h0 => rfl
    | 5, h0 => rfl
    | 6, h0 => exact absurd rfl h0
    | 7, h0 => rfl
    | i + 8, _ => rfl
theorem wA7 : (wput h m S).1 (m + 7) = some (.inl (0, 6, .inl (S.2.1 7))) := wput_at (by decide)
theorem wL7 : pln (wput h m S) 0 (m + 7) = 6 := pln_of wA7
theorem wL7n : pln (wput h m S) 9 (m + 7) = 0 := pln_no wA7 (by decide)
theorem wC7 : pct (wput h m S) (m + 7) = S.2.1 7 := pct_of wA7
theorem wW7 : pst (wput h m S) (m + 7) i v = wput h m (S.1, ua S.2.1 7 i v, S.2.2) := by
  rw [pst_of wA7]
  refine wput_up (j := 7) (by decide) ?_ (fun i hi h0 => ?_)
  · rfl
  · match i, h0 with
    | 0, h0 => rfl
    | 1, h0 => rfl
    | 2, h0 => rfl
    | 3, h0 => rfl
    | 4, h0 => rfl
    | 5, h0 => rfl
    | 6, h0 => rfl
    | 7, h0 => exact absurd rfl h0
    | i + 8, _ => rfl
theorem wO_pfl {a F k : Nat} (ha : a < m ∨ m + 8 ≤ a) : pfl (wput h m S) F a k = pfl h F a k := by simp only [pfl, wput_out ha]
theorem wO_pcl {a F k : Nat} (ha : a < m ∨ m + 8 ≤ a) : pcl (wput h m S) a = pcl h a := by simp only [pcl, wput_out ha]
theorem wO_pln {a F k : Nat} (ha : a < m ∨ m + 8 ≤ a) : pln (wput h m S) F a = pln h F a := by simp only [pln, wput_out ha]
theorem wO_pct {a F k : Nat} (ha : a < m ∨ m + 8 ≤ a) : pct (wput h m S) a = pct h a := by simp only [pct, wput_out ha]
theorem wO_plnQ {a F k : Nat} (ha : a < m ∨ m + 8 ≤ a) : plnQ (wput h m S) a = plnQ h a := by simp only [plnQ, wput_out ha]
theorem wO_pctQ {a F k : Nat} (ha : a < m ∨ m + 8 ≤ a) : pctQ (wput h m S) a = pctQ h a := by simp only [pctQ, wput_out ha]
theorem wO_pkdQ {a F k : Nat} (ha : a < m ∨ m + 8 ≤ a) : pkdQ (wput h m S) a = pkdQ h a := by simp only [pkdQ, wput_out ha]
theorem wO_plnL {a F k : Nat} (ha : a < m ∨ m + 8 ≤ a) : plnL (wput h m S) a = plnL h a := by simp only [plnL, wput_out ha]
theorem wO_pctL {a F k : Nat} (ha : a < m ∨ m + 8 ≤ a) : pctL (wput h m S) a = pctL h a := by simp only [pctL, wput_out ha]
theorem wO_pup {a : Nat} {c : va_E} (ha : a < m ∨ m + 8 ≤ a) : pup (wput h m S) a c = wput (pup h a c) m S := by
  unfold pup wput
  simp only [Prod.mk.injEq, and_true]
  funext q
  by_cases hq : q = a
  · subst hq
    rw [if_pos rfl, if_neg (by omega), if_pos rfl]
  · rw [if_neg hq, if_neg hq]
theorem wO_psf {a k : Nat} {v : Value} (ha : a < m ∨ m + 8 ≤ a) : psf (wput h m S) a k v = wput (psf h a k v) m S := by
  unfold psf
  rw [wput_out ha]
  split
  · exact wO_pup ha
  · rfl
theorem wO_pst {a : Nat} (ha : a < m ∨ m + 8 ≤ a) : pst (wput h m S) a i v = wput (pst h a i v) m S := by
  unfold pst
  rw [wput_out ha]
  split
  · exact wO_pup ha
  · rfl
end
/-! THE WORLD OF A FIGURE TO COME: its cells laid over a heap (printed by genw.py) -/
def yobj (m : Nat) (I : Nat → Int32) : List Value := [.ref (m + 1), .ref (m + 2), .ref (m + 3), .ref (m + 4), .ref (m + 5), .ref (m + 6), .int (I 6), .int (I 7), .int (I 8), .int (I 9)]
/-- int fields by number; int arrays by offset -/
abbrev YS : Type := (Nat → Int32) × (Nat → Nat → Int32) × Unit
def ycell (m : Nat) (S : YS) (j : Nat) : Option va_E := match j with
  | 0 => some (.inr (24, yobj m S.1))
  | 1 => some (.inl (0, 24, .inl (S.2.1 1)))
  | 2 => some (.inl (0, 24, .inl (S.2.1 2)))
  | 3 => some (.inl (0, 24, .inl (S.2.1 3)))
  | 4 => some (.inl (0, 24, .inl (S.2.1 4)))
  | 5 => some (.inl (0, 6, .inl (S.2.1 5)))
  | 6 => some (.inl (0, 32, .inl (S.2.1 6)))
  | 7 => some (.inl (0, 32, .inl (S.2.1 7)))
  | _ => none
def yput (h : pH) (m : Nat) (S : YS) : pH := (fun q => if m ≤ q ∧ q < m + 8 then ycell m S (q - m) else h.1 q, h.2)
section
variable {h : pH} {m : Nat} {S : YS} {i : Nat} {v : Int32} {lv : Int64} {q : Option Nat}
theorem ycell_f {I I1 : Nat → Int32} {T : (Nat → Nat → Int32) × Unit} {i : Nat} (h0 : i ≠ 0) : ycell m (I, T) i = ycell m (I1, T) i := by
  unfold ycell
  split <;> first | rfl | exact absurd rfl h0
theorem yput_at {j : Nat} (hj : j < 8) : (yput h m S).1 (m + j) = ycell m S j := by
  simp [yput, hj]
theorem yput_out {a : Nat} (ha : a < m ∨ m + 8 ≤ a) : (yput h m S).1 a = h.1 a := by
  simp only [yput]
  rw [if_neg (by omega)]
theorem yput_2 : (yput h m S).2 = h.2 := rfl
theorem yput_o : (yput h m S).1 m = some (.inr (24, yobj m S.1)) := by have := yput_at (h := h) (m := m) (S := S) (j := 0) (by decide); exact this
theorem yput_up {S1 : YS} {j : Nat} {c : va_E} (hj : j < 8) (h1 : ycell m S1 j = some c) (h2 : ∀ i, i < 8 → i ≠ j → ycell m S1 i = ycell m S i) : pup (yput h m S) (m + j) c = yput h m S1 := by
  unfold pup yput
  simp only [Prod.mk.injEq, and_true]
  funext q
  by_cases hq : q = m + j
  · subst hq
    rw [if_pos rfl, if_pos ⟨by omega, by omega⟩, Nat.add_sub_cancel_left, h1]
  · rw [if_neg hq]
    by_cases hr : m ≤ q ∧ q < m + 8
    · rw [if_pos hr, if_pos hr, h2 (q - m) (by omega) (by omega)]
    · rw [if_neg hr, if_neg hr]
theorem yput_put {S1 : YS} : yput (yput h m S) m S1 = yput h m S1 := by
  unfold yput
  simp only [Prod.mk.injEq, and_true]
  funext q
  by_cases hr : m ≤ q ∧ q < m + 8
  · rw [if_pos hr, if_pos hr]
  · rw [if_neg hr, if_neg hr, if_neg hr]
theorem yCl : pcl (yput h m S) m = 24 := pcl_of yput_o
theorem yF0 : pfl (yput h m S) 24 m 0 = .ref (m + 1) := pfl_of yput_o rfl rfl
theorem yF1 : pfl (yput h m S) 24 m 1 = .ref (m + 2) := pfl_of yput_o rfl rfl
theorem yF2 : pfl (yput h m S) 24 m 2 = .ref (m + 3) := pfl_of yput_o rfl rfl
theorem yF3 : pfl (yput h m S) 24 m 3 = .ref (m + 4) := pfl_of yput_o rfl rfl
theorem yF4 : pfl (yput h m S) 24 m 4 = .ref (m + 5) := pfl_of yput_o rfl rfl
theorem yF5 : pfl (yput h m S) 24 m 5 = .ref (m + 6) := pfl_of yput_o rfl rfl
theorem yF6 : pfl (yput h m S) 24 m 6 = .int (S.1 6) := pfl_of yput_o rfl rfl
theorem yP6 : psf (yput h m S) m 6 (.int v) = yput h m (upd S.1 6 v, S.2) := by
  rw [psf_of yput_o]
  exact yput_up (j := 0) (by decide) rfl (fun i hi h0 => ycell_f h0)
theorem yF7 : pfl (yput h m S) 24 m 7 = .int (S.1 7) := pfl_of yput_o rfl rfl
theorem yP7 : psf (yput h m S) m 7 (.int v) = yput h m (upd S.1 7 v, S.2) := by
  rw [psf_of yput_o]
  exact yput_up (j := 0) (by decide) rfl (fun i hi h0 => ycell_f h0)
theorem yF8 : pfl (yput h m S) 24 m 8 = .int (S.1 8) := pfl_of yput_o rfl rfl
theorem yP8 : psf (yput h m S) m 8 (.int v) = yput h m (upd S.1 8 v, S.2) := by
  rw [psf_of yput_o]
  exact yput_up (j := 0) (by decide) rfl (fun i hi h0 => ycell_f h0)
theorem yF9 : pfl (yput h m S) 24 m 9 = .int (S.1 9) := pfl_of yput_o rfl rfl
theorem yP9 : psf (yput h m S) m 9 (.int v) = yput h m (upd S.1 9 v, S.2) := by
  rw [psf_of yput_o]
  exact yput_up (j := 0) (by decide) rfl (fun i hi h0 => ycell_f h0)
theorem yA1 : (yput h m S).1 (m + 1) = some (.inl (0, 24, .inl (S.2.1 1))) := yput_at (by decide)
theorem yL1 : pln (yput h m S) 0 (m + 1) = 24 := pln_of yA1
theorem yL1n : pln (yput h m S) 9 (m + 1) = 0 := pln_no yA1 (by decide)
theorem yC1 : pct (yput h m S) (m + 1) = S.2.1 1 := pct_of yA1
theorem yW1 : pst (yput h m S) (m + 1) i v = yput h m (S.1, ua S.2.1 1 i v, S.2.2) := by
  rw [pst_of yA1]
  refine yput_up (j := 1) (by decide) ?_ (fun i hi h0 => ?_)
  · rfl
  · match i, h0 with
    | 0, h0 => rfl
    | 1, h0 => exact absurd rfl h0
    | 2, h0 => rfl
    | 3, h0 => rfl
    | 4, h0 => rfl
    | 5, h0 => rfl
    | 6, h0 => rfl
    | 7, h0 => rfl
    | i + 8, _ => rfl
theorem yA2 : (yput h m S).1 (m + 2) = some (.inl (0, 24, .inl (S.2.1 2))) := yput_at (by decide)
theorem yL2 : pln (yput h m S) 0 (m + 2) = 24 := pln_of yA2
theorem yL2n : pln (yput h m S) 9 (m + 2) = 0 := pln_no yA2 (by decide)
theorem yC2 : pct (yput h m S) (m + 2) = S.2.1 2 := pct_of yA2
theorem yW2 : pst (yput h m S) (m + 2) i v = yput h m (S.1, ua S.2.1 2 i v, S.2.2) := by
  rw [pst_of yA2]
  refine yput_up (j := 2) (by decide) ?_ (fun i hi h0 => ?_)
  · rfl
  · match i, h0 with
    | 0, h0 => rfl
    | 1, h0 => rfl
    | 2, h0 => exact absurd rfl h0
    | 3, h0 => rfl
    | 4, h0 => rfl
    | 5, h0 => rfl
    | 6, h0 => rfl
    | 7, h0 => rfl
    | i + 8, _ => rfl
theorem yA3 : (yput h m S).1 (m + 3) = some (.inl (0, 24, .inl (S.2.1 3))) := yput_at (by decide)
theorem yL3 : pln (yput h m S) 0 (m + 3) = 24 := pln_of yA3
theorem yL3n : pln (yput h m S) 9 (m + 3) = 0 := pln_no yA3 (by decide)
theorem yC3 : pct (yput h m S) (m + 3) = S.2.1 3 := pct_of yA3
theorem yW3 : pst (yput h m S) (m + 3) i v = yput h m (S.1, ua S.2.1 3 i v, S.2.2) := by
  rw [pst_of yA3]
  refine yput_up (j := 3) (by decide) ?_ (fun i hi h0 => ?_)
  · rfl
  · match i, h0 with
    | 0, h0 => rfl
    | 1, h0 => rfl
    | 2, h0 => rfl
    | 3, h0 => exact absurd rfl h0
    | 4, h0 => rfl
    | 5, h0 => rfl
    | 6, h0 => rfl
    | 7, h0 => rfl
    | i + 8, _ => rfl
theorem yA4 : (yput h m S).1 (m + 4) = some (.inl (0, 24, .inl (S.2.1 4))) := yput_at (by decide)
theorem yL4 : pln (yput h m S) 0 (m + 4) = 24 := pln_of yA4
theorem yL4n : pln (yput h m S) 9 (m + 4) = 0 := pln_no yA4 (by decide)
theorem yC4 : pct (yput h m S) (m + 4) = S.2.1 4 := pct_of yA4
theorem yW4 : pst (yput h m S) (m + 4) i v = yput h m (S.1, ua S.2.1 4 i v, S.2.2) := by
  rw [pst_of yA4]
  refine yput_up (j := 4) (by decide) ?_ (fun i hi h0 => ?_)
  · rfl
  · match i, h0 with
    | 0, h0 => rfl
    | 1, h0 => rfl
    | 2, h0 => rfl
    | 3, h0 => rfl
    | 4, h0 => exact absurd rfl h0
    | 5, h0 => rfl
    | 6, h0 => rfl
    | 7, h0 => rfl
    | i + 8, _ => rfl
theorem yA5 : (yput h m S).1 (m + 5) = some (.inl (0, 6, .inl (S.2.1 5))) := yput_at (by decide)
theorem yL5 : pln (yput h m S) 0 (m + 5) = 6 := pln_of yA5
theorem yL5n : pln (yput h m S) 9 (m + 5) = 0 := pln_no yA5 (by decide)
theorem yC5 : pct (yput h m S) (m + 5) = S.2.1 5 := pct_of yA5
theorem yW5 : pst (yput h m S) (m + 5) i v = yput h m (S.1, ua S.2.1 5 i v, S.2.2) := by
  rw [pst_of yA5]
  refine yput_up (j := 5) (by decide) ?_ (fun i hi h0 => ?_)
  · rfl
  · match i, h0 with
    | 0, h0 => rfl
    | 1, h0 => rfl
    | 2, h0 => rfl
    | 3, h0 => rfl
    | 4, h0 => rfl
    | 5, h0 => exact absurd rfl h0
    | 6, h0 => rfl
    | 7, h0 => rfl
    | i + 8, _ => rfl
theorem yA6 : (yput h m S).1 (m + 6) = some (.inl (0, 32, .inl (S.2.1 6))) := yput_at (by decide)
theorem yL6 : pln (yput h m S) 0 (m + 6) = 32 := pln_of yA6
theorem yL6n : pln (yput h m S) 9 (m + 6) = 0 := pln_no yA6 (by decide)
theorem yC6 : pct (yput h m S) (m + 6) = S.2.1 6 := pct_of yA6
theorem yW6 : pst (yput h m S) (m + 6) i v = yput h m (S.1, ua S.2.1 6 i v, S.2.2) := by
  rw [pst_of yA6]
  refine yput_up (j := 6) (by decide) ?_ (fun i hi h0 => ?_)
  · rfl
  · match i, h0 with
    | 0, h0 => rfl
    | 1, h0 => rfl
    | 2, h0 => rfl
    | 3, h0 => rfl
    | 4, h0 => rfl
    | 5, h0 => rfl
    | 6, h0 => exact absurd rfl h0
    | 7, h0 => rfl
    | i + 8, _ => rfl
theorem yA7 : (yput h m S).1 (m + 7) = some (.inl (0, 32, .inl (S.2.1 7))) := yput_at (by decide)
theorem yL7 : pln (yput h m S) 0 (m + 7) = 32 := pln_of yA7
theorem yL7n : pln (yput h m S) 9 (m + 7) = 0 := pln_no yA7 (by decide)
theorem yC7 : pct (yput h m S) (m + 7) = S.2.1 7 := pct_of yA7
theorem yW7 : pst (yput h m S) (m + 7) i v = yput h m (S.1, ua S.2.1 7 i v, S.2.2) := by
  rw [pst_of yA7]
  refine yput_up (j := 7) (by decide) ?_ (fun i hi h0 => ?_)
  · rfl
  · match i, h0 with
    | 0, h0 => rfl
    | 1, h0 => rfl
    | 2, h0 => rfl
    | 3, h0 => rfl
    | 4, h0 => rfl
    | 5, h0 => rfl
    | 6, h0 => rfl
    | 7, h0 => exact absurd rfl h0
    | i + 8, _ => rfl
theorem yO_pfl {a F k : Nat} (ha : a < m ∨ m + 8 ≤ a) : pfl (yput h m S) F a k = pfl h F a k := by simp only [pfl, yput_out ha]
theorem yO_pcl {a F k : Nat} (ha : a < m ∨ m + 8 ≤ a) : pcl (yput h m S) a = pcl h a := by simp only [pcl, yput_out ha]
theorem yO_pln {a F k : Nat} (ha : a < m ∨ m + 8 ≤ a) : pln (yput h m S) F a = pln h F a := by simp only [pln, yput_out ha]
theorem yO_pct {a F k : Nat} (ha : a < m ∨ m + 8 ≤ a) : pct (yput h m S) a = pct h a := by simp only [pct, yput_out ha]
theorem yO_plnQ {a F k : Nat} (ha : a < m ∨ m + 8 ≤ a) : plnQ (yput h m S) a = plnQ h a := by simp only [plnQ, yput_out ha]
theorem yO_pctQ {a F k : Nat} (ha : a < m ∨ m + 8 ≤ a) : pctQ (yput h m S) a = pctQ h a := by simp only [pctQ, yput_out ha]
theorem yO_pkdQ {a F k : Nat} (ha : a < m ∨ m + 8 ≤ a) : pkdQ (yput h m S) a = pkdQ h a := by simp only [pkdQ, yput_out ha]
theorem yO_plnL {a F k : Nat} (ha : a < m ∨ m + 8 ≤ a) : plnL (yput h m S) a = plnL h a := by simp only [plnL, yput_out ha]
theorem yO_pctL {a F k : Nat} (ha : a < m ∨ m + 8 ≤ a) : pctL (yput h m S) a = pctL h a := by simp only [pctL, yput_out ha]
theorem yO_pup {a : Nat} {c : va_E} (ha : a < m ∨ m + 8 ≤ a) : pup (yput h m S) a c = yput (pup h a c) m S := by
  unfold pup yput
  simp only [Prod.mk.injEq, and_true]
  funext q
  by_cases hq : q = a
  · subst hq
    rw [if_pos rfl, if_neg (by omega), if_pos rfl]
  · rw [if_neg hq, if_neg hq]
theorem yO_psf {a k : Nat} {v : Value} (ha : a < m ∨ m + 8 ≤ a) : psf (yput h m S) a k v = yput (psf h a k v) m S := by
  unfold psf
  rw [yput_out ha]
  split
  · exact yO_pup ha
  · rfl
theorem yO_pst {a : Nat} (ha : a < m ∨ m + 8 ≤ a) : pst (yput h m S) a i v = yput (pst h a i v) m S := by
  unfold pst
  rw [yput_out ha]
  split
  · exact yO_pup ha
  · rfl
end
