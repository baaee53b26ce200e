/-! THE WORLD OF THE COMPONENT: its cells laid over a heap (printed by genw.py) -/
set_option maxRecDepth 100000
def xobj (m : Nat) (I : Nat → Int32) (Lx : Int64) : List Value := [.ref (m + 1), .int (I 1), .ref (m + 2), .int (I 3), .ref (m + 3), .int (I 5), .ref (m + 4), .ref (m + 5), .ref (m + 6), .ref (m + 7), .ref (m + 8), .ref (m + 9), .int (I 12), .int (I 13), .int (I 14), .int (I 15), .int (I 16), .long Lx, .ref (m + 10), .ref (m + 11), .int (I 20), .ref (m + 13), .int (I 22)]
/-- int fields by number; int and byte arrays by offset; arrays of references by offset; the field x -/
abbrev XS : Type := (Nat → Int32) × (Nat → Nat → Int32) × (Nat → Nat → Option Nat) × Int64
def xcell (m : Nat) (S : XS) (j : Nat) : Option va_E := match j with
  | 0 => some (.inr (1, xobj m S.1 S.2.2.2))
  | 1 => some (.inl (4, 6, .inr (.inr (.inr (.inr (S.2.2.1 1))))))
  | 2 => some (.inl (1, 200, .inl (S.2.1 2)))
  | 3 => some (.inl (5, 12, .inr (.inr (.inr (.inr (S.2.2.1 3))))))
  | 4 => some (.inl (0, 8, .inl (S.2.1 4)))
  | 5 => some (.inl (0, 1024, .inl (S.2.1 5)))
  | 6 => some (.inl (0, 1024, .inl (S.2.1 6)))
  | 7 => some (.inl (0, 1024, .inl (S.2.1 7)))
  | 8 => some (.inl (0, 32, .inl (S.2.1 8)))
  | 9 => some (.inl (6, 30, .inr (.inr (.inr (.inr (S.2.2.1 9))))))
  | 10 => some (.inl (7, 6, .inr (.inr (.inr (.inr (S.2.2.1 10))))))
  | 11 => some (.inr (2, [.ref (m + 12)]))
  | 12 => some (.inl (0, 128, .inl (S.2.1 12)))
  | 13 => some (.inl (0, 24, .inl (S.2.1 13)))
  | _ => none
def xput (h : pH) (m : Nat) (S : XS) : pH := (fun q => if m ≤ q ∧ q < m + 14 then xcell m S (q - m) else h.1 q, h.2)
section
variable {h : pH} {m : Nat} {S : XS} {i : Nat} {v : Int32} {lv : Int64} {q : Option Nat}
theorem xcell_f {I I1 : Nat → Int32} {A : Nat → Nat → Int32} {B : Nat → Nat → Option Nat} {l l1 : Int64} {i : Nat} (h0 : i ≠ 0) : xcell m (I, A, B, l) i = xcell m (I1, A, B, l1) i := by
  unfold xcell
  split <;> first | rfl | exact absurd rfl h0
theorem xput_at {j : Nat} (hj : j < 14) : (xput h m S).1 (m + j) = xcell m S j := by
  simp [xput, hj]
theorem xput_out {a : Nat} (ha : a < m ∨ m + 14 ≤ a) : (xput h m S).1 a = h.1 a := by
  simp only [xput]
  rw [if_neg (by omega)]
theorem xput_2 : (xput h m S).2 = h.2 := rfl
theorem xput_o : (xput h m S).1 m = some (.inr (1, xobj m S.1 S.2.2.2)) := by have := xput_at (h := h) (m := m) (S := S) (j := 0) (by decide); exact this
theorem xput_up {S1 : XS} {j : Nat} {c : va_E} (hj : j < 14) (h1 : xcell m S1 j = some c) (h2 : ∀ i, i < 14 → i ≠ j → xcell m S1 i = xcell m S i) : pup (xput h m S) (m + j) c = xput h m S1 := by
  unfold pup xput
  simp only [Prod.mk.injEq, and_true]
  funext q
  by_cases hq : q = m + j
  · subst hq
    rw [if_pos rfl, if_pos ⟨by omega, by omega⟩, Nat.add_sub_cancel_left, h1]
  · rw [if_neg hq]
    by_cases hr : m ≤ q ∧ q < m + 14
    · rw [if_pos hr, if_pos hr, h2 (q - m) (by omega) (by omega)]
    · rw [if_neg hr, if_neg hr]
theorem xput_put {S1 : XS} : xput (xput h m S) m S1 = xput h m S1 := by
  unfold xput
  simp only [Prod.mk.injEq, and_true]
  funext q
  by_cases hr : m ≤ q ∧ q < m + 14
  · rw [if_pos hr, if_pos hr]
  · rw [if_neg hr, if_neg hr, if_neg hr]
theorem xCl : pcl (xput h m S) m = 1 := pcl_of xput_o
theorem xF0 : pfl (xput h m S) 1 m 0 = .ref (m + 1) := pfl_of xput_o rfl rfl
theorem xF1 : pfl (xput h m S) 1 m 1 = .int (S.1 1) := pfl_of xput_o rfl rfl
theorem xP1 : psf (xput h m S) m 1 (.int v) = xput h m (upd S.1 1 v, S.2) := by
  rw [psf_of xput_o]
  exact xput_up (j := 0) (by decide) rfl (fun i hi h0 => xcell_f h0)
theorem xF2 : pfl (xput h m S) 1 m 2 = .ref (m + 2) := pfl_of xput_o rfl rfl
theorem xF3 : pfl (xput h m S) 1 m 3 = .int (S.1 3) := pfl_of xput_o rfl rfl
theorem xP3 : psf (xput h m S) m 3 (.int v) = xput h m (upd S.1 3 v, S.2) := by
  rw [psf_of xput_o]
  exact xput_up (j := 0) (by decide) rfl (fun i hi h0 => xcell_f h0)
theorem xF4 : pfl (xput h m S) 1 m 4 = .ref (m + 3) := pfl_of xput_o rfl rfl
theorem xF5 : pfl (xput h m S) 1 m 5 = .int (S.1 5) := pfl_of xput_o rfl rfl
theorem xP5 : psf (xput h m S) m 5 (.int v) = xput h m (upd S.1 5 v, S.2) := by
  rw [psf_of xput_o]
  exact xput_up (j := 0) (by decide) rfl (fun i hi h0 => xcell_f h0)
theorem xF6 : pfl (xput h m S) 1 m 6 = .ref (m + 4) := pfl_of xput_o rfl rfl
theorem xF7 : pfl (xput h m S) 1 m 7 = .ref (m + 5) := pfl_of xput_o rfl rfl
theorem xF8 : pfl (xput h m S) 1 m 8 = .ref (m + 6) := pfl_of xput_o rfl rfl
theorem xF9 : pfl (xput h m S) 1 m 9 = .ref (m + 7) := pfl_of xput_o rfl rfl
theorem xF10 : pfl (xput h m S) 1 m 10 = .ref (m + 8) := pfl_of xput_o rfl rfl
theorem xF11 : pfl (xput h m S) 1 m 11 = .ref (m + 9) := pfl_of xput_o rfl rfl
theorem xF12 : pfl (xput h m S) 1 m 12 = .int (S.1 12) := pfl_of xput_o rfl rfl
theorem xP12 : psf (xput h m S) m 12 (.int v) = xput h m (upd S.1 12 v, S.2) := by
  rw [psf_of xput_o]
  exact xput_up (j := 0) (by decide) rfl (fun i hi h0 => xcell_f h0)
theorem xF13 : pfl (xput h m S) 1 m 13 = .int (S.1 13) := pfl_of xput_o rfl rfl
theorem xP13 : psf (xput h m S) m 13 (.int v) = xput h m (upd S.1 13 v, S.2) := by
  rw [psf_of xput_o]
  exact xput_up (j := 0) (by decide) rfl (fun i hi h0 => xcell_f h0)
theorem xF14 : pfl (xput h m S) 1 m 14 = .int (S.1 14) := pfl_of xput_o rfl rfl
theorem xP14 : psf (xput h m S) m 14 (.int v) = xput h m (upd S.1 14 v, S.2) := by
  rw [psf_of xput_o]
  exact xput_up (j := 0) (by decide) rfl (fun i hi h0 => xcell_f h0)
theorem xF15 : pfl (xput h m S) 1 m 15 = .int (S.1 15) := pfl_of xput_o rfl rfl
theorem xP15 : psf (xput h m S) m 15 (.int v) = xput h m (upd S.1 15 v, S.2) := by
  rw [psf_of xput_o]
  exact xput_up (j := 0) (by decide) rfl (fun i hi h0 => xcell_f h0)
theorem xF16 : pfl (xput h m S) 1 m 16 = .int (S.1 16) := pfl_of xput_o rfl rfl
theorem xP16 : psf (xput h m S) m 16 (.int v) = xput h m (upd S.1 16 v, S.2) := by
  rw [psf_of xput_o]
  exact xput_up (j := 0) (by decide) rfl (fun i hi h0 => xcell_f h0)
theorem xF17 : pfl (xput h m S) 1 m 17 = .long S.2.2.2 := pfl_of xput_o rfl rfl
theorem xP17 : psf (xput h m S) m 17 (.long lv) = xput h m (S.1, S.2.1, S.2.2.1, lv) := by
  rw [psf_of xput_o]
  exact xput_up (j := 0) (by decide) rfl (fun i hi h0 => xcell_f h0)
theorem xF18 : pfl (xput h m S) 1 m 18 = .ref (m + 10) := pfl_of xput_o rfl rfl
theorem xF19 : pfl (xput h m S) 1 m 19 = .ref (m + 11) := pfl_of xput_o rfl rfl
theorem xF20 : pfl (xput h m S) 1 m 20 = .int (S.1 20) := pfl_of xput_o rfl rfl
theorem xP20 : psf (xput h m S) m 20 (.int v) = xput h m (upd S.1 20 v, S.2) := by
  rw [psf_of xput_o]
  exact xput_up (j := 0) (by decide) rfl (fun i hi h0 => xcell_f h0)
theorem xF21 : pfl (xput h m S) 1 m 21 = .ref (m + 13) := pfl_of xput_o rfl rfl
theorem xF22 : pfl (xput h m S) 1 m 22 = .int (S.1 22) := pfl_of xput_o rfl rfl
theorem xP22 : psf (xput h m S) m 22 (.int v) = xput h m (upd S.1 22 v, S.2) := by
  rw [psf_of xput_o]
  exact xput_up (j := 0) (by decide) rfl (fun i hi h0 => xcell_f h0)
theorem xA2 : (xput h m S).1 (m + 2) = some (.inl (1, 200, .inl (S.2.1 2))) := xput_at (by decide)
theorem xL2 : pln (xput h m S) 1 (m + 2) = 200 := pln_of xA2
theorem xL2n : pln (xput h m S) 2 (m + 2) = 0 := pln_no xA2 (by decide)
theorem xC2 : pct (xput h m S) (m + 2) = S.2.1 2 := pct_of xA2
theorem xW2 : pst (xput h m S) (m + 2) i v = xput h m (S.1, ua S.2.1 2 i v, S.2.2) := by
  rw [pst_of xA2]
  refine xput_up (j := 2) (by decide) ?_ (fun i hi h0 => ?_)
  · rfl
  · match i, h0 with
    | 0, h0 => rfl
    | 1, h0 => rfl
    | 2, h0 => exact absurd rfl h0
    | 3, h0 => rfl
    | 4, h0 => rfl
    | 5, h0 => rfl
    | 6, h0 => rfl
    | 7, h0 => rfl
    | 8, h0 => rfl
    | 9, h0 => rfl
    | 10, h0 => rfl
    | 11, h0 => rfl
    | 12, h0 => rfl
    | 13, h0 => rfl
    | i + 14, _ => rfl
theorem xA4 : (xput h m S).1 (m + 4) = some (.inl (0, 8, .inl (S.2.1 4))) := xput_at (by decide)
theorem xL4 : pln (xput h m S) 0 (m + 4) = 8 := pln_of xA4
theorem xL4n : pln (xput h m S) 9 (m + 4) = 0 := pln_no xA4 (by decide)
theorem xC4 : pct (xput h m S) (m + 4) = S.2.1 4 := pct_of xA4
theorem xW4 : pst (xput h m S) (m + 4) i v = xput h m (S.1, ua S.2.1 4 i v, S.2.2) := by
  rw [pst_of xA4]
  refine xput_up (j := 4) (by decide) ?_ (fun i hi h0 => ?_)
  · rfl
  · match i, h0 with
    | 0, h0 => rfl
    | 1, h0 => rfl
    | 2, h0 => rfl
    | 3, h0 => rfl
    | 4, h0 => exact absurd rfl h0
    | 5, h0 => rfl
    | 6, h0 => rfl
    | 7, h0 => rfl
    | 8, h0 => rfl
    | 9, h0 => rfl
    | 10, h0 => rfl
    | 11, h0 => rfl
    | 12, h0 => rfl
    | 13, h0 => rfl
    | i + 14, _ => rfl
theorem xA5 : (xput h m S).1 (m + 5) = some (.inl (0, 1024, .inl (S.2.1 5))) := xput_at (by decide)
theorem xL5 : pln (xput h m S) 0 (m + 5) = 1024 := pln_of xA5
theorem xL5n : pln (xput h m S) 9 (m + 5) = 0 := pln_no xA5 (by decide)
theorem xC5 : pct (xput h m S) (m + 5) = S.2.1 5 := pct_of xA5
theorem xW5 : pst (xput h m S) (m + 5) i v = xput h m (S.1, ua S.2.1 5 i v, S.2.2) := by
  rw [pst_of xA5]
  refine xput_up (j := 5) (by decide) ?_ (fun i hi h0 => ?_)
  · rfl
  · match i, h0 with
    | 0, h0 => rfl
    | 1, h0 => rfl
    | 2, h0 => rfl
    | 3, h0 => rfl
    | 4, h0 => rfl
    | 5, h0 => exact absurd rfl h0
    | 6, h0 => rfl
    | 7, h0 => rfl
    | 8, h0 => rfl
    | 9, h0 => rfl
    | 10, h0 => rfl
    | 11, h0 => rfl
    | 12, h0 => rfl
    | 13, h0 => rfl
    | i + 14, _ => rfl
theorem xA6 : (xput h m S).1 (m + 6) = some (.inl (0, 1024, .inl (S.2.1 6))) := xput_at (by decide)
theorem xL6 : pln (xput h m S) 0 (m + 6) = 1024 := pln_of xA6
theorem xL6n : pln (xput h m S) 9 (m + 6) = 0 := pln_no xA6 (by decide)
theorem xC6 : pct (xput h m S) (m + 6) = S.2.1 6 := pct_of xA6
theorem xW6 : pst (xput h m S) (m + 6) i v = xput h m (S.1, ua S.2.1 6 i v, S.2.2) := by
  rw [pst_of xA6]
  refine xput_up (j := 6) (by decide) ?_ (fun i hi h0 => ?_)
  · rfl
  · match i, h0 with
    | 0, h0 => rfl
    | 1, h0 => rfl
    | 2, h0 => rfl
    | 3, h0 => rfl
    | 4, h0 => rfl
    | 5, h0 => rfl
    | 6, h0 => exact absurd rfl h0
    | 7, h0 => rfl
    | 8, h0 => rfl
    | 9, h0 => rfl
    | 10, h0 => rfl
    | 11, h0 => rfl
    | 12, h0 => rfl
    | 13, h0 => rfl
    | i + 14, _ => rfl
theorem xA7 : (xput h m S).1 (m + 7) = some (.inl (0, 1024, .inl (S.2.1 7))) := xput_at (by decide)
theorem xL7 : pln (xput h m S) 0 (m + 7) = 1024 := pln_of xA7
theorem xL7n : pln (xput h m S) 9 (m + 7) = 0 := pln_no xA7 (by decide)
theorem xC7 : pct (xput h m S) (m + 7) = S.2.1 7 := pct_of xA7
theorem xW7 : pst (xput h m S) (m + 7) i v = xput h m (S.1, ua S.2.1 7 i v, S.2.2) := by
  rw [pst_of xA7]
  refine xput_up (j := 7) (by decide) ?_ (fun i hi h0 => ?_)
  · rfl
  · match i, h0 with
    | 0, h0 => rfl
    | 1, h0 => rfl
    | 2, h0 => rfl
    | 3, h0 => rfl
    | 4, h0 => rfl
    | 5, h0 => rfl
    | 6, h0 => rfl
    | 7, h0 => exact absurd rfl h0
    | 8, h0 => rfl
    | 9, h0 => rfl
    | 10, h0 => rfl
    | 11, h0 => rfl
    | 12, h0 => rfl
    | 13, h0 => rfl
    | i + 14, _ => rfl
theorem xA8 : (xput h m S).1 (m + 8) = some (.inl (0, 32, .inl (S.2.1 8))) := xput_at (by decide)
theorem xL8 : pln (xput h m S) 0 (m + 8) = 32 := pln_of xA8
theorem xL8n : pln (xput h m S) 9 (m + 8) = 0 := pln_no xA8 (by decide)
theorem xC8 : pct (xput h m S) (m + 8) = S.2.1 8 := pct_of xA8
theorem xW8 : pst (xput h m S) (m + 8) i v = xput h m (S.1, ua S.2.1 8 i v, S.2.2) := by
  rw [pst_of xA8]
  refine xput_up (j := 8) (by decide) ?_ (fun i hi h0 => ?_)
  · rfl
  · match i, h0 with
    | 0, h0 => rfl
    | 1, h0 => rfl
    | 2, h0 => rfl
    | 3, h0 => rfl
    | 4, h0 => rfl
    | 5, h0 => rfl
    | 6, h0 => rfl
    | 7, h0 => rfl
    | 8, h0 => exact absurd rfl h0
    | 9, h0 => rfl
    | 10, h0 => rfl
    | 11, h0 => rfl
    | 12, h0 => rfl
    | 13, h0 => rfl
    | i + 14, _ => rfl
theorem xA12 : (xput h m S).1 (m + 12) = some (.inl (0, 128, .inl (S.2.1 12))) := xput_at (by decide)
theorem xL12 : pln (xput h m S) 0 (m + 12) = 128 := pln_of xA12
theorem xL12n : pln (xput h m S) 9 (m + 12) = 0 := pln_no xA12 (by decide)
theorem xC12 : pct (xput h m S) (m + 12) = S.2.1 12 := pct_of xA12
theorem xW12 : pst (xput h m S) (m + 12) i v = xput h m (S.1, ua S.2.1 12 i v, S.2.2) := by
  rw [pst_of xA12]
  refine xput_up (j := 12) (by decide) ?_ (fun i hi h0 => ?_)
  · rfl
  · match i, h0 with
    | 0, h0 => rfl
    | 1, h0 => rfl
    | 2, h0 => rfl
    | 3, h0 => rfl
    | 4, h0 => rfl
    | 5, h0 => rfl
    | 6, h0 => rfl
    | 7, h0 => rfl
    | 8, h0 => rfl
    | 9, h0 => rfl
    | 10, h0 => rfl
    | 11, h0 => rfl
    | 12, h0 => exact absurd rfl h0
    | 13, h0 => rfl
    | i + 14, _ => rfl
theorem xA13 : (xput h m S).1 (m + 13) = some (.inl (0, 24, .inl (S.2.1 13))) := xput_at (by decide)
theorem xL13 : pln (xput h m S) 0 (m + 13) = 24 := pln_of xA13
theorem xL13n : pln (xput h m S) 9 (m + 13) = 0 := pln_no xA13 (by decide)
theorem xC13 : pct (xput h m S) (m + 13) = S.2.1 13 := pct_of xA13
theorem xW13 : pst (xput h m S) (m + 13) i v = xput h m (S.1, ua S.2.1 13 i v, S.2.2) := by
  rw [pst_of xA13]
  refine xput_up (j := 13) (by decide) ?_ (fun i hi h0 => ?_)
  · rfl
  · match i, h0 with
    | 0, h0 => rfl
    | 1, h0 => rfl
    | 2, h0 => rfl
    | 3, h0 => rfl
    | 4, h0 => rfl
    | 5, h0 => rfl
    | 6, h0 => rfl
    | 7, h0 => rfl
    | 8, h0 => rfl
    | 9, h0 => rfl
    | 10, h0 => rfl
    | 11, h0 => rfl
    | 12, h0 => rfl
    | 13, h0 => exact absurd rfl h0
    | i + 14, _ => rfl
theorem xA1 : (xput h m S).1 (m + 1) = some (.inl (4, 6, .inr (.inr (.inr (.inr (S.2.2.1 1)))))) := xput_at (by decide)
theorem xL1 : plnQ (xput h m S) (m + 1) = 6 := by simp [plnQ, xA1]
theorem xK1 : pkdQ (xput h m S) (m + 1) = 4 := by simp [pkdQ, xA1]
theorem xC1 : pctQ (xput h m S) (m + 1) = S.2.2.1 1 := by simp [pctQ, xA1]
theorem xW1 : pstQ (xput h m S) (m + 1) i q = xput h m (S.1, S.2.1, uq S.2.2.1 1 i q, S.2.2.2) := by
  have : pstQ (xput h m S) (m + 1) i q = pup (xput h m S) (m + 1) (.inl (4, 6, .inr (.inr (.inr (.inr (uq S.2.2.1 1 i q 1)))))) := by simp only [pstQ, xA1]; rfl
  rw [this]
  refine xput_up (j := 1) (by decide) rfl (fun i hi h0 => ?_)
  match i, h0 with
  | 0, h0 => rfl
  | 1, h0 => exact absurd rfl h0
  | 2, h0 => rfl
  | 3, h0 => rfl
  | 4, h0 => rfl
  | 5, h0 => rfl
  | 6, h0 => rfl
  | 7, h0 => rfl
  | 8, h0 => rfl
  | 9, h0 => rfl
  | 10, h0 => rfl
  | 11, h0 => rfl
  | 12, h0 => rfl
  | 13, h0 => rfl
  | i + 14, _ => rfl
theorem xA3 : (xput h m S).1 (m + 3) = some (.inl (5, 12, .inr (.inr (.inr (.inr (S.2.2.1 3)))))) := xput_at (by decide)
theorem xL3 : plnQ (xput h m S) (m + 3) = 12 := by simp [plnQ, xA3]
theorem xK3 : pkdQ (xput h m S) (m + 3) = 5 := by simp [pkdQ, xA3]
theorem xC3 : pctQ (xput h m S) (m + 3) = S.2.2.1 3 := by simp [pctQ, xA3]
theorem xW3 : pstQ (xput h m S) (m + 3) i q = xput h m (S.1, S.2.1, uq S.2.2.1 3 i q, S.2.2.2) := by
  have : pstQ (xput h m S) (m + 3) i q = pup (xput h m S) (m + 3) (.inl (5, 12, .inr (.inr (.inr (.inr (uq S.2.2.1 3 i q 3)))))) := by simp only [pstQ, xA3]; rfl
  rw [this]
  refine xput_up (j := 3) (by decide) rfl (fun i hi h0 => ?_)
  match i, h0 with
  | 0, h0 => rfl
  | 1, h0 => rfl
  | 2, h0 => rfl
  | 3, h0 => exact absurd rfl h0
  | 4, h0 => rfl
  | 5, h0 => rfl
  | 6, h0 => rfl
  | 7, h0 => rfl
  | 8, h0 => rfl
  | 9, h0 => rfl
  | 10, h0 => rfl
  | 11, h0 => rfl
  | 12, h0 => rfl
  | 13, h0 => rfl
  | i + 14, _ => rfl
theorem xA9 : (xput h m S).1 (m + 9) = some (.inl (6, 30, .inr (.inr (.inr (.inr (S.2.2.1 9)))))) := xput_at (by decide)
theorem xL9 : plnQ (xput h m S) (m + 9) = 30 := by simp [plnQ, xA9]
theorem xK9 : pkdQ (xput h m S) (m + 9) = 6 := by simp [pkdQ, xA9]
theorem xC9 : pctQ (xput h m S) (m + 9) = S.2.2.1 9 := by simp [pctQ, xA9]
theorem xW9 : pstQ (xput h m S) (m + 9) i q = xput h m (S.1, S.2.1, uq S.2.2.1 9 i q, S.2.2.2) := by
  have : pstQ (xput h m S) (m + 9) i q = pup (xput h m S) (m + 9) (.inl (6, 30, .inr (.inr (.inr (.inr (uq S.2.2.1 9 i q 9)))))) := by simp only [pstQ, xA9]; rfl
  rw [this]
  refine xput_up (j := 9) (by decide) rfl (fun i hi h0 => ?_)
  match i, h0 with
  | 0, h0 => rfl
  | 1, h0 => rfl
  | 2, h0 => rfl
  | 3, h0 => rfl
  | 4, h0 => rfl
  | 5, h0 => rfl
  | 6, h0 => rfl
  | 7, h0 => rfl
  | 8, h0 => rfl
  | 9, h0 => exact absurd rfl h0
  | 10, h0 => rfl
  | 11, h0 => rfl
  | 12, h0 => rfl
  | 13, h0 => rfl
  | i + 14, _ => rfl
theorem xA10 : (xput h m S).1 (m + 10) = some (.inl (7, 6, .inr (.inr (.inr (.inr (S.2.2.1 10)))))) := xput_at (by decide)
theorem xL10 : plnQ (xput h m S) (m + 10) = 6 := by simp [plnQ, xA10]
theorem xK10 : pkdQ (xput h m S) (m + 10) = 7 := by simp [pkdQ, xA10]
theorem xC10 : pctQ (xput h m S) (m + 10) = S.2.2.1 10 := by simp [pctQ, xA10]
theorem xW10 : pstQ (xput h m S) (m + 10) i q = xput h m (S.1, S.2.1, uq S.2.2.1 10 i q, S.2.2.2) := by
  have : pstQ (xput h m S) (m + 10) i q = pup (xput h m S) (m + 10) (.inl (7, 6, .inr (.inr (.inr (.inr (uq S.2.2.1 10 i q 10)))))) := by simp only [pstQ, xA10]; rfl
  rw [this]
  refine xput_up (j := 10) (by decide) rfl (fun i hi h0 => ?_)
  match i, h0 with
  | 0, h0 => rfl
  | 1, h0 => rfl
  | 2, h0 => rfl
  | 3, h0 => rfl
  | 4, h0 => rfl
  | 5, h0 => rfl
  | 6, h0 => rfl
  | 7, h0 => rfl
  | 8, h0 => rfl
  | 9, h0 => rfl
  | 10, h0 => exact absurd rfl h0
  | 11, h0 => rfl
  | 12, h0 => rfl
  | 13, h0 => rfl
  | i + 14, _ => rfl
theorem xLo : (xput h m S).1 (m + 11) = some (.inr (2, [.ref (m + 12)])) := xput_at (by decide)
theorem xLf : pfl (xput h m S) 2 (m + 11) 0 = .ref (m + 12) := pfl_of xLo rfl rfl
theorem xLc : pcl (xput h m S) (m + 11) = 2 := pcl_of xLo
theorem xO_pfl {a F k : Nat} (ha : a < m ∨ m + 14 ≤ a) : pfl (xput h m S) F a k = pfl h F a k := by simp only [pfl, xput_out ha]
theorem xO_pcl {a F k : Nat} (ha : a < m ∨ m + 14 ≤ a) : pcl (xput h m S) a = pcl h a := by simp only [pcl, xput_out ha]
theorem xO_pln {a F k : Nat} (ha : a < m ∨ m + 14 ≤ a) : pln (xput h m S) F a = pln h F a := by simp only [pln, xput_out ha]
theorem xO_pct {a F k : Nat} (ha : a < m ∨ m + 14 ≤ a) : pct (xput h m S) a = pct h a := by simp only [pct, xput_out ha]
theorem xO_plnQ {a F k : Nat} (ha : a < m ∨ m + 14 ≤ a) : plnQ (xput h m S) a = plnQ h a := by simp only [plnQ, xput_out ha]
theorem xO_pctQ {a F k : Nat} (ha : a < m ∨ m + 14 ≤ a) : pctQ (xput h m S) a = pctQ h a := by simp only [pctQ, xput_out ha]
theorem xO_pkdQ {a F k : Nat} (ha : a < m ∨ m + 14 ≤ a) : pkdQ (xput h m S) a = pkdQ h a := by simp only [pkdQ, xput_out ha]
theorem xO_plnL {a F k : Nat} (ha : a < m ∨ m + 14 ≤ a) : plnL (xput h m S) a = plnL h a := by simp only [plnL, xput_out ha]
theorem xO_pctL {a F k : Nat} (ha : a < m ∨ m + 14 ≤ a) : pctL (xput h m S) a = pctL h a := by simp only [pctL, xput_out ha]
theorem xO_pup {a : Nat} {c : va_E} (ha : a < m ∨ m + 14 ≤ a) : pup (xput h m S) a c = xput (pup h a c) m S := by
  unfold pup xput
  simp only [Prod.mk.injEq, and_true]
  funext q
  by_cases hq : q = a
  · subst hq
    rw [if_pos rfl, if_neg (by omega), if_pos rfl]
  · rw [if_neg hq, if_neg hq]
theorem xO_psf {a k : Nat} {v : Value} (ha : a < m ∨ m + 14 ≤ a) : psf (xput h m S) a k v = xput (psf h a k v) m S := by
  unfold psf
  rw [xput_out ha]
  split
  · exact xO_pup ha
  · rfl
theorem xO_pst {a : Nat} (ha : a < m ∨ m + 14 ≤ a) : pst (xput h m S) a i v = xput (pst h a i v) m S := by
  unfold pst
  rw [xput_out ha]
  split
  · exact xO_pup ha
  · rfl
end
