/-! THE WORLD OF THE MODEL: its cells laid over a heap (printed by genw.py) -/
set_option maxRecDepth 100000
/-- an array of arrays, one element changed -/
def ua (A : Nat → Nat → Int32) (j i : Nat) (v : Int32) : Nat → Nat → Int32 := fun k => if k = j then upd (A j) i v else A k
def uq (A : Nat → Nat → Option Nat) (j i : Nat) (v : Option Nat) : Nat → Nat → Option Nat := fun k => if k = j then va_up (A j) i v else A k
def mobj (m : Nat) (I : Nat → Int32) : List Value := [.int (I 0), .ref (m + 1), .ref (m + 2), .ref (m + 3), .ref (m + 4), .int (I 5), .ref (m + 5), .int (I 7), .int (I 8), .int (I 9), .int (I 10), .ref (m + 6), .ref (m + 7), .ref (m + 8), .ref (m + 9), .ref (m + 10), .ref (m + 11), .ref (m + 12), .ref (m + 13), .ref (m + 14), .int (I 20), .ref (m + 15), .ref (m + 16), .int (I 23), .int (I 24), .int (I 25), .ref (m + 17), .ref (m + 18), .ref (m + 19), .ref (m + 20), .ref (m + 21), .int (I 31), .int (I 32), .int (I 33), .ref (m + 22), .ref (m + 23), .ref (m + 24), .ref (m + 25), .ref (m + 26), .ref (m + 27), .ref (m + 28), .ref (m + 29), .ref (m + 30), .ref (m + 31), .ref (m + 32), .int (I 45), .int (I 46), .int (I 47), .int (I 48), .ref (m + 33), .ref (m + 34), .int (I 51)]
/-- int fields by number; int arrays by offset; the pile -/
abbrev MS : Type := (Nat → Int32) × (Nat → Nat → Int32) × (Nat → Int64)
def mcell (m : Nat) (S : MS) (j : Nat) : Option va_E := match j with
  | 0 => some (.inr (3, mobj m S.1))
  | 1 => some (.inl (0, 6, .inl (S.2.1 1)))
  | 2 => some (.inl (0, 6, .inl (S.2.1 2)))
  | 3 => some (.inl (0, 6, .inl (S.2.1 3)))
  | 4 => some (.inl (0, 6, .inl (S.2.1 4)))
  | 5 => some (.inl (0, 200, .inl (S.2.1 5)))
  | 6 => some (.inl (0, 13, .inl (S.2.1 6)))
  | 7 => some (.inl (0, 78, .inl (S.2.1 7)))
  | 8 => some (.inl (0, 13, .inl (S.2.1 8)))
  | 9 => some (.inl (0, 13, .inl (S.2.1 9)))
  | 10 => some (.inl (0, 312, .inl (S.2.1 10)))
  | 11 => some (.inl (0, 312, .inl (S.2.1 11)))
  | 12 => some (.inl (0, 312, .inl (S.2.1 12)))
  | 13 => some (.inl (0, 312, .inl (S.2.1 13)))
  | 14 => some (.inl (0, 13, .inl (S.2.1 14)))
  | 15 => some (.inl (0, 60, .inl (S.2.1 15)))
  | 16 => some (.inl (0, 8, .inl (S.2.1 16)))
  | 17 => some (.inl (0, 60, .inl (S.2.1 17)))
  | 18 => some (.inl (0, 2800, .inl (S.2.1 18)))
  | 19 => some (.inl (0, 7, .inl (S.2.1 19)))
  | 20 => some (.inl (0, 448, .inl (S.2.1 20)))
  | 21 => some (.inl (0, 448, .inl (S.2.1 21)))
  | 22 => some (.inl (3, 400, .inr (.inl S.2.2)))
  | 23 => some (.inl (0, 8, .inl (S.2.1 23)))
  | 24 => some (.inl (0, 3600, .inl (S.2.1 24)))
  | 25 => some (.inl (0, 1024, .inl (S.2.1 25)))
  | 26 => some (.inl (2, 1024, .inl (S.2.1 26)))
  | 27 => some (.inl (0, 24, .inl (S.2.1 27)))
  | 28 => some (.inl (0, 30, .inl (S.2.1 28)))
  | 29 => some (.inl (0, 30, .inl (S.2.1 29)))
  | 30 => some (.inl (0, 30, .inl (S.2.1 30)))
  | 31 => some (.inl (0, 120, .inl (S.2.1 31)))
  | 32 => some (.inl (0, 6, .inl (S.2.1 32)))
  | 33 => some (.inl (0, 24, .inl (S.2.1 33)))
  | 34 => some (.inl (0, 24, .inl (S.2.1 34)))
  | _ => none
def mput (h : pH) (m : Nat) (S : MS) : pH := (fun q => if m ≤ q ∧ q < m + 35 then mcell m S (q - m) else h.1 q, h.2)
section
variable {h : pH} {m : Nat} {S : MS} {i : Nat} {v : Int32} {lv : Int64} {q : Option Nat}
theorem mcell_f {I I1 : Nat → Int32} {T : (Nat → Nat → Int32) × (Nat → Int64)} {i : Nat} (h0 : i ≠ 0) : mcell m (I, T) i = mcell m (I1, T) i := by
  unfold mcell
  split <;> first | rfl | exact absurd rfl h0
theorem mput_at {j : Nat} (hj : j < 35) : (mput h m S).1 (m + j) = mcell m S j := by
  simp [mput, hj]
theorem mput_out {a : Nat} (ha : a < m ∨ m + 35 ≤ a) : (mput h m S).1 a = h.1 a := by
  simp only [mput]
  rw [if_neg (by omega)]
theorem mput_2 : (mput h m S).2 = h.2 := rfl
theorem mput_o : (mput h m S).1 m = some (.inr (3, mobj m S.1)) := by have := mput_at (h := h) (m := m) (S := S) (j := 0) (by decide); exact this
theorem mput_up {S1 : MS} {j : Nat} {c : va_E} (hj : j < 35) (h1 : mcell m S1 j = some c) (h2 : ∀ i, i < 35 → i ≠ j → mcell m S1 i = mcell m S i) : pup (mput h m S) (m + j) c = mput h m S1 := by
  unfold pup mput
  simp only [Prod.mk.injEq, and_true]
  funext q
  by_cases hq : q = m + j
  · subst hq
    rw [if_pos rfl, if_pos ⟨by omega, by omega⟩, Nat.add_sub_cancel_left, h1]
  · rw [if_neg hq]
    by_cases hr : m ≤ q ∧ q < m + 35
    · rw [if_pos hr, if_pos hr, h2 (q - m) (by omega) (by omega)]
    · rw [if_neg hr, if_neg hr]
theorem mput_put {S1 : MS} : mput (mput h m S) m S1 = mput h m S1 := by
  unfold mput
  simp only [Prod.mk.injEq, and_true]
  funext q
  by_cases hr : m ≤ q ∧ q < m + 35
  · rw [if_pos hr, if_pos hr]
  · rw [if_neg hr, if_neg hr, if_neg hr]
theorem mCl : pcl (mput h m S) m = 3 := pcl_of mput_o
theorem mF0 : pfl (mput h m S) 3 m 0 = .int (S.1 0) := pfl_of mput_o rfl rfl
theorem mP0 : psf (mput h m S) m 0 (.int v) = mput h m (upd S.1 0 v, S.2) := by
  rw [psf_of mput_o]
  exact mput_up (j := 0) (by decide) rfl (fun i hi h0 => mcell_f h0)
theorem mF1 : pfl (mput h m S) 3 m 1 = .ref (m + 1) := pfl_of mput_o rfl rfl
theorem mF2 : pfl (mput h m S) 3 m 2 = .ref (m + 2) := pfl_of mput_o rfl rfl
theorem mF3 : pfl (mput h m S) 3 m 3 = .ref (m + 3) := pfl_of mput_o rfl rfl
theorem mF4 : pfl (mput h m S) 3 m 4 = .ref (m + 4) := pfl_of mput_o rfl rfl
theorem mF5 : pfl (mput h m S) 3 m 5 = .int (S.1 5) := pfl_of mput_o rfl rfl
theorem mP5 : psf (mput h m S) m 5 (.int v) = mput h m (upd S.1 5 v, S.2) := by
  rw [psf_of mput_o]
  exact mput_up (j := 0) (by decide) rfl (fun i hi h0 => mcell_f h0)
theorem mF6 : pfl (mput h m S) 3 m 6 = .ref (m + 5) := pfl_of mput_o rfl rfl
theorem mF7 : pfl (mput h m S) 3 m 7 = .int (S.1 7) := pfl_of mput_o rfl rfl
theorem mP7 : psf (mput h m S) m 7 (.int v) = mput h m (upd S.1 7 v, S.2) := by
  rw [psf_of mput_o]
  exact mput_up (j := 0) (by decide) rfl (fun i hi h0 => mcell_f h0)
theorem mF8 : pfl (mput h m S) 3 m 8 = .int (S.1 8) := pfl_of mput_o rfl rfl
theorem mP8 : psf (mput h m S) m 8 (.int v) = mput h m (upd S.1 8 v, S.2) := by
  rw [psf_of mput_o]
  exact mput_up (j := 0) (by decide) rfl (fun i hi h0 => mcell_f h0)
theorem mF9 : pfl (mput h m S) 3 m 9 = .int (S.1 9) := pfl_of mput_o rfl rfl
theorem mP9 : psf (mput h m S) m 9 (.int v) = mput h m (upd S.1 9 v, S.2) := by
  rw [psf_of mput_o]
  exact mput_up (j := 0) (by decide) rfl (fun i hi h0 => mcell_f h0)
theorem mF10 : pfl (mput h m S) 3 m 10 = .int (S.1 10) := pfl_of mput_o rfl rfl
theorem mP10 : psf (mput h m S) m 10 (.int v) = mput h m (upd S.1 10 v, S.2) := by
  rw [psf_of mput_o]
  exact mput_up (j := 0) (by decide) rfl (fun i hi h0 => mcell_f h0)
theorem mF11 : pfl (mput h m S) 3 m 11 = .ref (m + 6) := pfl_of mput_o rfl rfl
theorem mF12 : pfl (mput h m S) 3 m 12 = .ref (m + 7) := pfl_of mput_o rfl rfl
theorem mF13 : pfl (mput h m S) 3 m 13 = .ref (m + 8) := pfl_of mput_o rfl rfl
theorem mF14 : pfl (mput h m S) 3 m 14 = .ref (m + 9) := pfl_of mput_o rfl rfl
theorem mF15 : pfl (mput h m S) 3 m 15 = .ref (m + 10) := pfl_of mput_o rfl rfl
theorem mF16 : pfl (mput h m S) 3 m 16 = .ref (m + 11) := pfl_of mput_o rfl rfl
theorem mF17 : pfl (mput h m S) 3 m 17 = .ref (m + 12) := pfl_of mput_o rfl rfl
theorem mF18 : pfl (mput h m S) 3 m 18 = .ref (m + 13) := pfl_of mput_o rfl rfl
theorem mF19 : pfl (mput h m S) 3 m 19 = .ref (m + 14) := pfl_of mput_o rfl rfl
theorem mF20 : pfl (mput h m S) 3 m 20 = .int (S.1 20) := pfl_of mput_o rfl rfl
theorem mP20 : psf (mput h m S) m 20 (.int v) = mput h m (upd S.1 20 v, S.2) := by
  rw [psf_of mput_o]
  exact mput_up (j := 0) (by decide) rfl (fun i hi h0 => mcell_f h0)
theorem mF21 : pfl (mput h m S) 3 m 21 = .ref (m + 15) := pfl_of mput_o rfl rfl
theorem mF22 : pfl (mput h m S) 3 m 22 = .ref (m + 16) := pfl_of mput_o rfl rfl
theorem mF23 : pfl (mput h m S) 3 m 23 = .int (S.1 23) := pfl_of mput_o rfl rfl
theorem mP23 : psf (mput h m S) m 23 (.int v) = mput h m (upd S.1 23 v, S.2) := by
  rw [psf_of mput_o]
  exact mput_up (j := 0) (by decide) rfl (fun i hi h0 => mcell_f h0)
theorem mF24 : pfl (mput h m S) 3 m 24 = .int (S.1 24) := pfl_of mput_o rfl rfl
theorem mP24 : psf (mput h m S) m 24 (.int v) = mput h m (upd S.1 24 v, S.2) := by
  rw [psf_of mput_o]
  exact mput_up (j := 0) (by decide) rfl (fun i hi h0 => mcell_f h0)
theorem mF25 : pfl (mput h m S) 3 m 25 = .int (S.1 25) := pfl_of mput_o rfl rfl
theorem mP25 : psf (mput h m S) m 25 (.int v) = mput h m (upd S.1 25 v, S.2) := by
  rw [psf_of mput_o]
  exact mput_up (j := 0) (by decide) rfl (fun i hi h0 => mcell_f h0)
theorem mF26 : pfl (mput h m S) 3 m 26 = .ref (m + 17) := pfl_of mput_o rfl rfl
theorem mF27 : pfl (mput h m S) 3 m 27 = .ref (m + 18) := pfl_of mput_o rfl rfl
theorem mF28 : pfl (mput h m S) 3 m 28 = .ref (m + 19) := pfl_of mput_o rfl rfl
theorem mF29 : pfl (mput h m S) 3 m 29 = .ref (m + 20) := pfl_of mput_o rfl rfl
theorem mF30 : pfl (mput h m S) 3 m 30 = .ref (m + 21) := pfl_of mput_o rfl rfl
theorem mF31 : pfl (mput h m S) 3 m 31 = .int (S.1 31) := pfl_of mput_o rfl rfl
theorem mP31 : psf (mput h m S) m 31 (.int v) = mput h m (upd S.1 31 v, S.2) := by
  rw [psf_of mput_o]
  exact mput_up (j := 0) (by decide) rfl (fun i hi h0 => mcell_f h0)
theorem mF32 : pfl (mput h m S) 3 m 32 = .int (S.1 32) := pfl_of mput_o rfl rfl
theorem mP32 : psf (mput h m S) m 32 (.int v) = mput h m (upd S.1 32 v, S.2) := by
  rw [psf_of mput_o]
  exact mput_up (j := 0) (by decide) rfl (fun i hi h0 => mcell_f h0)
theorem mF33 : pfl (mput h m S) 3 m 33 = .int (S.1 33) := pfl_of mput_o rfl rfl
theorem mP33 : psf (mput h m S) m 33 (.int v) = mput h m (upd S.1 33 v, S.2) := by
  rw [psf_of mput_o]
  exact mput_up (j := 0) (by decide) rfl (fun i hi h0 => mcell_f h0)
theorem mF34 : pfl (mput h m S) 3 m 34 = .ref (m + 22) := pfl_of mput_o rfl rfl
theorem mF35 : pfl (mput h m S) 3 m 35 = .ref (m + 23) := pfl_of mput_o rfl rfl
theorem mF36 : pfl (mput h m S) 3 m 36 = .ref (m + 24) := pfl_of mput_o rfl rfl
theorem mF37 : pfl (mput h m S) 3 m 37 = .ref (m + 25) := pfl_of mput_o rfl rfl
theorem mF38 : pfl (mput h m S) 3 m 38 = .ref (m + 26) := pfl_of mput_o rfl rfl
theorem mF39 : pfl (mput h m S) 3 m 39 = .ref (m + 27) := pfl_of mput_o rfl rfl
theorem mF40 : pfl (mput h m S) 3 m 40 = .ref (m + 28) := pfl_of mput_o rfl rfl
theorem mF41 : pfl (mput h m S) 3 m 41 = .ref (m + 29) := pfl_of mput_o rfl rfl
theorem mF42 : pfl (mput h m S) 3 m 42 = .ref (m + 30) := pfl_of mput_o rfl rfl
theorem mF43 : pfl (mput h m S) 3 m 43 = .ref (m + 31) := pfl_of mput_o rfl rfl
theorem mF44 : pfl (mput h m S) 3 m 44 = .ref (m + 32) := pfl_of mput_o rfl rfl
theorem mF45 : pfl (mput h m S) 3 m 45 = .int (S.1 45) := pfl_of mput_o rfl rfl
theorem mP45 : psf (mput h m S) m 45 (.int v) = mput h m (upd S.1 45 v, S.2) := by
  rw [psf_of mput_o]
  exact mput_up (j := 0) (by decide) rfl (fun i hi h0 => mcell_f h0)
theorem mF46 : pfl (mput h m S) 3 m 46 = .int (S.1 46) := pfl_of mput_o rfl rfl
theorem mP46 : psf (mput h m S) m 46 (.int v) = mput h m (upd S.1 46 v, S.2) := by
  rw [psf_of mput_o]
  exact mput_up (j := 0) (by decide) rfl (fun i hi h0 => mcell_f h0)
theorem mF47 : pfl (mput h m S) 3 m 47 = .int (S.1 47) := pfl_of mput_o rfl rfl
theorem mP47 : psf (mput h m S) m 47 (.int v) = mput h m (upd S.1 47 v, S.2) := by
  rw [psf_of mput_o]
  exact mput_up (j := 0) (by decide) rfl (fun i hi h0 => mcell_f h0)
theorem mF48 : pfl (mput h m S) 3 m 48 = .int (S.1 48) := pfl_of mput_o rfl rfl
theorem mP48 : psf (mput h m S) m 48 (.int v) = mput h m (upd S.1 48 v, S.2) := by
  rw [psf_of mput_o]
  exact mput_up (j := 0) (by decide) rfl (fun i hi h0 => mcell_f h0)
theorem mF49 : pfl (mput h m S) 3 m 49 = .ref (m + 33) := pfl_of mput_o rfl rfl
theorem mF50 : pfl (mput h m S) 3 m 50 = .ref (m + 34) := pfl_of mput_o rfl rfl
theorem mF51 : pfl (mput h m S) 3 m 51 = .int (S.1 51) := pfl_of mput_o rfl rfl
theorem mP51 : psf (mput h m S) m 51 (.int v) = mput h m (upd S.1 51 v, S.2) := by
  rw [psf_of mput_o]
  exact mput_up (j := 0) (by decide) rfl (fun i hi h0 => mcell_f h0)
theorem mA1 : (mput h m S).1 (m + 1) = some (.inl (0, 6, .inl (S.2.1 1))) := mput_at (by decide)
theorem mL1 : pln (mput h m S) 0 (m + 1) = 6 := pln_of mA1
theorem mL1n : pln (mput h m S) 9 (m + 1) = 0 := pln_no mA1 (by decide)
theorem mC1 : pct (mput h m S) (m + 1) = S.2.1 1 := pct_of mA1
theorem mW1 : pst (mput h m S) (m + 1) i v = mput h m (S.1, ua S.2.1 1 i v, S.2.2) := by
  rw [pst_of mA1]
  refine mput_up (j := 1) (by decide) ?_ (fun i hi h0 => ?_)
  · rfl
  · match i, h0 with
    | 0, h0 => rfl
    | 1, h0 => exact absurd rfl h0
    | 2, h0 => rfl
    | 3, h0 => rfl
    | 4, h0 => rfl
    | 5, h0 => rfl
    | 6, h0 => rfl
    | 7, h0 => rfl
    | 8, h0 => rfl
    | 9, h0 => rfl
    | 10, h0 => rfl
    | 11, h0 => rfl
    | 12, h0 => rfl
    | 13, h0 => rfl
    | 14, h0 => rfl
    | 15, h0 => rfl
    | 16, h0 => rfl
    | 17, h0 => rfl
    | 18, h0 => rfl
    | 19, h0 => rfl
    | 20, h0 => rfl
    | 21, h0 => rfl
    | 22, h0 => rfl
    | 23, h0 => rfl
    | 24, h0 => rfl
    | 25, h0 => rfl
    | 26, h0 => rfl
    | 27, h0 => rfl
    | 28, h0 => rfl
    | 29, h0 => rfl
    | 30, h0 => rfl
    | 31, h0 => rfl
    | 32, h0 => rfl
    | 33, h0 => rfl
    | 34, h0 => rfl
    | i + 35, _ => rfl
theorem mA2 : (mput h m S).1 (m + 2) = some (.inl (0, 6, .inl (S.2.1 2))) := mput_at (by decide)
theorem mL2 : pln (mput h m S) 0 (m + 2) = 6 := pln_of mA2
theorem mL2n : pln (mput h m S) 9 (m + 2) = 0 := pln_no mA2 (by decide)
theorem mC2 : pct (mput h m S) (m + 2) = S.2.1 2 := pct_of mA2
theorem mW2 : pst (mput h m S) (m + 2) i v = mput h m (S.1, ua S.2.1 2 i v, S.2.2) := by
  rw [pst_of mA2]
  refine mput_up (j := 2) (by decide) ?_ (fun i hi h0 => ?_)
  · rfl
  · match i, h0 with
    | 0, h0 => rfl
    | 1, h0 => rfl
    | 2, h0 => exact absurd rfl h0
    | 3, h0 => rfl
    | 4, h0 => rfl
    | 5, h0 => rfl
    | 6, h0 => rfl
    | 7, h0 => rfl
    | 8, h0 => rfl
    | 9, h0 => rfl
    | 10, h0 => rfl
    | 11, h0 => rfl
    | 12, h0 => rfl
    | 13, h0 => rfl
    | 14, h0 => rfl
    | 15, h0 => rfl
    | 16, h0 => rfl
    | 17, h0 => rfl
    | 18, h0 => rfl
    | 19, h0 => rfl
    | 20, h0 => rfl
    | 21, h0 => rfl
    | 22, h0 => rfl
    | 23, h0 => rfl
    | 24, h0 => rfl
    | 25, h0 => rfl
    | 26, h0 => rfl
    | 27, h0 => rfl
    | 28, h0 => rfl
    | 29, h0 => rfl
    | 30, h0 => rfl
    | 31, h0 => rfl
    | 32, h0 => rfl
    | 33, h0 => rfl
    | 34, h0 => rfl
    | i + 35, _ => rfl
theorem mA3 : (mput h m S).1 (m + 3) = some (.inl (0, 6, .inl (S.2.1 3))) := mput_at (by decide)
theorem mL3 : pln (mput h m S) 0 (m + 3) = 6 := pln_of mA3
theorem mL3n : pln (mput h m S) 9 (m + 3) = 0 := pln_no mA3 (by decide)
theorem mC3 : pct (mput h m S) (m + 3) = S.2.1 3 := pct_of mA3
theorem mW3 : pst (mput h m S) (m + 3) i v = mput h m (S.1, ua S.2.1 3 i v, S.2.2) := by
  rw [pst_of mA3]
  refine mput_up (j := 3) (by decide) ?_ (fun i hi h0 => ?_)
  · rfl
  · match i, h0 with
    | 0, h0 => rfl
    | 1, h0 => rfl
    | 2, h0 => rfl
    | 3, h0 => exact absurd rfl h0
    | 4, h0 => rfl
    | 5, h0 => rfl
    | 6, h0 => rfl
    | 7, h0 => rfl
    | 8, h0 => rfl
    | 9, h0 => rfl
    | 10, h0 => rfl
    | 11, h0 => rfl
    | 12, h0 => rfl
    | 13, h0 => rfl
    | 14, h0 => rfl
    | 15, h0 => rfl
    | 16, h0 => rfl
    | 17, h0 => rfl
    | 18, h0 => rfl
    | 19, h0 => rfl
    | 20, h0 => rfl
    | 21, h0 => rfl
    | 22, h0 => rfl
    | 23, h0 => rfl
    | 24, h0 => rfl
    | 25, h0 => rfl
    | 26, h0 => rfl
    | 27, h0 => rfl
    | 28, h0 => rfl
    | 29, h0 => rfl
    | 30, h0 => rfl
    | 31, h0 => rfl
    | 32, h0 => rfl
    | 33, h0 => rfl
    | 34, h0 => rfl
    | i + 35, _ => rfl
theorem mA4 : (mput h m S).1 (m + 4) = some (.inl (0, 6, .inl (S.2.1 4))) := mput_at (by decide)
theorem mL4 : pln (mput h m S) 0 (m + 4) = 6 := pln_of mA4
theorem mL4n : pln (mput h m S) 9 (m + 4) = 0 := pln_no mA4 (by decide)
theorem mC4 : pct (mput h m S) (m + 4) = S.2.1 4 := pct_of mA4
theorem mW4 : pst (mput h m S) (m + 4) i v = mput h m (S.1, ua S.2.1 4 i v, S.2.2) := by
  rw [pst_of mA4]
  refine mput_up (j := 4) (by decide) ?_ (fun i hi h0 => ?_)
  · rfl
  · match i, h0 with
    | 0, h0 => rfl
    | 1, h0 => rfl
    | 2, h0 => rfl
    | 3, h0 => rfl
    | 4, h0 => exact absurd rfl h0
    | 5, h0 => rfl
    | 6, h0 => rfl
    | 7, h0 => rfl
    | 8, h0 => rfl
    | 9, h0 => rfl
    | 10, h0 => rfl
    | 11, h0 => rfl
    | 12, h0 => rfl
    | 13, h0 => rfl
    | 14, h0 => rfl
    | 15, h0 => rfl
    | 16, h0 => rfl
    | 17, h0 => rfl
    | 18, h0 => rfl
    | 19, h0 => rfl
    | 20, h0 => rfl
    | 21, h0 => rfl
    | 22, h0 => rfl
    | 23, h0 => rfl
    | 24, h0 => rfl
    | 25, h0 => rfl
    | 26, h0 => rfl
    | 27, h0 => rfl
    | 28, h0 => rfl
    | 29, h0 => rfl
    | 30, h0 => rfl
    | 31, h0 => rfl
    | 32, h0 => rfl
    | 33, h0 => rfl
    | 34, h0 => rfl
    | i + 35, _ => rfl
theorem mA5 : (mput h m S).1 (m + 5) = some (.inl (0, 200, .inl (S.2.1 5))) := mput_at (by decide)
theorem mL5 : pln (mput h m S) 0 (m + 5) = 200 := pln_of mA5
theorem mL5n : pln (mput h m S) 9 (m + 5) = 0 := pln_no mA5 (by decide)
theorem mC5 : pct (mput h m S) (m + 5) = S.2.1 5 := pct_of mA5
theorem mW5 : pst (mput h m S) (m + 5) i v = mput h m (S.1, ua S.2.1 5 i v, S.2.2) := by
  rw [pst_of mA5]
  refine mput_up (j := 5) (by decide) ?_ (fun i hi h0 => ?_)
  · rfl
  · match i, h0 with
    | 0, h0 => rfl
    | 1, h0 => rfl
    | 2, h0 => rfl
    | 3, h0 => rfl
    | 4, h0 => rfl
    | 5, h0 => exact absurd rfl h0
    | 6, h0 => rfl
    | 7, h0 => rfl
    | 8, h0 => rfl
    | 9, h0 => rfl
    | 10, h0 => rfl
    | 11, h0 => rfl
    | 12, h0 => rfl
    | 13, h0 => rfl
    | 14, h0 => rfl
    | 15, h0 => rfl
    | 16, h0 => rfl
    | 17, h0 => rfl
    | 18, h0 => rfl
    | 19, h0 => rfl
    | 20, h0 => rfl
    | 21, h0 => rfl
    | 22, h0 => rfl
    | 23, h0 => rfl
    | 24, h0 => rfl
    | 25, h0 => rfl
    | 26, h0 => rfl
    | 27, h0 => rfl
    | 28, h0 => rfl
    | 29, h0 => rfl
    | 30, h0 => rfl
    | 31, h0 => rfl
    | 32, h0 => rfl
    | 33, h0 => rfl
    | 34, h0 => rfl
    | i + 35, _ => rfl
theorem mA6 : (mput h m S).1 (m + 6) = some (.inl (0, 13, .inl (S.2.1 6))) := mput_at (by decide)
theorem mL6 : pln (mput h m S) 0 (m + 6) = 13 := pln_of mA6
theorem mL6n : pln (mput h m S) 9 (m + 6) = 0 := pln_no mA6 (by decide)
theorem mC6 : pct (mput h m S) (m + 6) = S.2.1 6 := pct_of mA6
theorem mW6 : pst (mput h m S) (m + 6) i v = mput h m (S.1, ua S.2.1 6 i v, S.2.2) := by
  rw [pst_of mA6]
  refine mput_up (j := 6) (by decide) ?_ (fun i hi h0 => ?_)
  · rfl
  · match i, h0 with
    | 0, h0 => rfl
    | 1, h0 => rfl
    | 2, h0 => rfl
    | 3, h0 => rfl
    | 4, h0 => rfl
    | 5, h0 => rfl
    | 6, h0 => exact absurd rfl h0
    | 7, h0 => rfl
    | 8, h0 => rfl
    | 9, h0 => rfl
    | 10, h0 => rfl
    | 11, h0 => rfl
    | 12, h0 => rfl
    | 13, h0 => rfl
    | 14, h0 => rfl
    | 15, h0 => rfl
    | 16, h0 => rfl
    | 17, h0 => rfl
    | 18, h0 => rfl
    | 19, h0 => rfl
    | 20, h0 => rfl
    | 21, h0 => rfl
    | 22, h0 => rfl
    | 23, h0 => rfl
    | 24, h0 => rfl
    | 25, h0 => rfl
    | 26, h0 => rfl
    | 27, h0 => rfl
    | 28, h0 => rfl
    | 29, h0 => rfl
    | 30, h0 => rfl
    | 31, h0 => rfl
    | 32, h0 => rfl
    | 33, h0 => rfl
    | 34, h0 => rfl
    | i + 35, _ => rfl
theorem mA7 : (mput h m S).1 (m + 7) = some (.inl (0, 78, .inl (S.2.1 7))) := mput_at (by decide)
theorem mL7 : pln (mput h m S) 0 (m + 7) = 78 := pln_of mA7
theorem mL7n : pln (mput h m S) 9 (m + 7) = 0 := pln_no mA7 (by decide)
theorem mC7 : pct (mput h m S) (m + 7) = S.2.1 7 := pct_of mA7
theorem mW7 : pst (mput h m S) (m + 7) i v = mput h m (S.1, ua S.2.1 7 i v, S.2.2) := by
  rw [pst_of mA7]
  refine mput_up (j := 7) (by decide) ?_ (fun i hi h0 => ?_)
  · rfl
  · match i, h0 with
    | 0, h0 => rfl
    | 1, h0 => rfl
    | 2, h0 => rfl
    | 3, h0 => rfl
    | 4, h0 => rfl
    | 5, h0 => rfl
    | 6, h0 => rfl
    | 7, h0 => exact absurd rfl h0
    | 8, h0 => rfl
    | 9, h0 => rfl
    | 10, h0 => rfl
    | 11, h0 => rfl
    | 12, h0 => rfl
    | 13, h0 => rfl
    | 14, h0 => rfl
    | 15, h0 => rfl
    | 16, h0 => rfl
    | 17, h0 => rfl
    | 18, h0 => rfl
    | 19, h0 => rfl
    | 20, h0 => rfl
    | 21, h0 => rfl
    | 22, h0 => rfl
    | 23, h0 => rfl
    | 24, h0 => rfl
    | 25, h0 => rfl
    | 26, h0 => rfl
    | 27, h0 => rfl
    | 28, h0 => rfl
    | 29, h0 => rfl
    | 30, h0 => rfl
    | 31, h0 => rfl
    | 32, h0 => rfl
    | 33, h0 => rfl
    | 34, h0 => rfl
    | i + 35, _ => rfl
theorem mA8 : (mput h m S).1 (m + 8) = some (.inl (0, 13, .inl (S.2.1 8))) := mput_at (by decide)
theorem mL8 : pln (mput h m S) 0 (m + 8) = 13 := pln_of mA8
theorem mL8n : pln (mput h m S) 9 (m + 8) = 0 := pln_no mA8 (by decide)
theorem mC8 : pct (mput h m S) (m + 8) = S.2.1 8 := pct_of mA8
theorem mW8 : pst (mput h m S) (m + 8) i v = mput h m (S.1, ua S.2.1 8 i v, S.2.2) := by
  rw [pst_of mA8]
  refine mput_up (j := 8) (by decide) ?_ (fun i hi h0 => ?_)
  · rfl
  · match i, h0 with
    | 0, h0 => rfl
    | 1, h0 => rfl
    | 2, h0 => rfl
    | 3, h0 => rfl
    | 4, h0 => rfl
    | 5, h0 => rfl
    | 6, h0 => rfl
    | 7, h0 => rfl
    | 8, h0 => exact absurd rfl h0
    | 9, h0 => rfl
    | 10, h0 => rfl
    | 11, h0 => rfl
    | 12, h0 => rfl
    | 13, h0 => rfl
    | 14, h0 => rfl
    | 15, h0 => rfl
    | 16, h0 => rfl
    | 17, h0 => rfl
    | 18, h0 => rfl
    | 19, h0 => rfl
    | 20, h0 => rfl
    | 21, h0 => rfl
    | 22, h0 => rfl
    | 23, h0 => rfl
    | 24, h0 => rfl
    | 25, h0 => rfl
    | 26, h0 => rfl
    | 27, h0 => rfl
    | 28, h0 => rfl
    | 29, h0 => rfl
    | 30, h0 => rfl
    | 31, h0 => rfl
    | 32, h0 => rfl
    | 33, h0 => rfl
    | 34, h0 => rfl
    | i + 35, _ => rfl
theorem mA9 : (mput h m S).1 (m + 9) = some (.inl (0, 13, .inl (S.2.1 9))) := mput_at (by decide)
theorem mL9 : pln (mput h m S) 0 (m + 9) = 13 := pln_of mA9
theorem mL9n : pln (mput h m S) 9 (m + 9) = 0 := pln_no mA9 (by decide)
theorem mC9 : pct (mput h m S) (m + 9) = S.2.1 9 := pct_of mA9
theorem mW9 : pst (mput h m S) (m + 9) i v = mput h m (S.1, ua S.2.1 9 i v, S.2.2) := by
  rw [pst_of mA9]
  refine mput_up (j := 9) (by decide) ?_ (fun i hi h0 => ?_)
  · rfl
  · match i, h0 with
    | 0, h0 => rfl
    | 1, h0 => rfl
    | 2, h0 => rfl
    | 3, h0 => rfl
    | 4, h0 => rfl
    | 5, h0 => rfl
    | 6, h0 => rfl
    | 7, h0 => rfl
    | 8, h0 => rfl
    | 9, h0 => exact absurd rfl h0
    | 10, h0 => rfl
    | 11, h0 => rfl
    | 12, h0 => rfl
    | 13, h0 => rfl
    | 14, h0 => rfl
    | 15, h0 => rfl
    | 16, h0 => rfl
    | 17, h0 => rfl
    | 18, h0 => rfl
    | 19, h0 => rfl
    | 20, h0 => rfl
    | 21, h0 => rfl
    | 22, h0 => rfl
    | 23, h0 => rfl
    | 24, h0 => rfl
    | 25, h0 => rfl
    | 26, h0 => rfl
    | 27, h0 => rfl
    | 28, h0 => rfl
    | 29, h0 => rfl
    | 30, h0 => rfl
    | 31, h0 => rfl
    | 32, h0 => rfl
    | 33, h0 => rfl
    | 34, h0 => rfl
    | i + 35, _ => rfl
theorem mA10 : (mput h m S).1 (m + 10) = some (.inl (0, 312, .inl (S.2.1 10))) := mput_at (by decide)
theorem mL10 : pln (mput h m S) 0 (m + 10) = 312 := pln_of mA10
theorem mL10n : pln (mput h m S) 9 (m + 10) = 0 := pln_no mA10 (by decide)
theorem mC10 : pct (mput h m S) (m + 10) = S.2.1 10 := pct_of mA10
theorem mW10 : pst (mput h m S) (m + 10) i v = mput h m (S.1, ua S.2.1 10 i v, S.2.2) := by
  rw [pst_of mA10]
  refine mput_up (j := 10) (by decide) ?_ (fun i hi h0 => ?_)
  · rfl
  · match i, h0 with
    | 0, h0 => rfl
    | 1, h0 => rfl
    | 2, h0 => rfl
    | 3, h0 => rfl
    | 4, h0 => rfl
    | 5, h0 => rfl
    | 6, h0 => rfl
    | 7, h0 => rfl
    | 8, h0 => rfl
    | 9, h0 => rfl
    | 10, h0 => exact absurd rfl h0
    | 11, h0 => rfl
    | 12, h0 => rfl
    | 13, h0 => rfl
    | 14, h0 => rfl
    | 15, h0 => rfl
    | 16, h0 => rfl
    | 17, h0 => rfl
    | 18, h0 => rfl
    | 19, h0 => rfl
    | 20, h0 => rfl
    | 21, h0 => rfl
    | 22, h0 => rfl
    | 23, h0 => rfl
    | 24, h0 => rfl
    | 25, h0 => rfl
    | 26, h0 => rfl
    | 27, h0 => rfl
    | 28, h0 => rfl
    | 29, h0 => rfl
    | 30, h0 => rfl
    | 31, h0 => rfl
    | 32, h0 => rfl
    | 33, h0 => rfl
    | 34, h0 => rfl
    | i + 35, _ => rfl
theorem mA11 : (mput h m S).1 (m + 11) = some (.inl (0, 312, .inl (S.2.1 11))) := mput_at (by decide)
theorem mL11 : pln (mput h m S) 0 (m + 11) = 312 := pln_of mA11
theorem mL11n : pln (mput h m S) 9 (m + 11) = 0 := pln_no mA11 (by decide)
theorem mC11 : pct (mput h m S) (m + 11) = S.2.1 11 := pct_of mA11
theorem mW11 : pst (mput h m S) (m + 11) i v = mput h m (S.1, ua S.2.1 11 i v, S.2.2) := by
  rw [pst_of mA11]
  refine mput_up (j := 11) (by decide) ?_ (fun i hi h0 => ?_)
  · rfl
  · match i, h0 with
    | 0, h0 => rfl
    | 1, h0 => rfl
    | 2, h0 => rfl
    | 3, h0 => rfl
    | 4, h0 => rfl
    | 5, h0 => rfl
    | 6, h0 => rfl
    | 7, h0 => rfl
    | 8, h0 => rfl
    | 9, h0 => rfl
    | 10, h0 => rfl
    | 11, h0 => exact absurd rfl h0
    | 12, h0 => rfl
    | 13, h0 => rfl
    | 14, h0 => rfl
    | 15, h0 => rfl
    | 16, h0 => rfl
    | 17, h0 => rfl
    | 18, h0 => rfl
    | 19, h0 => rfl
    | 20, h0 => rfl
    | 21, h0 => rfl
    | 22, h0 => rfl
    | 23, h0 => rfl
    | 24, h0 => rfl
    | 25, h0 => rfl
    | 26, h0 => rfl
    | 27, h0 => rfl
    | 28, h0 => rfl
    | 29, h0 => rfl
    | 30, h0 => rfl
    | 31, h0 => rfl
    | 32, h0 => rfl
    | 33, h0 => rfl
    | 34, h0 => rfl
    | i + 35, _ => rfl
theorem mA12 : (mput h m S).1 (m + 12) = some (.inl (0, 312, .inl (S.2.1 12))) := mput_at (by decide)
theorem mL12 : pln (mput h m S) 0 (m + 12) = 312 := pln_of mA12
theorem mL12n : pln (mput h m S) 9 (m + 12) = 0 := pln_no mA12 (by decide)
theorem mC12 : pct (mput h m S) (m + 12) = S.2.1 12 := pct_of mA12
theorem mW12 : pst (mput h m S) (m + 12) i v = mput h m (S.1, ua S.2.1 12 i v, S.2.2) := by
  rw [pst_of mA12]
  refine mput_up (j := 12) (by decide) ?_ (fun i hi h0 => ?_)
  · rfl
  · match i, h0 with
    | 0, h0 => rfl
    | 1, h0 => rfl
    | 2, h0 => rfl
    | 3, h0 => rfl
    | 4, h0 => rfl
    | 5, h0 => rfl
    | 6, h0 => rfl
    | 7, h0 => rfl
    | 8, h0 => rfl
    | 9, h0 => rfl
    | 10, h0 => rfl
    | 11, h0 => rfl
    | 12, h0 => exact absurd rfl h0
    | 13, h0 => rfl
    | 14, h0 => rfl
    | 15, h0 => rfl
    | 16, h0 => rfl
    | 17, h0 => rfl
    | 18, h0 => rfl
    | 19, h0 => rfl
    | 20, h0 => rfl
    | 21, h0 => rfl
    | 22, h0 => rfl
    | 23, h0 => rfl
    | 24, h0 => rfl
    | 25, h0 => rfl
    | 26, h0 => rfl
    | 27, h0 => rfl
    | 28, h0 => rfl
    | 29, h0 => rfl
    | 30, h0 => rfl
    | 31, h0 => rfl
    | 32, h0 => rfl
    | 33, h0 => rfl
    | 34, h0 => rfl
    | i + 35, _ => rfl
theorem mA13 : (mput h m S).1 (m + 13) = some (.inl (0, 312, .inl (S.2.1 13))) := mput_at (by decide)
theorem mL13 : pln (mput h m S) 0 (m + 13) = 312 := pln_of mA13
theorem mL13n : pln (mput h m S) 9 (m + 13) = 0 := pln_no mA13 (by decide)
theorem mC13 : pct (mput h m S) (m + 13) = S.2.1 13 := pct_of mA13
theorem mW13 : pst (mput h m S) (m + 13) i v = mput h m (S.1, ua S.2.1 13 i v, S.2.2) := by
  rw [pst_of mA13]
  refine mput_up (j := 13) (by decide) ?_ (fun i hi h0 => ?_)
  · rfl
  · match i, h0 with
    | 0, h0 => rfl
    | 1, h0 => rfl
    | 2, h0 => rfl
    | 3, h0 => rfl
    | 4, h0 => rfl
    | 5, h0 => rfl
    | 6, h0 => rfl
    | 7, h0 => rfl
    | 8, h0 => rfl
    | 9, h0 => rfl
    | 10, h0 => rfl
    | 11, h0 => rfl
    | 12, h0 => rfl
    | 13, h0 => exact absurd rfl h0
    | 14, h0 => rfl
    | 15, h0 => rfl
    | 16, h0 => rfl
    | 17, h0 => rfl
    | 18, h0 => rfl
    | 19, h0 => rfl
    | 20, h0 => rfl
    | 21, h0 => rfl
    | 22, h0 => rfl
    | 23, h0 => rfl
    | 24, h0 => rfl
    | 25, h0 => rfl
    | 26, h0 => rfl
    | 27, h0 => rfl
    | 28, h0 => rfl
    | 29, h0 => rfl
    | 30, h0 => rfl
    | 31, h0 => rfl
    | 32, h0 => rfl
    | 33, h0 => rfl
    | 34, h0 => rfl
    | i + 35, _ => rfl
theorem mA14 : (mput h m S).1 (m + 14) = some (.inl (0, 13, .inl (S.2.1 14))) := mput_at (by decide)
theorem mL14 : pln (mput h m S) 0 (m + 14) = 13 := pln_of mA14
theorem mL14n : pln (mput h m S) 9 (m + 14) = 0 := pln_no mA14 (by decide)
theorem mC14 : pct (mput h m S) (m + 14) = S.2.1 14 := pct_of mA14
theorem mW14 : pst (mput h m S) (m + 14) i v = mput h m (S.1, ua S.2.1 14 i v, S.2.2) := by
  rw [pst_of mA14]
  refine mput_up (j := 14) (by decide) ?_ (fun i hi h0 => ?_)
  · rfl
  · match i, h0 with
    | 0, h0 => rfl
    | 1, h0 => rfl
    | 2, h0 => rfl
    | 3, h0 => rfl
    | 4, h0 => rfl
    | 5, h0 => rfl
    | 6, h0 => rfl
    | 7, h0 => rfl
    | 8, h0 => rfl
    | 9, h0 => rfl
    | 10, h0 => rfl
    | 11, h0 => rfl
    | 12, h0 => rfl
    | 13, h0 => rfl
    | 14, h0 => exact absurd rfl h0
    | 15, h0 => rfl
    | 16, h0 => rfl
    | 17, h0 => rfl
    | 18, h0 => rfl
    | 19, h0 => rfl
    | 20, h0 => rfl
    | 21, h0 => rfl
    | 22, h0 => rfl
    | 23, h0 => rfl
    | 24, h0 => rfl
    | 25, h0 => rfl
    | 26, h0 => rfl
    | 27, h0 => rfl
    | 28, h0 => rfl
    | 29, h0 => rfl
    | 30, h0 => rfl
    | 31, h0 => rfl
    | 32, h0 => rfl
    | 33, h0 => rfl
    | 34, h0 => rfl
    | i + 35, _ => rfl
theorem mA15 : (mput h m S).1 (m + 15) = some (.inl (0, 60, .inl (S.2.1 15))) := mput_at (by decide)
theorem mL15 : pln (mput h m S) 0 (m + 15) = 60 := pln_of mA15
theorem mL15n : pln (mput h m S) 9 (m + 15) = 0 := pln_no mA15 (by decide)
theorem mC15 : pct (mput h m S) (m + 15) = S.2.1 15 := pct_of mA15
theorem mW15 : pst (mput h m S) (m + 15) i v = mput h m (S.1, ua S.2.1 15 i v, S.2.2) := by
  rw [pst_of mA15]
  refine mput_up (j := 15) (by decide) ?_ (fun i hi h0 => ?_)
  · rfl
  · match i, h0 with
    | 0, h0 => rfl
    | 1, h0 => rfl
    | 2, h0 => rfl
    | 3, h0 => rfl
    | 4, h0 => rfl
    | 5, h0 => rfl
    | 6, h0 => rfl
    | 7, h0 => rfl
    | 8, h0 => rfl
    | 9, h0 => rfl
    | 10, h0 => rfl
    | 11, h0 => rfl
    | 12, h0 => rfl
    | 13, h0 => rfl
    | 14, h0 => rfl
    | 15, h0 => exact absurd rfl h0
    | 16, h0 => rfl
    | 17, h0 => rfl
    | 18, h0 => rfl
    | 19, h0 => rfl
    | 20, h0 => rfl
    | 21, h0 => rfl
    | 22, h0 => rfl
    | 23, h0 => rfl
    | 24, h0 => rfl
    | 25, h0 => rfl
    | 26, h0 => rfl
    | 27, h0 => rfl
    | 28, h0 => rfl
    | 29, h0 => rfl
    | 30, h0 => rfl
    | 31, h0 => rfl
    | 32, h0 => rfl
    | 33, h0 => rfl
    | 34, h0 => rfl
    | i + 35, _ => rfl
theorem mA16 : (mput h m S).1 (m + 16) = some (.inl (0, 8, .inl (S.2.1 16))) := mput_at (by decide)
theorem mL16 : pln (mput h m S) 0 (m + 16) = 8 := pln_of mA16
theorem mL16n : pln (mput h m S) 9 (m + 16) = 0 := pln_no mA16 (by decide)
theorem mC16 : pct (mput h m S) (m + 16) = S.2.1 16 := pct_of mA16
theorem mW16 : pst (mput h m S) (m + 16) i v = mput h m (S.1, ua S.2.1 16 i v, S.2.2) := by
  rw [pst_of mA16]
  refine mput_up (j := 16) (by decide) ?_ (fun i hi h0 => ?_)
  · rfl
  · match i, h0 with
    | 0, h0 => rfl
    | 1, h0 => rfl
    | 2, h0 => rfl
    | 3, h0 => rfl
    | 4, h0 => rfl
    | 5, h0 => rfl
    | 6, h0 => rfl
    | 7, h0 => rfl
    | 8, h0 => rfl
    | 9, h0 => rfl
    | 10, h0 => rfl
    | 11, h0 => rfl
    | 12, h0 => rfl
    | 13, h0 => rfl
    | 14, h0 => rfl
    | 15, h0 => rfl
    | 16, h0 => exact absurd rfl h0
    | 17, h0 => rfl
    | 18, h0 => rfl
    | 19, h0 => rfl
    | 20, h0 => rfl
    | 21, h0 => rfl
    | 22, h0 => rfl
    | 23, h0 => rfl
    | 24, h0 => rfl
    | 25, h0 => rfl
    | 26, h0 => rfl
    | 27, h0 => rfl
    | 28, h0 => rfl
    | 29, h0 => rfl
    | 30, h0 => rfl
    | 31, h0 => rfl
    | 32, h0 => rfl
    | 33, h0 => rfl
    | 34, h0 => rfl
    | i + 35, _ => rfl
theorem mA17 : (mput h m S).1 (m + 17) = some (.inl (0, 60, .inl (S.2.1 17))) := mput_at (by decide)
theorem mL17 : pln (mput h m S) 0 (m + 17) = 60 := pln_of mA17
theorem mL17n : pln (mput h m S) 9 (m + 17) = 0 := pln_no mA17 (by decide)
theorem mC17 : pct (mput h m S) (m + 17) = S.2.1 17 := pct_of mA17
theorem mW17 : pst (mput h m S) (m + 17) i v = mput h m (S.1, ua S.2.1 17 i v, S.2.2) := by
  rw [pst_of mA17]
  refine mput_up (j := 17) (by decide) ?_ (fun i hi h0 => ?_)
  · rfl
  · match i, h0 with
    | 0, h0 => rfl
    | 1, h0 => rfl
    | 2, h0 => rfl
    | 3, h0 => rfl
    | 4, h0 => rfl
    | 5, h0 => rfl
    | 6, h0 => rfl
    | 7, h0 => rfl
    | 8, h0 => rfl
    | 9, h0 => rfl
    | 10, h0 => rfl
    | 11, h0 => rfl
    | 12, h0 => rfl
    | 13, h0 => rfl
    | 14, h0 => rfl
    | 15, h0 => rfl
    | 16, h0 => rfl
    | 17, h0 => exact absurd rfl h0
    | 18, h0 => rfl
    | 19, h0 => rfl
    | 20, h0 => rfl
    | 21, h0 => rfl
    | 22, h0 => rfl
    | 23, h0 => rfl
    | 24, h0 => rfl
    | 25, h0 => rfl
    | 26, h0 => rfl
    | 27, h0 => rfl
    | 28, h0 => rfl
    | 29, h0 => rfl
    | 30, h0 => rfl
    | 31, h0 => rfl
    | 32, h0 => rfl
    | 33, h0 => rfl
    | 34, h0 => rfl
    | i + 35, _ => rfl
theorem mA18 : (mput h m S).1 (m + 18) = some (.inl (0, 2800, .inl (S.2.1 18))) := mput_at (by decide)
theorem mL18 : pln (mput h m S) 0 (m + 18) = 2800 := pln_of mA18
theorem mL18n : pln (mput h m S) 9 (m + 18) = 0 := pln_no mA18 (by decide)
theorem mC18 : pct (mput h m S) (m + 18) = S.2.1 18 := pct_of mA18
theorem mW18 : pst (mput h m S) (m + 18) i v = mput h m (S.1, ua S.2.1 18 i v, S.2.2) := by
  rw [pst_of mA18]
  refine mput_up (j := 18) (by decide) ?_ (fun i hi h0 => ?_)
  · rfl
  · match i, h0 with
    | 0, h0 => rfl
    | 1, h0 => rfl
    | 2, h0 => rfl
    | 3, h0 => rfl
    | 4, h0 => rfl
    | 5, h0 => rfl
    | 6, h0 => rfl
    | 7, h0 => rfl
    | 8, h0 => rfl
    | 9, h0 => rfl
    | 10, h0 => rfl
    | 11, h0 => rfl
    | 12, h0 => rfl
    | 13, h0 => rfl
    | 14, h0 => rfl
    | 15, h0 => rfl
    | 16, h0 => rfl
    | 17, h0 => rfl
    | 18, h0 => exact absurd rfl h0
    | 19, h0 => rfl
    | 20, h0 => rfl
    | 21, h0 => rfl
    | 22, h0 => rfl
    | 23, h0 => rfl
    | 24, h0 => rfl
    | 25, h0 => rfl
    | 26, h0 => rfl
    | 27, h0 => rfl
    | 28, h0 => rfl
    | 29, h0 => rfl
    | 30, h0 => rfl
    | 31, h0 => rfl
    | 32, h0 => rfl
    | 33, h0 => rfl
    | 34, h0 => rfl
    | i + 35, _ => rfl
theorem mA19 : (mput h m S).1 (m + 19) = some (.inl (0, 7, .inl (S.2.1 19))) := mput_at (by decide)
theorem mL19 : pln (mput h m S) 0 (m + 19) = 7 := pln_of mA19
theorem mL19n : pln (mput h m S) 9 (m + 19) = 0 := pln_no mA19 (by decide)
theorem mC19 : pct (mput h m S) (m + 19) = S.2.1 19 := pct_of mA19
theorem mW19 : pst (mput h m S) (m + 19) i v = mput h m (S.1, ua S.2.1 19 i v, S.2.2) := by
  rw [pst_of mA19]
  refine mput_up (j := 19) (by decide) ?_ (fun i hi h0 => ?_)
  · rfl
  · match i, h0 with
    | 0, h0 => rfl
    | 1, h0 => rfl
    | 2, h0 => rfl
    | 3, h0 => rfl
    | 4, h0 => rfl
    | 5, h0 => rfl
    | 6, h0 => rfl
    | 7, h0 => rfl
    | 8, h0 => rfl
    | 9, h0 => rfl
    | 10, h0 => rfl
    | 11, h0 => rfl
    | 12, h0 => rfl
    | 13, h0 => rfl
    | 14, h0 => rfl
    | 15, h0 => rfl
    | 16, h0 => rfl
    | 17, h0 => rfl
    | 18, h0 => rfl
    | 19, h0 => exact absurd rfl h0
    | 20, h0 => rfl
    | 21, h0 => rfl
    | 22, h0 => rfl
    | 23, h0 => rfl
    | 24, h0 => rfl
    | 25, h0 => rfl
    | 26, h0 => rfl
    | 27, h0 => rfl
    | 28, h0 => rfl
    | 29, h0 => rfl
    | 30, h0 => rfl
    | 31, h0 => rfl
    | 32, h0 => rfl
    | 33, h0 => rfl
    | 34, h0 => rfl
    | i + 35, _ => rfl
theorem mA20 : (mput h m S).1 (m + 20) = some (.inl (0, 448, .inl (S.2.1 20))) := mput_at (by decide)
theorem mL20 : pln (mput h m S) 0 (m + 20) = 448 := pln_of mA20
theorem mL20n : pln (mput h m S) 9 (m + 20) = 0 := pln_no mA20 (by decide)
theorem mC20 : pct (mput h m S) (m + 20) = S.2.1 20 := pct_of mA20
theorem mW20 : pst (mput h m S) (m + 20) i v = mput h m (S.1, ua S.2.1 20 i v, S.2.2) := by
  rw [pst_of mA20]
  refine mput_up (j := 20) (by decide) ?_ (fun i hi h0 => ?_)
  · rfl
  · match i, h0 with
    | 0, h0 => rfl
    | 1, h0 => rfl
    | 2, h0 => rfl
    | 3, h0 => rfl
    | 4, h0 => rfl
    | 5, h0 => rfl
    | 6, h0 => rfl
    | 7, h0 => rfl
    | 8, h0 => rfl
    | 9, h0 => rfl
    | 10, h0 => rfl
    | 11, h0 => rfl
    | 12, h0 => rfl
    | 13, h0 => rfl
    | 14, h0 => rfl
    | 15, h0 => rfl
    | 16, h0 => rfl
    | 17, h0 => rfl
    | 18, h0 => rfl
    | 19, h0 => rfl
    | 20, h0 => exact absurd rfl h0
    | 21, h0 => rfl
    | 22, h0 => rfl
    | 23, h0 => rfl
    | 24, h0 => rfl
    | 25, h0 => rfl
    | 26, h0 => rfl
    | 27, h0 => rfl
    | 28, h0 => rfl
    | 29, h0 => rfl
    | 30, h0 => rfl
    | 31, h0 => rfl
    | 32, h0 => rfl
    | 33, h0 => rfl
    | 34, h0 => rfl
    | i + 35, _ => rfl
theorem mA21 : (mput h m S).1 (m + 21) = some (.inl (0, 448, .inl (S.2.1 21))) := mput_at (by decide)
theorem mL21 : pln (mput h m S) 0 (m + 21) = 448 := pln_of mA21
theorem mL21n : pln (mput h m S) 9 (m + 21) = 0 := pln_no mA21 (by decide)
theorem mC21 : pct (mput h m S) (m + 21) = S.2.1 21 := pct_of mA21
theorem mW21 : pst (mput h m S) (m + 21) i v = mput h m (S.1, ua S.2.1 21 i v, S.2.2) := by
  rw [pst_of mA21]
  refine mput_up (j := 21) (by decide) ?_ (fun i hi h0 => ?_)
  · rfl
  · match i, h0 with
    | 0, h0 => rfl
    | 1, h0 => rfl
    | 2, h0 => rfl
    | 3, h0 => rfl
    | 4, h0 => rfl
    | 5, h0 => rfl
    | 6, h0 => rfl
    | 7, h0 => rfl
    | 8, h0 => rfl
    | 9, h0 => rfl
    | 10, h0 => rfl
    | 11, h0 => rfl
    | 12, h0 => rfl
    | 13, h0 => rfl
    | 14, h0 => rfl
    | 15, h0 => rfl
    | 16, h0 => rfl
    | 17, h0 => rfl
    | 18, h0 => rfl
    | 19, h0 => rfl
    | 20, h0 => rfl
    | 21, h0 => exact absurd rfl h0
    | 22, h0 => rfl
    | 23, h0 => rfl
    | 24, h0 => rfl
    | 25, h0 => rfl
    | 26, h0 => rfl
    | 27, h0 => rfl
    | 28, h0 => rfl
    | 29, h0 => rfl
    | 30, h0 => rfl
    | 31, h0 => rfl
    | 32, h0 => rfl
    | 33, h0 => rfl
    | 34, h0 => rfl
    | i + 35, _ => rfl
theorem mA23 : (mput h m S).1 (m + 23) = some (.inl (0, 8, .inl (S.2.1 23))) := mput_at (by decide)
theorem mL23 : pln (mput h m S) 0 (m + 23) = 8 := pln_of mA23
theorem mL23n : pln (mput h m S) 9 (m + 23) = 0 := pln_no mA23 (by decide)
theorem mC23 : pct (mput h m S) (m + 23) = S.2.1 23 := pct_of mA23
theorem mW23 : pst (mput h m S) (m + 23) i v = mput h m (S.1, ua S.2.1 23 i v, S.2.2) := by
  rw [pst_of mA23]
  refine mput_up (j := 23) (by decide) ?_ (fun i hi h0 => ?_)
  · rfl
  · match i, h0 with
    | 0, h0 => rfl
    | 1, h0 => rfl
    | 2, h0 => rfl
    | 3, h0 => rfl
    | 4, h0 => rfl
    | 5, h0 => rfl
    | 6, h0 => rfl
    | 7, h0 => rfl
    | 8, h0 => rfl
    | 9, h0 => rfl
    | 10, h0 => rfl
    | 11, h0 => rfl
    | 12, h0 => rfl
    | 13, h0 => rfl
    | 14, h0 => rfl
    | 15, h0 => rfl
    | 16, h0 => rfl
    | 17, h0 => rfl
    | 18, h0 => rfl
    | 19, h0 => rfl
    | 20, h0 => rfl
    | 21, h0 => rfl
    | 22, h0 => rfl
    | 23, h0 => exact absurd rfl h0
    | 24, h0 => rfl
    | 25, h0 => rfl
    | 26, h0 => rfl
    | 27, h0 => rfl
    | 28, h0 => rfl
    | 29, h0 => rfl
    | 30, h0 => rfl
    | 31, h0 => rfl
    | 32, h0 => rfl
    | 33, h0 => rfl
    | 34, h0 => rfl
    | i + 35, _ => rfl
theorem mA24 : (mput h m S).1 (m + 24) = some (.inl (0, 3600, .inl (S.2.1 24))) := mput_at (by decide)
theorem mL24 : pln (mput h m S) 0 (m + 24) = 3600 := pln_of mA24
theorem mL24n : pln (mput h m S) 9 (m + 24) = 0 := pln_no mA24 (by decide)
theorem mC24 : pct (mput h m S) (m + 24) = S.2.1 24 := pct_of mA24
theorem mW24 : pst (mput h m S) (m + 24) i v = mput h m (S.1, ua S.2.1 24 i v, S.2.2) := by
  rw [pst_of mA24]
  refine mput_up (j := 24) (by decide) ?_ (fun i hi h0 => ?_)
  · rfl
  · match i, h0 with
    | 0, h0 => rfl
    | 1, h0 => rfl
    | 2, h0 => rfl
    | 3, h0 => rfl
    | 4, h0 => rfl
    | 5, h0 => rfl
    | 6, h0 => rfl
    | 7, h0 => rfl
    | 8, h0 => rfl
    | 9, h0 => rfl
    | 10, h0 => rfl
    | 11, h0 => rfl
    | 12, h0 => rfl
    | 13, h0 => rfl
    | 14, h0 => rfl
    | 15, h0 => rfl
    | 16, h0 => rfl
    | 17, h0 => rfl
    | 18, h0 => rfl
    | 19, h0 => rfl
    | 20, h0 => rfl
    | 21, h0 => rfl
    | 22, h0 => rfl
    | 23, h0 => rfl
    | 24, h0 => exact absurd rfl h0
    | 25, h0 => rfl
    | 26, h0 => rfl
    | 27, h0 => rfl
    | 28, h0 => rfl
    | 29, h0 => rfl
    | 30, h0 => rfl
    | 31, h0 => rfl
    | 32, h0 => rfl
    | 33, h0 => rfl
    | 34, h0 => rfl
    | i + 35, _ => rfl
theorem mA25 : (mput h m S).1 (m + 25) = some (.inl (0, 1024, .inl (S.2.1 25))) := mput_at (by decide)
theorem mL25 : pln (mput h m S) 0 (m + 25) = 1024 := pln_of mA25
theorem mL25n : pln (mput h m S) 9 (m + 25) = 0 := pln_no mA25 (by decide)
theorem mC25 : pct (mput h m S) (m + 25) = S.2.1 25 := pct_of mA25
theorem mW25 : pst (mput h m S) (m + 25) i v = mput h m (S.1, ua S.2.1 25 i v, S.2.2) := by
  rw [pst_of mA25]
  refine mput_up (j := 25) (by decide) ?_ (fun i hi h0 => ?_)
  · rfl
  · match i, h0 with
    | 0, h0 => rfl
    | 1, h0 => rfl
    | 2, h0 => rfl
    | 3, h0 => rfl
    | 4, h0 => rfl
    | 5, h0 => rfl
    | 6, h0 => rfl
    | 7, h0 => rfl
    | 8, h0 => rfl
    | 9, h0 => rfl
    | 10, h0 => rfl
    | 11, h0 => rfl
    | 12, h0 => rfl
    | 13, h0 => rfl
    | 14, h0 => rfl
    | 15, h0 => rfl
    | 16, h0 => rfl
    | 17, h0 => rfl
    | 18, h0 => rfl
    | 19, h0 => rfl
    | 20, h0 => rfl
    | 21, h0 => rfl
    | 22, h0 => rfl
    | 23, h0 => rfl
    | 24, h0 => rfl
    | 25, h0 => exact absurd rfl h0
    | 26, h0 => rfl
    | 27, h0 => rfl
    | 28, h0 => rfl
    | 29, h0 => rfl
    | 30, h0 => rfl
    | 31, h0 => rfl
    | 32, h0 => rfl
    | 33, h0 => rfl
    | 34, h0 => rfl
    | i + 35, _ => rfl
theorem mA26 : (mput h m S).1 (m + 26) = some (.inl (2, 1024, .inl (S.2.1 26))) := mput_at (by decide)
theorem mL26 : pln (mput h m S) 2 (m + 26) = 1024 := pln_of mA26
theorem mL26n : pln (mput h m S) 1 (m + 26) = 0 := pln_no mA26 (by decide)
theorem mC26 : pct (mput h m S) (m + 26) = S.2.1 26 := pct_of mA26
theorem mW26 : pst (mput h m S) (m + 26) i v = mput h m (S.1, ua S.2.1 26 i v, S.2.2) := by
  rw [pst_of mA26]
  refine mput_up (j := 26) (by decide) ?_ (fun i hi h0 => ?_)
  · rfl
  · match i, h0 with
    | 0, h0 => rfl
    | 1, h0 => rfl
    | 2, h0 => rfl
    | 3, h0 => rfl
    | 4, h0 => rfl
    | 5, h0 => rfl
    | 6, h0 => rfl
    | 7, h0 => rfl
    | 8, h0 => rfl
    | 9, h0 => rfl
    | 10, h0 => rfl
    | 11, h0 => rfl
    | 12, h0 => rfl
    | 13, h0 => rfl
    | 14, h0 => rfl
    | 15, h0 => rfl
    | 16, h0 => rfl
    | 17, h0 => rfl
    | 18, h0 => rfl
    | 19, h0 => rfl
    | 20, h0 => rfl
    | 21, h0 => rfl
    | 22, h0 => rfl
    | 23, h0 => rfl
    | 24, h0 => rfl
    | 25, h0 => rfl
    | 26, h0 => exact absurd rfl h0
    | 27, h0 => rfl
    | 28, h0 => rfl
    | 29, h0 => rfl
    | 30, h0 => rfl
    | 31, h0 => rfl
    | 32, h0 => rfl
    | 33, h0 => rfl
    | 34, h0 => rfl
    | i + 35, _ => rfl
theorem mA27 : (mput h m S).1 (m + 27) = some (.inl (0, 24, .inl (S.2.1 27))) := mput_at (by decide)
theorem mL27 : pln (mput h m S) 0 (m + 27) = 24 := pln_of mA27
theorem mL27n : pln (mput h m S) 9 (m + 27) = 0 := pln_no mA27 (by decide)
theorem mC27 : pct (mput h m S) (m + 27) = S.2.1 27 := pct_of mA27
theorem mW27 : pst (mput h m S) (m + 27) i v = mput h m (S.1, ua S.2.1 27 i v, S.2.2) := by
  rw [pst_of mA27]
  refine mput_up (j := 27) (by decide) ?_ (fun i hi h0 => ?_)
  · rfl
  · match i, h0 with
    | 0, h0 => rfl
    | 1, h0 => rfl
    | 2, h0 => rfl
    | 3, h0 => rfl
    | 4, h0 => rfl
    | 5, h0 => rfl
    | 6, h0 => rfl
    | 7, h0 => rfl
    | 8, h0 => rfl
    | 9, h0 => rfl
    | 10, h0 => rfl
    | 11, h0 => rfl
    | 12, h0 => rfl
    | 13, h0 => rfl
    | 14, h0 => rfl
    | 15, h0 => rfl
    | 16, h0 => rfl
    | 17, h0 => rfl
    | 18, h0 => rfl
    | 19, h0 => rfl
    | 20, h0 => rfl
    | 21, h0 => rfl
    | 22, h0 => rfl
    | 23, h0 => rfl
    | 24, h0 => rfl
    | 25, h0 => rfl
    | 26, h0 => rfl
    | 27, h0 => exact absurd rfl h0
    | 28, h0 => rfl
    | 29, h0 => rfl
    | 30, h0 => rfl
    | 31, h0 => rfl
    | 32, h0 => rfl
    | 33, h0 => rfl
    | 34, h0 => rfl
    | i + 35, _ => rfl
theorem mA28 : (mput h m S).1 (m + 28) = some (.inl (0, 30, .inl (S.2.1 28))) := mput_at (by decide)
theorem mL28 : pln (mput h m S) 0 (m + 28) = 30 := pln_of mA28
theorem mL28n : pln (mput h m S) 9 (m + 28) = 0 := pln_no mA28 (by decide)
theorem mC28 : pct (mput h m S) (m + 28) = S.2.1 28 := pct_of mA28
theorem mW28 : pst (mput h m S) (m + 28) i v = mput h m (S.1, ua S.2.1 28 i v, S.2.2) := by
  rw [pst_of mA28]
  refine mput_up (j := 28) (by decide) ?_ (fun i hi h0 => ?_)
  · rfl
  · match i, h0 with
    | 0, h0 => rfl
    | 1, h0 => rfl
    | 2, h0 => rfl
    | 3, h0 => rfl
    | 4, h0 => rfl
    | 5, h0 => rfl
    | 6, h0 => rfl
    | 7, h0 => rfl
    | 8, h0 => rfl
    | 9, h0 => rfl
    | 10, h0 => rfl
    | 11, h0 => rfl
    | 12, h0 => rfl
    | 13, h0 => rfl
    | 14, h0 => rfl
    | 15, h0 => rfl
    | 16, h0 => rfl
    | 17, h0 => rfl
    | 18, h0 => rfl
    | 19, h0 => rfl
    | 20, h0 => rfl
    | 21, h0 => rfl
    | 22, h0 => rfl
    | 23, h0 => rfl
    | 24, h0 => rfl
    | 25, h0 => rfl
    | 26, h0 => rfl
    | 27, h0 => rfl
    | 28, h0 => exact absurd rfl h0
    | 29, h0 => rfl
    | 30, h0 => rfl
    | 31, h0 => rfl
    | 32, h0 => rfl
    | 33, h0 => rfl
    | 34, h0 => rfl
    | i + 35, _ => rfl
theorem mA29 : (mput h m S).1 (m + 29) = some (.inl (0, 30, .inl (S.2.1 29))) := mput_at (by decide)
theorem mL29 : pln (mput h m S) 0 (m + 29) = 30 := pln_of mA29
theorem mL29n : pln (mput h m S) 9 (m + 29) = 0 := pln_no mA29 (by decide)
theorem mC29 : pct (mput h m S) (m + 29) = S.2.1 29 := pct_of mA29
theorem mW29 : pst (mput h m S) (m + 29) i v = mput h m (S.1, ua S.2.1 29 i v, S.2.2) := by
  rw [pst_of mA29]
  refine mput_up (j := 29) (by decide) ?_ (fun i hi h0 => ?_)
  · rfl
  · match i, h0 with
    | 0, h0 => rfl
    | 1, h0 => rfl
    | 2, h0 => rfl
    | 3, h0 => rfl
    | 4, h0 => rfl
    | 5, h0 => rfl
    | 6, h0 => rfl
    | 7, h0 => rfl
    | 8, h0 => rfl
    | 9, h0 => rfl
    | 10, h0 => rfl
    | 11, h0 => rfl
    | 12, h0 => rfl
    | 13, h0 => rfl
    | 14, h0 => rfl
    | 15, h0 => rfl
    | 16, h0 => rfl
    | 17, h0 => rfl
    | 18, h0 => rfl
    | 19, h0 => rfl
    | 20, h0 => rfl
    | 21, h0 => rfl
    | 22, h0 => rfl
    | 23, h0 => rfl
    | 24, h0 => rfl
    | 25, h0 => rfl
    | 26, h0 => rfl
    | 27, h0 => rfl
    | 28, h0 => rfl
    | 29, h0 => exact absurd rfl h0
    | 30, h0 => rfl
    | 31, h0 => rfl
    | 32, h0 => rfl
    | 33, h0 => rfl
    | 34, h0 => rfl
    | i + 35, _ => rfl
theorem mA30 : (mput h m S).1 (m + 30) = some (.inl (0, 30, .inl (S.2.1 30))) := mput_at (by decide)
theorem mL30 : pln (mput h m S) 0 (m + 30) = 30 := pln_of mA30
theorem mL30n : pln (mput h m S) 9 (m + 30) = 0 := pln_no mA30 (by decide)
theorem mC30 : pct (mput h m S) (m + 30) = S.2.1 30 := pct_of mA30
theorem mW30 : pst (mput h m S) (m + 30) i v = mput h m (S.1, ua S.2.1 30 i v, S.2.2) := by
  rw [pst_of mA30]
  refine mput_up (j := 30) (by decide) ?_ (fun i hi h0 => ?_)
  · rfl
  · match i, h0 with
    | 0, h0 => rfl
    | 1, h0 => rfl
    | 2, h0 => rfl
    | 3, h0 => rfl
    | 4, h0 => rfl
    | 5, h0 => rfl
    | 6, h0 => rfl
    | 7, h0 => rfl
    | 8, h0 => rfl
    | 9, h0 => rfl
    | 10, h0 => rfl
    | 11, h0 => rfl
    | 12, h0 => rfl
    | 13, h0 => rfl
    | 14, h0 => rfl
    | 15, h0 => rfl
    | 16, h0 => rfl
    | 17, h0 => rfl
    | 18, h0 => rfl
    | 19, h0 => rfl
    | 20, h0 => rfl
    | 21, h0 => rfl
    | 22, h0 => rfl
    | 23, h0 => rfl
    | 24, h0 => rfl
    | 25, h0 => rfl
    | 26, h0 => rfl
    | 27, h0 => rfl
    | 28, h0 => rfl
    | 29, h0 => rfl
    | 30, h0 => exact absurd rfl h0
    | 31, h0 => rfl
    | 32, h0 => rfl
    | 33, h0 => rfl
    | 34, h0 => rfl
    | i + 35, _ => rfl
theorem mA31 : (mput h m S).1 (m + 31) = some (.inl (0, 120, .inl (S.2.1 31))) := mput_at (by decide)
theorem mL31 : pln (mput h m S) 0 (m + 31) = 120 := pln_of mA31
theorem mL31n : pln (mput h m S) 9 (m + 31) = 0 := pln_no mA31 (by decide)
theorem mC31 : pct (mput h m S) (m + 31) = S.2.1 31 := pct_of mA31
theorem mW31 : pst (mput h m S) (m + 31) i v = mput h m (S.1, ua S.2.1 31 i v, S.2.2) := by
  rw [pst_of mA31]
  refine mput_up (j := 31) (by decide) ?_ (fun i hi h0 => ?_)
  · rfl
  · match i, h0 with
    | 0, h0 => rfl
    | 1, h0 => rfl
    | 2, h0 => rfl
    | 3, h0 => rfl
    | 4, h0 => rfl
    | 5, h0 => rfl
    | 6, h0 => rfl
    | 7, h0 => rfl
    | 8, h0 => rfl
    | 9, h0 => rfl
    | 10, h0 => rfl
    | 11, h0 => rfl
    | 12, h0 => rfl
    | 13, h0 => rfl
    | 14, h0 => rfl
    | 15, h0 => rfl
    | 16, h0 => rfl
    | 17, h0 => rfl
    | 18, h0 => rfl
    | 19, h0 => rfl
    | 20, h0 => rfl
    | 21, h0 => rfl
    | 22, h0 => rfl
    | 23, h0 => rfl
    | 24, h0 => rfl
    | 25, h0 => rfl
    | 26, h0 => rfl
    | 27, h0 => rfl
    | 28, h0 => rfl
    | 29, h0 => rfl
    | 30, h0 => rfl
    | 31, h0 => exact absurd rfl h0
    | 32, h0 => rfl
    | 33, h0 => rfl
    | 34, h0 => rfl
    | i + 35, _ => rfl
theorem mA32 : (mput h m S).1 (m + 32) = some (.inl (0, 6, .inl (S.2.1 32))) := mput_at (by decide)
theorem mL32 : pln (mput h m S) 0 (m + 32) = 6 := pln_of mA32
theorem mL32n : pln (mput h m S) 9 (m + 32) = 0 := pln_no mA32 (by decide)
theorem mC32 : pct (mput h m S) (m + 32) = S.2.1 32 := pct_of mA32
theorem mW32 : pst (mput h m S) (m + 32) i v = mput h m (S.1, ua S.2.1 32 i v, S.2.2) := by
  rw [pst_of mA32]
  refine mput_up (j := 32) (by decide) ?_ (fun i hi h0 => ?_)
  · rfl
  · match i, h0 with
    | 0, h0 => rfl
    | 1, h0 => rfl
    | 2, h0 => rfl
    | 3, h0 => rfl
    | 4, h0 => rfl
    | 5, h0 => rfl
    | 6, h0 => rfl
    | 7, h0 => rfl
    | 8, h0 => rfl
    | 9, h0 => rfl
    | 10, h0 => rfl
    | 11, h0 => rfl
    | 12, h0 => rfl
    | 13, h0 => rfl
    | 14, h0 => rfl
    | 15, h0 => rfl
    | 16, h0 => rfl
    | 17, h0 => rfl
    | 18, h0 => rfl
    | 19, h0 => rfl
    | 20, h0 => rfl
    | 21, h0 => rfl
    | 22, h0 => rfl
    | 23, h0 => rfl
    | 24, h0 => rfl
    | 25, h0 => rfl
    | 26, h0 => rfl
    | 27, h0 => rfl
    | 28, h0 => rfl
    | 29, h0 => rfl
    | 30, h0 => rfl
    | 31, h0 => rfl
    | 32, h0 => exact absurd rfl h0
    | 33, h0 => rfl
    | 34, h0 => rfl
    | i + 35, _ => rfl
theorem mA33 : (mput h m S).1 (m + 33) = some (.inl (0, 24, .inl (S.2.1 33))) := mput_at (by decide)
theorem mL33 : pln (mput h m S) 0 (m + 33) = 24 := pln_of mA33
theorem mL33n : pln (mput h m S) 9 (m + 33) = 0 := pln_no mA33 (by decide)
theorem mC33 : pct (mput h m S) (m + 33) = S.2.1 33 := pct_of mA33
theorem mW33 : pst (mput h m S) (m + 33) i v = mput h m (S.1, ua S.2.1 33 i v, S.2.2) := by
  rw [pst_of mA33]
  refine mput_up (j := 33) (by decide) ?_ (fun i hi h0 => ?_)
  · rfl
  · match i, h0 with
    | 0, h0 => rfl
    | 1, h0 => rfl
    | 2, h0 => rfl
    | 3, h0 => rfl
    | 4, h0 => rfl
    | 5, h0 => rfl
    | 6, h0 => rfl
    | 7, h0 => rfl
    | 8, h0 => rfl
    | 9, h0 => rfl
    | 10, h0 => rfl
    | 11, h0 => rfl
    | 12, h0 => rfl
    | 13, h0 => rfl
    | 14, h0 => rfl
    | 15, h0 => rfl
    | 16, h0 => rfl
    | 17, h0 => rfl
    | 18, h0 => rfl
    | 19, h0 => rfl
    | 20, h0 => rfl
    | 21, h0 => rfl
    | 22, h0 => rfl
    | 23, h0 => rfl
    | 24, h0 => rfl
    | 25, h0 => rfl
    | 26, h0 => rfl
    | 27, h0 => rfl
    | 28, h0 => rfl
    | 29, h0 => rfl
    | 30, h0 => rfl
    | 31, h0 => rfl
    | 32, h0 => rfl
    | 33, h0 => exact absurd rfl h0
    | 34, h0 => rfl
    | i + 35, _ => rfl
theorem mA34 : (mput h m S).1 (m + 34) = some (.inl (0, 24, .inl (S.2.1 34))) := mput_at (by decide)
theorem mL34 : pln (mput h m S) 0 (m + 34) = 24 := pln_of mA34
theorem mL34n : pln (mput h m S) 9 (m + 34) = 0 := pln_no mA34 (by decide)
theorem mC34 : pct (mput h m S) (m + 34) = S.2.1 34 := pct_of mA34
theorem mW34 : pst (mput h m S) (m + 34) i v = mput h m (S.1, ua S.2.1 34 i v, S.2.2) := by
  rw [pst_of mA34]
  refine mput_up (j := 34) (by decide) ?_ (fun i hi h0 => ?_)
  · rfl
  · match i, h0 with
    | 0, h0 => rfl
    | 1, h0 => rfl
    | 2, h0 => rfl
    | 3, h0 => rfl
    | 4, h0 => rfl
    | 5, h0 => rfl
    | 6, h0 => rfl
    | 7, h0 => rfl
    | 8, h0 => rfl
    | 9, h0 => rfl
    | 10, h0 => rfl
    | 11, h0 => rfl
    | 12, h0 => rfl
    | 13, h0 => rfl
    | 14, h0 => rfl
    | 15, h0 => rfl
    | 16, h0 => rfl
    | 17, h0 => rfl
    | 18, h0 => rfl
    | 19, h0 => rfl
    | 20, h0 => rfl
    | 21, h0 => rfl
    | 22, h0 => rfl
    | 23, h0 => rfl
    | 24, h0 => rfl
    | 25, h0 => rfl
    | 26, h0 => rfl
    | 27, h0 => rfl
    | 28, h0 => rfl
    | 29, h0 => rfl
    | 30, h0 => rfl
    | 31, h0 => rfl
    | 32, h0 => rfl
    | 33, h0 => rfl
    | 34, h0 => exact absurd rfl h0
    | i + 35, _ => rfl
theorem mA22 : (mput h m S).1 (m + 22) = some (.inl (3, 400, .inr (.inl S.2.2))) := mput_at (by decide)
theorem mL22 : plnL (mput h m S) (m + 22) = 400 := by simp [plnL, mA22]
theorem mC22 : pctL (mput h m S) (m + 22) = S.2.2 := by simp [pctL, mA22]
theorem mW22 : pstL (mput h m S) (m + 22) i lv = mput h m (S.1, S.2.1, vp_updL S.2.2 i lv) := by
  have : pstL (mput h m S) (m + 22) i lv = pup (mput h m S) (m + 22) (.inl (3, 400, .inr (.inl (vp_updL S.2.2 i lv)))) := by simp only [pstL, mA22]
  rw [this]
  refine mput_up (j := 22) (by decide) rfl (fun i hi h0 => ?_)
  match i, h0 with
  | 0, h0 => rfl
  | 1, h0 => rfl
  | 2, h0 => rfl
  | 3, h0 => rfl
  | 4, h0 => rfl
  | 5, h0 => rfl
  | 6, h0 => rfl
  | 7, h0 => rfl
  | 8, h0 => rfl
  | 9, h0 => rfl
  | 10, h0 => rfl
  | 11, h0 => rfl
  | 12, h0 => rfl
  | 13, h0 => rfl
  | 14, h0 => rfl
  | 15, h0 => rfl
  | 16, h0 => rfl
  | 17, h0 => rfl
  | 18, h0 => rfl
  | 19, h0 => rfl
  | 20, h0 => rfl
  | 21, h0 => rfl
  | 22, h0 => exact absurd rfl h0
  | 23, h0 => rfl
  | 24, h0 => rfl
  | 25, h0 => rfl
  | 26, h0 => rfl
  | 27, h0 => rfl
  | 28, h0 => rfl
  | 29, h0 => rfl
  | 30, h0 => rfl
  | 31, h0 => rfl
  | 32, h0 => rfl
  | 33, h0 => rfl
  | 34, h0 => rfl
  | i + 35, _ => rfl
theorem mO_pfl {a F k : Nat} (ha : a < m ∨ m + 35 ≤ a) : pfl (mput h m S) F a k = pfl h F a k := by simp only [pfl, mput_out ha]
theorem mO_pcl {a F k : Nat} (ha : a < m ∨ m + 35 ≤ a) : pcl (mput h m S) a = pcl h a := by simp only [pcl, mput_out ha]
theorem mO_pln {a F k : Nat} (ha : a < m ∨ m + 35 ≤ a) : pln (mput h m S) F a = pln h F a := by simp only [pln, mput_out ha]
theorem mO_pct {a F k : Nat} (ha : a < m ∨ m + 35 ≤ a) : pct (mput h m S) a = pct h a := by simp only [pct, mput_out ha]
theorem mO_plnQ {a F k : Nat} (ha : a < m ∨ m + 35 ≤ a) : plnQ (mput h m S) a = plnQ h a := by simp only [plnQ, mput_out ha]
theorem mO_pctQ {a F k : Nat} (ha : a < m ∨ m + 35 ≤ a) : pctQ (mput h m S) a = pctQ h a := by simp only [pctQ, mput_out ha]
theorem mO_pkdQ {a F k : Nat} (ha : a < m ∨ m + 35 ≤ a) : pkdQ (mput h m S) a = pkdQ h a := by simp only [pkdQ, mput_out ha]
theorem mO_plnL {a F k : Nat} (ha : a < m ∨ m + 35 ≤ a) : plnL (mput h m S) a = plnL h a := by simp only [plnL, mput_out ha]
theorem mO_pctL {a F k : Nat} (ha : a < m ∨ m + 35 ≤ a) : pctL (mput h m S) a = pctL h a := by simp only [pctL, mput_out ha]
theorem mO_pup {a : Nat} {c : va_E} (ha : a < m ∨ m + 35 ≤ a) : pup (mput h m S) a c = mput (pup h a c) m S := by
  unfold pup mput
  simp only [Prod.mk.injEq, and_true]
  funext q
  by_cases hq : q = a
  · subst hq
    rw [if_pos rfl, if_neg (by omega), if_pos rfl]
  · rw [if_neg hq, if_neg hq]
theorem mO_psf {a k : Nat} {v : Value} (ha : a < m ∨ m + 35 ≤ a) : psf (mput h m S) a k v = mput (psf h a k v) m S := by
  unfold psf
  rw [mput_out ha]
  split
  · exact mO_pup ha
  · rfl
theorem mO_pst {a : Nat} (ha : a < m ∨ m + 35 ≤ a) : pst (mput h m S) a i v = mput (pst h a i v) m S := by
  unfold pst
  rw [mput_out ha]
  split
  · exact mO_pup ha
  · rfl
end
