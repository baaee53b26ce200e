/-! READING 1: the tape; the component's Reader -/
set_option maxRecDepth 100000
/-- what stands at a place -/
def hr (t : Tp) (a : Nat) : Int32 := if a < t.1 then nI (t.2 a) else -1
/-- the byte c stands there -/
def isC (t : Tp) (a c : Nat) : Bool := decide (a < t.1) && decide (t.2 a = c)
def inC (t : Tp) (a lo hi : Nat) : Bool := decide (a < t.1) && decide (lo ≤ t.2 a) && decide (t.2 a ≤ hi)
/-- behind blanks -/
def skpf (t : Tp) : Nat → Nat → Nat
  | 0, a => a
  | n + 1, a => if isC t a 32 = true then skpf t n (a + 1) else a
def skp (t : Tp) (a : Nat) : Nat := skpf t (t.1 - a) a
def TpOk (t : Tp) : Prop := t.1 ≤ 200 ∧ ∀ i, i < t.1 → t.2 i < 256
section
variable {t : Tp} {a c lo hi : Nat}
theorem skp_s (h : isC t a 32 = true) : skp t a = skp t (a + 1) := by
  have h1 : a < t.1 := by simp [isC] at h; exact h.1
  unfold skp
  rw [show t.1 - a = (t.1 - (a + 1)) + 1 by omega, skpf, if_pos h]
theorem skp_n (h : ¬ isC t a 32 = true) : skp t a = a := by
  unfold skp
  cases t.1 - a with
  | zero => rfl
  | succ n => rw [skpf, if_neg h]
theorem skp_ge : ∀ n a, t.1 - a ≤ n → a ≤ skp t a ∧ (a ≤ t.1 → skp t a ≤ t.1) ∧ ¬ isC t (skp t a) 32 = true := by
  intro n
  induction n with
  | zero =>
    intro a h
    have : ¬ isC t a 32 = true := by simp [isC]; omega
    rw [skp_n this]
    exact ⟨Nat.le_refl _, fun h => h, this⟩
  | succ n ih =>
    intro a h
    by_cases e : isC t a 32 = true
    · have h1 : a < t.1 := by simp [isC] at e; exact e.1
      rw [skp_s e]
      obtain ⟨i1, i2, i3⟩ := ih (a + 1) (by omega)
      exact ⟨by omega, fun _ => i2 (by omega), i3⟩
    · rw [skp_n e]
      exact ⟨Nat.le_refl _, fun h => h, e⟩
theorem skp_le : a ≤ skp t a := (skp_ge _ a (Nat.le_refl _)).1
theorem skp_t (h : a ≤ t.1) : skp t a ≤ t.1 := (skp_ge _ a (Nat.le_refl _)).2.1 h
theorem skp_b : ¬ isC t (skp t a) 32 = true := (skp_ge _ a (Nat.le_refl _)).2.2
theorem skp_sk : skp t (skp t a) = skp t a := skp_n skp_b
/-- comparisons, as the code makes them -/
theorem hr_eq (ht : TpOk t) (hc : (OfNat.ofNat c : Nat) < 2147483648) : (hr t a = (no_index (OfNat.ofNat c : Int32))) = (isC t a (OfNat.ofNat c) = true) := by
  unfold hr isC
  by_cases h : a < t.1
  · have := ht.2 a h
    rw [if_pos h, nIeqL (by omega) hc]
    simp [h]
  · rw [if_neg h]
    simp only [h, decide_false, Bool.false_and, Bool.false_eq_true, eq_iff_iff, iff_false]
    intro e
    have e1 := congrArg Int32.toInt e
    have e2 : (OfNat.ofNat c : Int32).toInt = ((c : Nat) : Int) := Int32.toInt_ofNat_of_lt (by exact hc)
    rw [e2, show (-1 : Int32).toInt = -1 from rfl] at e1
    omega
theorem hr_lt (ht : TpOk t) (hc : (OfNat.ofNat c : Nat) < 2147483648) : (hr t a < (no_index (OfNat.ofNat c : Int32))) = ¬ (a < t.1 ∧ (OfNat.ofNat c : Nat) ≤ t.2 a) := by
  unfold hr
  by_cases h : a < t.1
  · have := ht.2 a h
    rw [if_pos h, nIltL (by omega) hc]
    simp [h]
  · rw [if_neg h]
    simp only [h, false_and, not_false_eq_true, eq_iff_iff, iff_true]
    have e2 : (OfNat.ofNat c : Int32).toInt = ((c : Nat) : Int) := Int32.toInt_ofNat_of_lt (by exact hc)
    rw [Int32.lt_iff_toInt_lt, e2, show (-1 : Int32).toInt = -1 from rfl]
    omega
theorem hr_gt (ht : TpOk t) (hc : (OfNat.ofNat c : Nat) < 2147483648) : ((no_index (OfNat.ofNat c : Int32)) < hr t a) = (a < t.1 ∧ (OfNat.ofNat c : Nat) < t.2 a) := by
  unfold hr
  by_cases h : a < t.1
  · have := ht.2 a h
    rw [if_pos h, nILlt (by omega) hc]
    simp [h]
  · rw [if_neg h]
    simp only [h, false_and, eq_iff_iff, iff_false]
    have e2 : (OfNat.ofNat c : Int32).toInt = ((c : Nat) : Int) := Int32.toInt_ofNat_of_lt (by exact hc)
    rw [Int32.lt_iff_toInt_lt, e2, show (-1 : Int32).toInt = -1 from rfl]
    omega
theorem hr_m1 (ht : TpOk t) : (hr t a = -1) = (t.1 ≤ a) := by
  unfold hr
  by_cases h : a < t.1
  · have := ht.2 a h
    rw [if_pos h]
    simp only [eq_iff_iff]
    constructor
    · intro e
      have e1 := congrArg Int32.toInt e
      have e2 : (nI (t.2 a)).toInt = (t.2 a : Nat) := Int32.toInt_ofNat_of_lt (by show t.2 a < 2147483648; omega)
      rw [e2, show (-1 : Int32).toInt = -1 from rfl] at e1
      omega
    · intro e; omega
  · rw [if_neg h]
    simp; omega
theorem hr_in (h : a < t.1) : hr t a = nI (t.2 a) := if_pos h
theorem byte8 : ∀ b, b < 256 → (nI b).toInt8.toInt32 &&& 255 = nI b := by decide +kernel
theorem byte7 : ∀ b, b < 128 → (nI b).toInt8.toInt32 = nI b := by decide +kernel
end
/-- a reader's cell: where, how deep, whose; the rest -/
def rq (h : pH) (o c a dp x : Nat) (r : List Value) : pH := pup h o (.inr (c, .int (nI a) :: .int (nI dp) :: .ref x :: r))
/-- a thing that is wrong -/
def wr (a : Int32) : va_E := .inr (7, [.null, .null, .null, .null, .null, .int 0, .int a])
section
variable {h : pH} {o c a dp x q k F i n : Nat} {r : List Value} {v : Value} {e : va_E} {w : Int32}
theorem rq_at : (rq h o c a dp x r).1 o = some (.inr (c, .int (nI a) :: .int (nI dp) :: .ref x :: r)) := pup_same
theorem rq_ne (hq : q ≠ o) : (rq h o c a dp x r).1 q = h.1 q := pup_ne hq
theorem rq_21 : (rq h o c a dp x r).2.1 = h.2.1 := rfl
theorem rq_2 : (rq h o c a dp x r).2 = h.2 := rfl
theorem qCl : pcl (rq h o c a dp x r) o = c := pcl_of rq_at
theorem qF0 (hc : pok F c = true) : pfl (rq h o c a dp x r) F o 0 = .int (nI a) := pfl_of rq_at hc rfl
theorem qF1 (hc : pok F c = true) : pfl (rq h o c a dp x r) F o 1 = .int (nI dp) := pfl_of rq_at hc rfl
theorem qF2 (hc : pok F c = true) : pfl (rq h o c a dp x r) F o 2 = .ref x := pfl_of rq_at hc rfl
theorem qP0 {b : Nat} : psf (rq h o c a dp x r) o 0 (.int (nI b)) = rq h o c b dp x r := by
  rw [psf_of rq_at]
  unfold rq pup
  simp only [List.set_cons_zero, Prod.mk.injEq, and_true]
  funext q
  by_cases e : q = o <;> simp [e]
theorem qP1 {b : Nat} : psf (rq h o c a dp x r) o 1 (.int (nI b)) = rq h o c a b x r := by
  rw [psf_of rq_at]
  unfold rq pup
  simp only [List.set_cons_zero, List.set_cons_succ, Prod.mk.injEq, and_true]
  funext q
  by_cases e : q = o <;> simp [e]
theorem qPr {j : Nat} : psf (rq h o c a dp x r) o (j + 3) v = rq h o c a dp x (r.set j v) := by
  rw [psf_of rq_at]
  unfold rq pup
  simp only [List.set_cons_succ, Prod.mk.injEq, and_true]
  funext q
  by_cases e : q = o <;> simp [e]
theorem qO_pfl (hq : q ≠ o) : pfl (rq h o c a dp x r) F q k = pfl h F q k := by simp only [pfl, rq_ne hq]
theorem qO_pcl (hq : q ≠ o) : pcl (rq h o c a dp x r) q = pcl h q := by simp only [pcl, rq_ne hq]
theorem qO_pln (hq : q ≠ o) : pln (rq h o c a dp x r) F q = pln h F q := by simp only [pln, rq_ne hq]
theorem qO_pct (hq : q ≠ o) : pct (rq h o c a dp x r) q = pct h q := by simp only [pct, rq_ne hq]
theorem qO_psf (hq : q ≠ o) : psf (rq h o c a dp x r) q k v = rq (psf h q k v) o c a dp x r := by
  unfold psf
  rw [rq_ne hq]
  split
  · unfold rq pup
    simp only [Prod.mk.injEq, and_true]
    funext z
    by_cases e1 : z = q
    · subst e1; simp [hq]
    · by_cases e2 : z = o
      · subst e2; simp [e1]
      · simp [e1, e2]
  · rfl
theorem qO_pnw (ho : o ≠ h.2.1) : pnw (rq h o c a dp x r) e n = rq (pnw h e n) o c a dp x r := by
  unfold rq pup pnw
  simp only [Prod.mk.injEq, and_true]
  funext z
  by_cases e1 : z = h.2.1
  · subst e1; simp [Ne.symm ho]
  · by_cases e2 : z = o
    · subst e2; simp [e1]
    · simp [e1, e2]
end
/-- the component's tape, as a reader sees it; N sorts -/
structure XT (h : pH) (x : Nat) (t : Tp) (N : Nat) : Prop where
  l : pfl h 1 x 3 = .int (nI t.1)
  u : pfl h 1 x 2 = .ref (x + 2)
  s : pfl h 1 x 1 = .int (nI N)
  n : pln h 1 (x + 2) = 200
  c : ∀ i, i < t.1 → pct h (x + 2) i = (nI (t.2 i)).toInt8.toInt32
  k : TpOk t
  N6 : N ≤ 6
theorem XT.fr {h h' : pH} {x N : Nat} {t : Tp} (hX : XT h x t N) (h0 : h'.1 x = h.1 x) (h2 : h'.1 (x + 2) = h.1 (x + 2)) : XT h' x t N := by
  obtain ⟨a1, a2, a3, a4, a5, a6, a7⟩ := hX
  refine ⟨?_, ?_, ?_, ?_, ?_, a6, a7⟩
  · rw [← a1]; simp only [pfl, h0]
  · rw [← a2]; simp only [pfl, h0]
  · rw [← a3]; simp only [pfl, h0]
  · rw [← a4]; simp only [pln, h2]
  · intro i hi; rw [← a5 i hi]; simp only [pct, h2]
section
variable {h : pH} {o c a dp x d N : Nat} {r : List Value} {t : Tp}
theorem kX5_here (hX : XT h x t N) (ho : o ≠ x ∧ o ≠ x + 2) (hc : pok 5 c = true) (ha : a < 1000) : pCa 171 d [.ref o] (rq h o c a dp x r) = some (.inl (some (.int (hr t a))), rq h o c a dp x r) := by
  obtain ⟨hX1, hX2, hX3, hX4, hX5, hX6, hX7⟩ := hX
  have ht := hX6.1
  have hx0 : x ≠ o := Ne.symm ho.1
  have hx2 : x + 2 ≠ o := Ne.symm ho.2
  rw [eX5_here]
  by_cases l : a < t.1
  · have hb := hX6.2 a l
    simp (disch := first | assumption | omega | decide) only [pis_i, pis_l, pis_r, pis_n, p1_i, p1_r, p1_n, p1_u, pw0, pw1, pw2, pw3, pw4, pK_v, pK_0, pK_ite, if_true, if_false, if_pos, if_neg, Nat.reduceAdd, pok_r, i10, i01, Bool.true_or, Bool.or_true, Bool.and_true, Bool.true_and, Nat.add_sub_cancel, i1p1, i1p0, i0p1, i0p0, nIrem2, va_rf_s, bit1, bit0, pinT, pinLT, pin0, nIc, nIcL, nIlt, nIeq, nIltL, nILlt, nIeqL, nILeq, nIadL, nILad, nILmu, nI_add, nIsbL, nI_sub', decide_true, decide_false, Bool.false_or, Bool.or_false, rX5_here_0, rX5_here_1, rX5_here_4, rX5_here_5, rX5_here_8, rX5_here_11, rX5_here_14, rX5_here_15, rX5_here_18, rX5_here_21, rX5_here_22, rX5_here_25, rX5_here_26, rX5_here_29, rX5_here_30, rX5_here_33, rX5_here_34, qF0 hc, qF2 hc, qO_pfl hx0, qO_pln hx2, qO_pct hx2, hX1, hX2, hX4, hX5, byte8, hr_in l]
  · simp (disch := first | assumption | omega | decide) only [pis_i, pis_l, pis_r, pis_n, p1_i, p1_r, p1_n, p1_u, pw0, pw1, pw2, pw3, pw4, pK_v, pK_0, pK_ite, if_true, if_false, if_pos, if_neg, Nat.reduceAdd, pok_r, i10, i01, Bool.true_or, Bool.or_true, Bool.and_true, Bool.true_and, Nat.add_sub_cancel, i1p1, i1p0, i0p1, i0p0, nIrem2, va_rf_s, bit1, bit0, pinT, pinLT, pin0, nIc, nIcL, nIlt, nIeq, nIltL, nILlt, nIeqL, nILeq, nIadL, nILad, nILmu, nI_add, nIsbL, nI_sub', decide_true, decide_false, Bool.false_or, Bool.or_false, rX5_here_0, rX5_here_1, rX5_here_4, rX5_here_5, rX5_here_8, rX5_here_11, rX5_here_14, rX5_here_15, rX5_here_18, rX5_here_21, rX5_here_22, rX5_here_25, rX5_here_26, rX5_here_29, rX5_here_30, rX5_here_33, rX5_here_34, qF0 hc, qF2 hc, qO_pfl hx0, hX1, hX2, l, hr]
theorem kX5_look (hX : XT h x t N) (ho : o ≠ x ∧ o ≠ x + 2) (hc : pok 5 c = true) (ha : a ≤ t.1) : pCa 170 (d + 1) [.ref o] (rq h o c a dp x r) = some (.inl (some (.int (hr t (skp t a)))), rq h o c (skp t a) dp x r) := by
  have ht := hX.k
  have ht1 := ht.1
  rw [eX5_look]
  have lp : ∀ n a, t.1 - a ≤ n → a ≤ t.1 → pR 170 (d + 1) 0 [.ref o] [] (rq h o c a dp x r) = some (.inl (some (.int (hr t (skp t a)))), rq h o c (skp t a) dp x r) := by
    intro n
    induction n with
    | zero =>
      intro a hn ha
      have e : ¬ isC t a 32 = true := by simp [isC]; omega
      rw [rX5_look_0]
      simp (disch := first | assumption | omega | decide) only [pis_i, pis_l, pis_r, pis_n, p1_i, p1_r, p1_n, p1_u, pw0, pw1, pw2, pw3, pw4, pK_v, pK_0, pK_ite, if_true, if_false, if_pos, if_neg, Nat.reduceAdd, pok_r, i10, i01, Bool.true_or, Bool.or_true, Bool.and_true, Bool.true_and, rX5_look_1, rX5_look_4, rX5_look_6, rX5_look_9, rX5_look_10, rX5_look_10i, rX5_look_11, rX5_look_14, rX5_look_15, rX5_look_16, rX5_look_19, rX5_look_22, rX5_look_23, rX5_look_26, qCl, hc, kX5_here hX ho hc (show a < 1000 by omega), hr_eq ht, e, skp_n e]
    | succ n ih =>
      intro a hn ha
      rw [rX5_look_0]
      by_cases e : isC t a 32 = true
      · have h1 : a < t.1 := by simp [isC] at e; exact e.1
        simp (disch := first | assumption | omega | decide) only [pis_i, pis_l, pis_r, pis_n, p1_i, p1_r, p1_n, p1_u, pw0, pw1, pw2, pw3, pw4, pK_v, pK_0, pK_ite, if_true, if_false, if_pos, if_neg, Nat.reduceAdd, pok_r, i10, i01, Bool.true_or, Bool.or_true, Bool.and_true, Bool.true_and, Nat.add_sub_cancel, i1p1, i1p0, i0p1, i0p0, nIrem2, va_rf_s, bit1, bit0, pinT, pinLT, pin0, nIc, nIcL, nIlt, nIeq, nIltL, nILlt, nIeqL, nILeq, nIadL, nILad, nILmu, nI_add, nIsbL, nI_sub', decide_true, decide_false, Bool.false_or, Bool.or_false, rX5_look_1, rX5_look_4, rX5_look_6, rX5_look_9, rX5_look_10, rX5_look_10i, rX5_look_11, rX5_look_14, rX5_look_15, rX5_look_16, rX5_look_19, rX5_look_22, rX5_look_23, rX5_look_26, qCl, hc, kX5_here hX ho hc (show a < 1000 by omega), hr_eq ht, e, qF0 hc, qP0]
        rw [skp_s e]
        exact ih _ (by omega) (by omega)
      · simp (disch := first | assumption | omega | decide) only [pis_i, pis_l, pis_r, pis_n, p1_i, p1_r, p1_n, p1_u, pw0, pw1, pw2, pw3, pw4, pK_v, pK_0, pK_ite, if_true, if_false, if_pos, if_neg, Nat.reduceAdd, pok_r, i10, i01, Bool.true_or, Bool.or_true, Bool.and_true, Bool.true_and, rX5_look_1, rX5_look_4, rX5_look_6, rX5_look_9, rX5_look_10, rX5_look_10i, rX5_look_11, rX5_look_14, rX5_look_15, rX5_look_16, rX5_look_19, rX5_look_22, rX5_look_23, rX5_look_26, qCl, hc, kX5_here hX ho hc (show a < 1000 by omega), hr_eq ht, e, skp_n e]
  exact lp _ a (Nat.le_refl _) ha
theorem kX7_init {H : pH} {q : Nat} (hq : q = H.2.1) {w : Int32} : pCa 256 (d + 7) [.ref q, .int w] (pnw H (.inr (7, [.null, .null, .null, .null, .null, .int 0, .int 0])) 7) = some (.inl none, pnw H (wr w) 7) := by
  subst hq
  have e1 : pCa 258 (d + 5) [.ref H.2.1, .null, .null, .int 0, .int 0] (pnw H (.inr (7, [.null, .null, .null, .null, .null, .int 0, .int 0])) 7) = some (.inl none, pnw H (.inr (7, [.null, .null, .null, .null, .null, .int 0, .int 0])) 7) := by
    rw [show pCa 258 (d + 5) [.ref H.2.1, .null, .null, .int 0, .int 0] (pnw H (.inr (7, [.null, .null, .null, .null, .null, .int 0, .int 0])) 7) = pR 258 (d + 5) 0 [.ref H.2.1, .null, .null, .int 0, .int 0] [] (pnw H (.inr (7, [.null, .null, .null, .null, .null, .int 0, .int 0])) 7) from rfl]
    simp (disch := first | assumption | omega | decide) only [pis_i, pis_l, pis_r, pis_n, p1_i, p1_r, p1_n, p1_u, pw0, pw1, pw2, pw3, pw4, pK_v, pK_0, pK_ite, if_true, if_false, if_pos, if_neg, Nat.reduceAdd, pok_r, i10, i01, Bool.true_or, Bool.or_true, Bool.and_true, Bool.true_and, rJ1_init_0, rJ1_init_1, rJ1_init_1n, rJ1_init_2, rJ1_init_2n, rJ1_init_3, rJ1_init_4, rJ1_init_6, rJ1_init_9, pfl_pnw, psf_pnw, pcl_pnw, List.set_cons_zero, List.set_cons_succ, List.getD_cons_zero, List.getD_cons_succ]
  have e2 : pCa 257 (d + 6) [.ref H.2.1, .null, .null, .int 0, .int 0] (pnw H (.inr (7, [.null, .null, .null, .null, .null, .int 0, .int 0])) 7) = some (.inl none, pnw H (.inr (7, [.null, .null, .null, .null, .null, .int 0, .int 0])) 7) := by
    rw [show pCa 257 (d + 6) [.ref H.2.1, .null, .null, .int 0, .int 0] (pnw H (.inr (7, [.null, .null, .null, .null, .null, .int 0, .int 0])) 7) = pR 257 (d + 6) 0 [.ref H.2.1, .null, .null, .int 0, .int 0] [] (pnw H (.inr (7, [.null, .null, .null, .null, .null, .int 0, .int 0])) 7) from rfl]
    simp (disch := first | assumption | omega | decide) only [pis_i, pis_l, pis_r, pis_n, p1_i, p1_r, p1_n, p1_u, pw0, pw1, pw2, pw3, pw4, pK_v, pK_0, pK_ite, if_true, if_false, if_pos, if_neg, Nat.reduceAdd, pok_r, i10, i01, Bool.true_or, Bool.or_true, Bool.and_true, Bool.true_and, rJ2_init_0, rJ2_init_1, rJ2_init_1n, rJ2_init_2, rJ2_init_2n, rJ2_init_3, rJ2_init_4, rJ2_init_6, rJ2_init_9, pcl_pnw, e1]
  rw [eX7_init]
  simp (disch := first | assumption | omega | decide) only [pis_i, pis_l, pis_r, pis_n, p1_i, p1_r, p1_n, p1_u, pw0, pw1, pw2, pw3, pw4, pK_v, pK_0, pK_ite, if_true, if_false, if_pos, if_neg, Nat.reduceAdd, pok_r, i10, i01, Bool.true_or, Bool.or_true, Bool.and_true, Bool.true_and, rX7_init_0, rX7_init_1, rX7_init_2, rX7_init_3, rX7_init_4, rX7_init_5, rX7_init_8, rX7_init_9, rX7_init_10, rX7_init_13, pcl_pnw, e2, pfl_pnw, psf_pnw, List.set_cons_zero, List.set_cons_succ, List.getD_cons_zero, List.getD_cons_succ, wr]
theorem kX5_take (hX : XT h x t N) (ho : o ≠ x ∧ o ≠ x + 2) (hc : pok 5 c = true) (ha : a < t.1) : pCa 172 d [.ref o, .int 1] (rq h o c a dp x r) = some (.inl (some (.int (nI (t.2 a)).toInt8.toInt32)), rq h o c (a + 1) dp x r) := by
  obtain ⟨hX1, hX2, hX3, hX4, hX5, hX6, hX7⟩ := hX
  have ht := hX6.1
  have hx0 : x ≠ o := Ne.symm ho.1
  have hx2 : x + 2 ≠ o := Ne.symm ho.2
  rw [eX5_take]
  simp (disch := first | assumption | omega | decide) only [pis_i, pis_l, pis_r, pis_n, p1_i, p1_r, p1_n, p1_u, pw0, pw1, pw2, pw3, pw4, pK_v, pK_0, pK_ite, if_true, if_false, if_pos, if_neg, Nat.reduceAdd, pok_r, i10, i01, Bool.true_or, Bool.or_true, Bool.and_true, Bool.true_and, Nat.add_sub_cancel, i1p1, i1p0, i0p1, i0p0, nIrem2, va_rf_s, bit1, bit0, pinT, pinLT, pin0, nIc, nIcL, nIlt, nIeq, nIltL, nILlt, nIeqL, nILeq, nIadL, nILad, nILmu, nI_add, nIsbL, nI_sub', decide_true, decide_false, Bool.false_or, Bool.or_false, rX5_take_0, rX5_take_1, rX5_take_4, rX5_take_7, rX5_take_7i, rX5_take_8, rX5_take_9, rX5_take_12, rX5_take_15, rX5_take_16, rX5_take_17, rX5_take_17i, rX5_take_18, rX5_take_21, rX5_take_22, rX5_take_23, rX5_take_26, rX5_take_27, rX5_take_30, rX5_take_33, rX5_take_34, rX5_take_37, rX5_take_38, rX5_take_39, rX5_take_40, qF0 hc, qF2 hc, qP0, qO_pfl hx0, qO_pln hx2, qO_pct hx2, hX1, hX2, hX4, hX5]
/-- a Wrong made while reading -/
theorem kWr (ho : o ≠ h.2.1) {w : Int32} : pCa 256 (d + 7) [.ref h.2.1, .int w] (rq (pnw h (.inr (7, [.null, .null, .null, .null, .null, .int 0, .int 0])) 7) o c a dp x r) = some (.inl none, rq (pnw h (wr w) 7) o c a dp x r) := by
  have hi := kX7_init (d := d) (H := rq h o c a dp x r) (q := h.2.1) rfl (w := w)
  rw [qO_pnw ho, qO_pnw ho] at hi
  exact hi
theorem kWc (ho : o ≠ h.2.1) : pcl (rq (pnw h (.inr (7, [.null, .null, .null, .null, .null, .int 0, .int 0])) 7) o c a dp x r) h.2.1 = 7 := by rw [qO_pcl (Ne.symm ho), pcl_pnw]
theorem kWd (ho : o ≠ h.2.1) {w : Int32} : pcl (rq (pnw h (wr w) 7) o c a dp x r) h.2.1 = 7 ∨ pcl (rq (pnw h (wr w) 7) o c a dp x r) h.2.1 = 26 := by
  left
  rw [qO_pcl (Ne.symm ho)]
  exact pcl_pnw
theorem kX5_take0 (hc : pok 5 c = true) (ho : o < h.2.1) : pCa 172 (d + 8) [.ref o, .int 0] (rq h o c a dp x r) = some (.inr h.2.1, rq (pnw h (wr (nI a)) 7) o c a dp x r) := by
  rw [eX5_take]
  simp (disch := first | assumption | omega | decide | (refine kWd ?_; omega)) only [pis_i, pis_l, pis_r, pis_n, p1_i, p1_r, p1_n, p1_u, pw0, pw1, pw2, pw3, pw4, pK_v, pK_0, pK_ite, if_true, if_false, if_pos, if_neg, Nat.reduceAdd, pok_r, i10, i01, Bool.true_or, Bool.or_true, Bool.and_true, Bool.true_and, Nat.add_sub_cancel, i1p1, i1p0, i0p1, i0p0, nIrem2, va_rf_s, bit1, bit0, pinT, pinLT, pin0, nIc, nIcL, nIlt, nIeq, nIltL, nILlt, nIeqL, nILeq, nIadL, nILad, nILmu, nI_add, nIsbL, nI_sub', decide_true, decide_false, Bool.false_or, Bool.or_false, rX5_take_0, rX5_take_1, rX5_take_4, rX5_take_7, rX5_take_7i, rX5_take_8, rX5_take_9, rX5_take_12, rX5_take_15, rX5_take_16, rX5_take_17, rX5_take_17i, rX5_take_18, rX5_take_21, rX5_take_22, rX5_take_23, rX5_take_26, rX5_take_27, rX5_take_30, rX5_take_33, rX5_take_34, rX5_take_37, rX5_take_38, rX5_take_39, rX5_take_40, rq_21, qO_pnw, qF0 hc, kWc, kWr]
def dg (t : Tp) (a : Nat) : Bool := inC t a 48 57
theorem kX5_isDigit (hX : XT h x t N) (ho : o ≠ x ∧ o ≠ x + 2) (hc : pok 5 c = true) (ha : a < 1000) : pCa 173 (d + 1) [.ref o] (rq h o c a dp x r) = if dg t a = true then some (.inl (some (.int 1)), rq h o c a dp x r) else some (.inl (some (.int 0)), rq h o c a dp x r) := by
  have ht := hX.k
  rw [eX5_isDigit]
  simp (disch := first | assumption | omega | decide) only [pis_i, pis_l, pis_r, pis_n, p1_i, p1_r, p1_n, p1_u, pw0, pw1, pw2, pw3, pw4, pK_v, pK_0, pK_ite, if_true, if_false, if_pos, if_neg, Nat.reduceAdd, pok_r, i10, i01, Bool.true_or, Bool.or_true, Bool.and_true, Bool.true_and, rX5_isDigit_0, rX5_isDigit_1, rX5_isDigit_4, rX5_isDigit_6, rX5_isDigit_9, rX5_isDigit_10, rX5_isDigit_13, rX5_isDigit_15, rX5_isDigit_18, rX5_isDigit_19, rX5_isDigit_22, rX5_isDigit_230, rX5_isDigit_231, qCl, hc, kX5_here hX ho hc ha, hr_lt ht, hr_gt ht]
  unfold dg inC
  by_cases h1 : a < t.1
  · by_cases h2 : 48 ≤ t.2 a
    · by_cases h3 : t.2 a ≤ 57
      · simp [h1, h2, h3, Nat.not_lt.mpr h3]
      · simp [h1, h2, h3, Nat.lt_of_not_le h3]
    · simp [h1, h2]
  · simp [h1]
end
