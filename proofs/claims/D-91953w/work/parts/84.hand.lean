/-! HANDS 1: what a hand has made so far, in plain words; the component's Hand is just that -/
set_option maxRecDepth 100000
structure Hd where
  jo : Nat → Nat
  na : Nat → Option Nat
  fr : Nat → Nat
  tq : Nat → Nat
  le : Nat → Int32
  ba : Nat → Nat
  so : Nat → Nat
  wh : Nat
  np : Nat
  nb : Nat
  nl : Nat
  mo : Nat
/-- the head of a point, by fuel -/
def rt (jo : Nat → Nat) : Nat → Nat → Nat
  | 0, p => p
  | n + 1, p => if jo p = p then p else rt jo n (jo p)
def ro (jo : Nat → Nat) (p : Nat) : Nat := rt jo p p
/-- points are joined with lower ones -/
def Jk (jo : Nat → Nat) (N : Nat) : Prop := ∀ p, p < N → jo p ≤ p
section
variable {jo : Nat → Nat} {N : Nat}
theorem rt_1 (hj : Jk jo N) : ∀ n p, p ≤ n → p < N → rt jo (n + 1) p = rt jo n p := by
  intro n
  induction n with
  | zero =>
    intro p hp hN
    have : p = 0 := by omega
    subst this
    have := hj 0 hN
    show (if jo 0 = 0 then 0 else _) = 0
    rw [if_pos (by omega)]
  | succ n ih =>
    intro p hp hN
    have h1 := hj p hN
    show (if jo p = p then p else rt jo (n + 1) (jo p)) = (if jo p = p then p else rt jo n (jo p))
    by_cases e : jo p = p
    · rw [if_pos e, if_pos e]
    · rw [if_neg e, if_neg e, ih (jo p) (by omega) (by omega)]
theorem rt_ge (hj : Jk jo N) {p : Nat} (hN : p < N) : ∀ k, rt jo (p + k) p = ro jo p := by
  intro k
  induction k with
  | zero => rfl
  | succ k ih => rw [← Nat.add_assoc, rt_1 hj (p + k) p (by omega) hN, ih]
theorem ro_fix {p : Nat} (e : jo p = p) : ro jo p = p := by
  unfold ro
  cases p with
  | zero => rfl
  | succ p => rw [rt, if_pos e]
theorem ro_step (hj : Jk jo N) {p : Nat} (hN : p < N) (e : jo p ≠ p) : ro jo p = ro jo (jo p) := by
  have h1 := hj p hN
  cases p with
  | zero => omega
  | succ p =>
    rw [show ro jo (p + 1) = rt jo (p + 1) (p + 1) from rfl, rt, if_neg e]
    have := rt_ge hj (p := jo (p + 1)) (by omega) (p - jo (p + 1))
    rw [← this]
    congr 1
    omega
theorem ro_le (hj : Jk jo N) : ∀ n p, p ≤ n → p < N → ro jo p ≤ p ∧ jo (ro jo p) = ro jo p := by
  intro n
  induction n with
  | zero =>
    intro p hp hN
    have h1 := hj p hN
    have e : jo p = p := by omega
    rw [ro_fix e]
    exact ⟨Nat.le_refl _, e⟩
  | succ n ih =>
    intro p hp hN
    have h1 := hj p hN
    by_cases e : jo p = p
    · rw [ro_fix e]; exact ⟨Nat.le_refl _, e⟩
    · rw [ro_step hj hN e]
      have := ih (jo p) (by omega) (by omega)
      exact ⟨by omega, this.2⟩
theorem ro_lt (hj : Jk jo N) {p : Nat} (hN : p < N) : ro jo p < N := by
  have := (ro_le hj p p (Nat.le_refl _) hN).1
  omega
theorem ro_ro (hj : Jk jo N) {p : Nat} (hN : p < N) : jo (ro jo p) = ro jo p := (ro_le hj p p (Nat.le_refl _) hN).2
theorem ro_eq (hj : Jk jo N) {p : Nat} (hN : p < N) : (ro jo p = p) = (jo p = p) := by
  apply propext
  constructor
  · intro e
    have := ro_ro hj hN
    rw [e] at this
    exact this
  · exact ro_fix
/-- only what is below counts -/
theorem ro_cong {jo' : Nat → Nat} (hj : Jk jo N) (hc : ∀ p, p < N → jo' p = jo p) : ∀ n p, p ≤ n → p < N → ro jo' p = ro jo p := by
  have hj' : Jk jo' N := fun p hp => by rw [hc p hp]; exact hj p hp
  intro n
  induction n with
  | zero =>
    intro p hp hN
    have h1 := hj p hN
    have e : jo p = p := by omega
    rw [ro_fix e, ro_fix ((hc p hN).trans e)]
  | succ n ih =>
    intro p hp hN
    have h1 := hj p hN
    by_cases e : jo p = p
    · rw [ro_fix e, ro_fix ((hc p hN).trans e)]
    · rw [ro_step hj hN e, ro_step hj' hN (by rw [hc p hN]; exact e), hc p hN, ih (jo p) (by omega) (by omega)]
end
def ul (T : Nat → Int32) (s : Nat) (v : Int32) : Nat → Int32 := fun j => if j = s then v else T j
def uo (T : Nat → Option Nat) (s : Nat) (v : Option Nat) : Nat → Option Nat := fun j => if j = s then v else T j
/-- a point more -/
def Hd.pnt (H : Hd) : Hd := { H with jo := un H.jo H.np H.np, np := H.np + 1 }
def Hd.joi (H : Hd) (p q : Nat) : Hd := { H with jo := un H.jo (max (ro H.jo p) (ro H.jo q)) (min (ro H.jo p) (ro H.jo q)) }
def Hd.beg (H : Hd) (s : Nat) : Hd := { H.pnt with wh := H.np, so := un H.so H.nl s, nl := H.nl + 1 }
/-- ends at a head -/
def Hd.e1 (H : Hd) (r k : Nat) : Nat := (if ro H.jo (H.fr k) = r then 1 else 0) + (if ro H.jo (H.tq k) = r then 1 else 0)
def Hd.en (H : Hd) (r : Nat) : Nat := fb_sm (H.e1 r) H.nb
def Hd.h1 (H : Hd) (k : Nat) : Bool := H.ba k == H.ba (k + 1) && decide (H.en (ro H.jo (H.tq k)) < 3)
def Hd.hel (H : Hd) : Nat := fb_ct H.h1 (H.nb - 1)
def Hd.ad0 (H : Hd) (l : Int32) (a b o : Nat) : Hd := { H with fr := un H.fr H.nb a, tq := un H.tq H.nb b, le := ul H.le H.nb l, ba := un H.ba H.nb o, nb := H.nb + 1 }
def Hd.add (H : Hd) (l : Int32) (a b o : Nat) : Hd := { H.ad0 l a b o with mo := max H.mo (H.ad0 l a b o).hel }
def Hd.blo (H : Hd) (l : Int32) : Hd := { H.pnt.add l H.wh H.np (H.nl - 1) with wh := H.np }
def Hd.nam (H : Hd) (w : Nat) : Hd := match H.na w with
  | none => { H with na := uo H.na w (some H.wh) }
  | some p => H.joi p H.wh
def nO : Option Nat → Int32
  | none => -1
  | some p => nI p
/-- what holds of a hand -/
structure HdOk (H : Hd) : Prop where
  j : Jk H.jo H.np
  n : H.np ≤ 32
  b : H.nb ≤ 24
  l : H.nl ≤ 6
  m : H.mo ≤ 24
  f : ∀ k, k < H.nb → H.fr k < H.np ∧ H.tq k < H.np ∧ H.ba k < H.nl
  a : ∀ w p, w < 8 → H.na w = some p → p < H.np
theorem Hd.en_le {H : Hd} {r : Nat} : H.en r ≤ 2 * H.nb := by
  have := fb_sm_bound (f := H.e1 r) (c := 2) (n := H.nb) (fun k _ => by unfold Hd.e1; split <;> split <;> omega)
  unfold Hd.en
  omega
theorem Hd.hel_le {H : Hd} : H.hel ≤ H.nb := by
  have := fb_ct_le H.h1 (H.nb - 1)
  unfold Hd.hel
  omega
/-- the Hand's cells -/
def wOf (H : Hd) : WS := (fun k => if k = 7 then nI H.wh else if k = 8 then nI H.np else if k = 9 then nI H.nb else if k = 10 then nI H.nl else if k = 11 then nI H.mo else 0, fun j k => if j = 1 then nI (H.jo k) else if j = 2 then nO (H.na k) else if j = 3 then nI (H.fr k) else if j = 4 then nI (H.tq k) else if j = 5 then H.le k else if j = 6 then nI (H.ba k) else if j = 7 then nI (H.so k) else 0, ())
section
variable {H : Hd} {h : pH} {o d : Nat}
theorem wo7 : (wOf H).1 7 = nI H.wh := rfl
theorem wo8 : (wOf H).1 8 = nI H.np := rfl
theorem wo9 : (wOf H).1 9 = nI H.nb := rfl
theorem wo10 : (wOf H).1 10 = nI H.nl := rfl
theorem wo11 : (wOf H).1 11 = nI H.mo := rfl
theorem wa1 {k : Nat} : (wOf H).2.1 1 k = nI (H.jo k) := rfl
theorem wa2 {k : Nat} : (wOf H).2.1 2 k = nO (H.na k) := rfl
theorem wa3 {k : Nat} : (wOf H).2.1 3 k = nI (H.fr k) := rfl
theorem wa4 {k : Nat} : (wOf H).2.1 4 k = nI (H.tq k) := rfl
theorem wa5 {k : Nat} : (wOf H).2.1 5 k = H.le k := rfl
theorem wa6 {k : Nat} : (wOf H).2.1 6 k = nI (H.ba k) := rfl
theorem wa7 {k : Nat} : (wOf H).2.1 7 k = nI (H.so k) := rfl
/-- writes -/
theorem wu7 {v : Nat} : (upd (wOf H).1 7 (nI v), (wOf H).2) = wOf { H with wh := v } := by
  refine Prod.ext ?_ rfl
  funext k
  simp only [wOf, upd]
  by_cases e : k = 7 <;> simp [e]
theorem wu8 {v : Nat} : (upd (wOf H).1 8 (nI v), (wOf H).2) = wOf { H with np := v } := by
  refine Prod.ext ?_ rfl
  funext k
  simp only [wOf, upd]
  by_cases e : k = 8 <;> simp [e]
theorem wu9 {v : Nat} : (upd (wOf H).1 9 (nI v), (wOf H).2) = wOf { H with nb := v } := by
  refine Prod.ext ?_ rfl
  funext k
  simp only [wOf, upd]
  by_cases e : k = 9 <;> simp [e]
theorem wu10 {v : Nat} : (upd (wOf H).1 10 (nI v), (wOf H).2) = wOf { H with nl := v } := by
  refine Prod.ext ?_ rfl
  funext k
  simp only [wOf, upd]
  by_cases e : k = 10 <;> simp [e]
theorem wu11 {v : Nat} : (upd (wOf H).1 11 (nI v), (wOf H).2) = wOf { H with mo := v } := by
  refine Prod.ext ?_ rfl
  funext k
  simp only [wOf, upd]
  by_cases e : k = 11 <;> simp [e]
theorem wv1 {i v : Nat} : ((wOf H).1, ua (wOf H).2.1 1 i (nI v), (wOf H).2.2) = wOf { H with jo := un H.jo i v } := by
  refine Prod.ext rfl (Prod.ext ?_ rfl)
  funext j k
  simp only [wOf, ua, upd, un]
  by_cases e : j = 1
  · subst e; by_cases e2 : k = i <;> simp [e2, upd]
  · simp [e]
theorem wv2 {i : Nat} {v : Nat} : ((wOf H).1, ua (wOf H).2.1 2 i (nI v), (wOf H).2.2) = wOf { H with na := uo H.na i (some v) } := by
  refine Prod.ext rfl (Prod.ext ?_ rfl)
  funext j k
  simp only [wOf, ua, upd, uo]
  by_cases e : j = 2
  · subst e; by_cases e2 : k = i <;> simp [e2, nO, upd]
  · simp [e]
theorem wv3 {i v : Nat} : ((wOf H).1, ua (wOf H).2.1 3 i (nI v), (wOf H).2.2) = wOf { H with fr := un H.fr i v } := by
  refine Prod.ext rfl (Prod.ext ?_ rfl)
  funext j k
  simp only [wOf, ua, upd, un]
  by_cases e : j = 3
  · subst e; by_cases e2 : k = i <;> simp [e2, upd]
  · simp [e]
theorem wv4 {i v : Nat} : ((wOf H).1, ua (wOf H).2.1 4 i (nI v), (wOf H).2.2) = wOf { H with tq := un H.tq i v } := by
  refine Prod.ext rfl (Prod.ext ?_ rfl)
  funext j k
  simp only [wOf, ua, upd, un]
  by_cases e : j = 4
  · subst e; by_cases e2 : k = i <;> simp [e2, upd]
  · simp [e]
theorem wv5 {i : Nat} {v : Int32} : ((wOf H).1, ua (wOf H).2.1 5 i v, (wOf H).2.2) = wOf { H with le := ul H.le i v } := by
  refine Prod.ext rfl (Prod.ext ?_ rfl)
  funext j k
  simp only [wOf, ua, upd, ul]
  by_cases e : j = 5
  · subst e; by_cases e2 : k = i <;> simp [e2, upd]
  · simp [e]
theorem wv6 {i v : Nat} : ((wOf H).1, ua (wOf H).2.1 6 i (nI v), (wOf H).2.2) = wOf { H with ba := un H.ba i v } := by
  refine Prod.ext rfl (Prod.ext ?_ rfl)
  funext j k
  simp only [wOf, ua, upd, un]
  by_cases e : j = 6
  · subst e; by_cases e2 : k = i <;> simp [e2, upd]
  · simp [e]
theorem wv7 {i v : Nat} : ((wOf H).1, ua (wOf H).2.1 7 i (nI v), (wOf H).2.2) = wOf { H with so := un H.so i v } := by
  refine Prod.ext rfl (Prod.ext ?_ rfl)
  funext j k
  simp only [wOf, ua, upd, un]
  by_cases e : j = 7
  · subst e; by_cases e2 : k = i <;> simp [e2, upd]
  · simp [e]
theorem kX23_root (hk : HdOk H) {p : Nat} (hp : p < H.np) : pCa 224 d [.ref o, .int (nI p)] (wput h o (wOf H)) = some (.inl (some (.int (nI (ro H.jo p)))), wput h o (wOf H)) := by
  have hn := hk.n
  have lp : ∀ n r, r ≤ n → r < H.np → pR 224 d 2 [.ref o, .int (nI p), .int (nI r)] [] (wput h o (wOf H)) = some (.inl (some (.int (nI (ro H.jo r)))), wput h o (wOf H)) := by
    intro n
    induction n with
    | zero =>
      intro r hr hN
      have h1 := hk.j r hN
      have e : H.jo r = r := by omega
      rw [rX23_root_2]
      simp (disch := first | omega | decide) only [pis_i, pis_l, pis_r, pis_n, p1_i, p1_r, p1_n, p1_u, pw0, pw1, pw2, pw3, pw4, pK_v, pK_0, pK_ite, if_true, if_false, if_pos, if_neg, Nat.reduceAdd, pok_r, i10, i01, Bool.true_or, Bool.or_true, Bool.and_true, Bool.true_and, Nat.add_sub_cancel, i1p1, i1p0, i0p1, i0p0, nIrem2, va_rf_s, bit1, bit0, pinT, pinLT, pin0, nIc, nIcL, nIlt, nIeq, nIltL, nILlt, nIeqL, nILeq, nIadL, nILad, nILmu, nI_add, nIsbL, nI_sub', decide_true, decide_false, Bool.false_or, Bool.or_false, rX23_root_0, rX23_root_1, rX23_root_3, rX23_root_6, rX23_root_7, rX23_root_8, rX23_root_9, rX23_root_12, rX23_root_13, rX23_root_16, rX23_root_17, rX23_root_18, rX23_root_19, rX23_root_22, rX23_root_23, wCl, wF0, wF1, wF2, wF3, wF4, wF5, wF6, wF7, wP7, wF8, wP8, wF9, wP9, wF10, wP10, wF11, wP11, wL1, wL1n, wC1, wW1, wL2, wL2n, wC2, wW2, wL3, wL3n, wC3, wW3, wL4, wL4n, wC4, wW4, wL5, wL5n, wC5, wW5, wL6, wL6n, wC6, wW6, wL7, wL7n, wC7, wW7, wa1, e, ro_fix e]
    | succ n ih =>
      intro r hr hN
      have h1 := hk.j r hN
      rw [rX23_root_2]
      by_cases e : H.jo r = r
      · simp (disch := first | omega | decide) only [pis_i, pis_l, pis_r, pis_n, p1_i, p1_r, p1_n, p1_u, pw0, pw1, pw2, pw3, pw4, pK_v, pK_0, pK_ite, if_true, if_false, if_pos, if_neg, Nat.reduceAdd, pok_r, i10, i01, Bool.true_or, Bool.or_true, Bool.and_true, Bool.true_and, Nat.add_sub_cancel, i1p1, i1p0, i0p1, i0p0, nIrem2, va_rf_s, bit1, bit0, pinT, pinLT, pin0, nIc, nIcL, nIlt, nIeq, nIltL, nILlt, nIeqL, nILeq, nIadL, nILad, nILmu, nI_add, nIsbL, nI_sub', decide_true, decide_false, Bool.false_or, Bool.or_false, rX23_root_0, rX23_root_1, rX23_root_3, rX23_root_6, rX23_root_7, rX23_root_8, rX23_root_9, rX23_root_12, rX23_root_13, rX23_root_16, rX23_root_17, rX23_root_18, rX23_root_19, rX23_root_22, rX23_root_23, wCl, wF0, wF1, wF2, wF3, wF4, wF5, wF6, wF7, wP7, wF8, wP8, wF9, wP9, wF10, wP10, wF11, wP11, wL1, wL1n, wC1, wW1, wL2, wL2n, wC2, wW2, wL3, wL3n, wC3, wW3, wL4, wL4n, wC4, wW4, wL5, wL5n, wC5, wW5, wL6, wL6n, wC6, wW6, wL7, wL7n, wC7, wW7, wa1, e, ro_fix e]
      · simp (disch := first | omega | decide) only [pis_i, pis_l, pis_r, pis_n, p1_i, p1_r, p1_n, p1_u, pw0, pw1, pw2, pw3, pw4, pK_v, pK_0, pK_ite, if_true, if_false, if_pos, if_neg, Nat.reduceAdd, pok_r, i10, i01, Bool.true_or, Bool.or_true, Bool.and_true, Bool.true_and, Nat.add_sub_cancel, i1p1, i1p0, i0p1, i0p0, nIrem2, va_rf_s, bit1, bit0, pinT, pinLT, pin0, nIc, nIcL, nIlt, nIeq, nIltL, nILlt, nIeqL, nILeq, nIadL, nILad, nILmu, nI_add, nIsbL, nI_sub', decide_true, decide_false, Bool.false_or, Bool.or_false, rX23_root_0, rX23_root_1, rX23_root_3, rX23_root_6, rX23_root_7, rX23_root_8, rX23_root_9, rX23_root_12, rX23_root_13, rX23_root_16, rX23_root_17, rX23_root_18, rX23_root_19, rX23_root_22, rX23_root_23, wCl, wF0, wF1, wF2, wF3, wF4, wF5, wF6, wF7, wP7, wF8, wP8, wF9, wP9, wF10, wP10, wF11, wP11, wL1, wL1n, wC1, wW1, wL2, wL2n, wC2, wW2, wL3, wL3n, wC3, wW3, wL4, wL4n, wC4, wW4, wL5, wL5n, wC5, wW5, wL6, wL6n, wC6, wW6, wL7, wL7n, wC7, wW7, wa1, e]
        rw [ro_step hk.j hN e]
        exact ih _ (by omega) (by omega)
  rw [eX23_root]
  simp (disch := first | omega | decide) only [pis_i, pis_l, pis_r, pis_n, p1_i, p1_r, p1_n, p1_u, pw0, pw1, pw2, pw3, pw4, pK_v, pK_0, pK_ite, if_true, if_false, if_pos, if_neg, Nat.reduceAdd, pok_r, i10, i01, Bool.true_or, Bool.or_true, Bool.and_true, Bool.true_and, rX23_root_0, rX23_root_1, rX23_root_3, rX23_root_6, rX23_root_7, rX23_root_8, rX23_root_9, rX23_root_12, rX23_root_13, rX23_root_16, rX23_root_17, rX23_root_18, rX23_root_19, rX23_root_22, rX23_root_23]
  exact lp p p (Nat.le_refl _) hp
theorem kX23_point (hn : H.np < 32) : pCa 221 d [.ref o] (wput h o (wOf H)) = some (.inl (some (.int (nI H.np))), wput h o (wOf H.pnt)) := by
  rw [eX23_point]
  simp (disch := first | omega | decide) only [pis_i, pis_l, pis_r, pis_n, p1_i, p1_r, p1_n, p1_u, pw0, pw1, pw2, pw3, pw4, pK_v, pK_0, pK_ite, if_true, if_false, if_pos, if_neg, Nat.reduceAdd, pok_r, i10, i01, Bool.true_or, Bool.or_true, Bool.and_true, Bool.true_and, Nat.add_sub_cancel, i1p1, i1p0, i0p1, i0p0, nIrem2, va_rf_s, bit1, bit0, pinT, pinLT, pin0, nIc, nIcL, nIlt, nIeq, nIltL, nILlt, nIeqL, nILeq, nIadL, nILad, nILmu, nI_add, nIsbL, nI_sub', decide_true, decide_false, Bool.false_or, Bool.or_false, rX23_point_0, rX23_point_1, rX23_point_4, rX23_point_5, rX23_point_8, rX23_point_9, rX23_point_12, rX23_point_13, rX23_point_14, rX23_point_14i, rX23_point_15, rX23_point_18, rX23_point_19, rX23_point_20, rX23_point_23, rX23_point_24, rX23_point_27, rX23_point_28, rX23_point_29, wCl, wF0, wF1, wF2, wF3, wF4, wF5, wF6, wF7, wP7, wF8, wP8, wF9, wP9, wF10, wP10, wF11, wP11, wL1, wL1n, wC1, wW1, wL2, wL2n, wC2, wW2, wL3, wL3n, wC3, wW3, wL4, wL4n, wC4, wW4, wL5, wL5n, wC5, wW5, wL6, wL6n, wC6, wW6, wL7, wL7n, wC7, wW7, wo8, wv1, wu8]
  rfl
theorem kX23_joins (hk : HdOk H) {p q : Nat} (hp : p < H.np) (hq : q < H.np) : pCa 227 (d + 1) [.ref o, .int (nI p), .int (nI q)] (wput h o (wOf H)) = some (.inl none, wput h o (wOf (H.joi p q))) := by
  have hn := hk.n
  have h1 := ro_lt hk.j hp
  have h2 := ro_lt hk.j hq
  rw [eX23_joins]
  have e1 : (if ro H.jo p < ro H.jo q then nI (ro H.jo q) else nI (ro H.jo p)) = nI (max (ro H.jo p) (ro H.jo q)) := by
    split
    · rw [Nat.max_eq_right (by omega)]
    · rw [Nat.max_eq_left (by omega)]
  have e2 : (if ro H.jo q < ro H.jo p then nI (ro H.jo q) else nI (ro H.jo p)) = nI (min (ro H.jo p) (ro H.jo q)) := by
    split
    · rw [Nat.min_eq_right (by omega)]
    · rw [Nat.min_eq_left (by omega)]
  have e3 : max (ro H.jo p) (ro H.jo q) < 32 := by omega
  simp (disch := first | omega | decide) only [pis_i, pis_l, pis_r, pis_n, p1_i, p1_r, p1_n, p1_u, pw0, pw1, pw2, pw3, pw4, pK_v, pK_0, pK_ite, if_true, if_false, if_pos, if_neg, Nat.reduceAdd, pok_r, i10, i01, Bool.true_or, Bool.or_true, Bool.and_true, Bool.true_and, Nat.add_sub_cancel, i1p1, i1p0, i0p1, i0p0, nIrem2, va_rf_s, bit1, bit0, pinT, pinLT, pin0, nIc, nIcL, nIlt, nIeq, nIltL, nILlt, nIeqL, nILeq, nIadL, nILad, nILmu, nI_add, nIsbL, nI_sub', decide_true, decide_false, Bool.false_or, Bool.or_false, rX23_joins_0, rX23_joins_1, rX23_joins_2, rX23_joins_5, rX23_joins_6, rX23_joins_7, rX23_joins_8, rX23_joins_11, rX23_joins_13, rX23_joins_14, rX23_joins_17, rX23_joins_18, rX23_joins_20, rX23_joins_23, rX23_joins_24, rX23_joins_26, rX23_joins_29, rX23_joins_30, wCl, wF0, wF1, wF2, wF3, wF4, wF5, wF6, wF7, wP7, wF8, wP8, wF9, wP9, wF10, wP10, wF11, wP11, wL1, wL1n, wC1, wW1, wL2, wL2n, wC2, wW2, wL3, wL3n, wC3, wW3, wL4, wL4n, wC4, wW4, wL5, wL5n, wC5, wW5, wL6, wL6n, wC6, wW6, wL7, wL7n, wC7, wW7, kX23_root hk hp, kX23_root hk hq, e1, e2, wv1]
  rfl
theorem kX23_ends (hk : HdOk H) {r : Nat} (hr : r < 1000) : pCa 225 (d + 1) [.ref o, .int (nI r)] (wput h o (wOf H)) = some (.inl (some (.int (nI (H.en r)))), wput h o (wOf H)) := by
  have hn := hk.n
  have hb := hk.b
  rw [eX23_ends]
  simp (disch := first | omega | decide) only [pis_i, pis_l, pis_r, pis_n, p1_i, p1_r, p1_n, p1_u, pw0, pw1, pw2, pw3, pw4, pK_v, pK_0, pK_ite, if_true, if_false, if_pos, if_neg, Nat.reduceAdd, pok_r, i10, i01, Bool.true_or, Bool.or_true, Bool.and_true, Bool.true_and, rX23_ends_0, rX23_ends_1, rX23_ends_2, rX23_ends_3, rX23_ends_5, rX23_ends_6, rX23_ends_9, rX23_ends_12, rX23_ends_13, rX23_ends_14, rX23_ends_15, rX23_ends_18, rX23_ends_19, rX23_ends_20, rX23_ends_23, rX23_ends_24, rX23_ends_27, rX23_ends_28, rX23_ends_31, rX23_ends_32, rX23_ends_33, rX23_ends_34, rX23_ends_37, rX23_ends_38, rX23_ends_39, rX23_ends_42, rX23_ends_43, rX23_ends_46, rX23_ends_47, rX23_ends_50, rX23_ends_51, rX23_ends_52, rX23_ends_53, rX23_ends_54, rX23_ends_57, rX23_ends_60, rX23_ends_61]
  refine loopN (N := H.nb) (P := fun b => pR 225 (d + 1) 4 [.ref o, .int (nI r), .int (nI (fb_sm (H.e1 r) b)), .int (nI b)] [] (wput h o (wOf H))) (fun b hb R hR => ?_) ?_ 0 (Nat.zero_le _)
  · obtain ⟨f1, f2, f3⟩ := hk.f b hb
    have h1 := ro_lt hk.j f1
    have h2 := ro_lt hk.j f2
    rw [rX23_ends_4]
    simp (disch := first | omega | decide) only [pis_i, pis_l, pis_r, pis_n, p1_i, p1_r, p1_n, p1_u, pw0, pw1, pw2, pw3, pw4, pK_v, pK_0, pK_ite, if_true, if_false, if_pos, if_neg, Nat.reduceAdd, pok_r, i10, i01, Bool.true_or, Bool.or_true, Bool.and_true, Bool.true_and, Nat.add_sub_cancel, i1p1, i1p0, i0p1, i0p0, nIrem2, va_rf_s, bit1, bit0, pinT, pinLT, pin0, nIc, nIcL, nIlt, nIeq, nIltL, nILlt, nIeqL, nILeq, nIadL, nILad, nILmu, nI_add, nIsbL, nI_sub', decide_true, decide_false, Bool.false_or, Bool.or_false, rX23_ends_0, rX23_ends_1, rX23_ends_2, rX23_ends_3, rX23_ends_5, rX23_ends_6, rX23_ends_9, rX23_ends_12, rX23_ends_13, rX23_ends_14, rX23_ends_15, rX23_ends_18, rX23_ends_19, rX23_ends_20, rX23_ends_23, rX23_ends_24, rX23_ends_27, rX23_ends_28, rX23_ends_31, rX23_ends_32, rX23_ends_33, rX23_ends_34, rX23_ends_37, rX23_ends_38, rX23_ends_39, rX23_ends_42, rX23_ends_43, rX23_ends_46, rX23_ends_47, rX23_ends_50, rX23_ends_51, rX23_ends_52, rX23_ends_53, rX23_ends_54, rX23_ends_57, rX23_ends_60, rX23_ends_61, wCl, wF0, wF1, wF2, wF3, wF4, wF5, wF6, wF7, wP7, wF8, wP8, wF9, wP9, wF10, wP10, wF11, wP11, wL1, wL1n, wC1, wW1, wL2, wL2n, wC2, wW2, wL3, wL3n, wC3, wW3, wL4, wL4n, wC4, wW4, wL5, wL5n, wC5, wW5, wL6, wL6n, wC6, wW6, wL7, wL7n, wC7, wW7, wo9, wa3, wa4, kX23_root hk f1, kX23_root hk f2]
    rw [fb_sm_succ] at hR
    (repeat' split) <;> (refine Eq.trans ?_ hR; clear hR; simp [Hd.e1, *])
  · rw [rX23_ends_4]
    simp (disch := first | omega | decide) only [pis_i, pis_l, pis_r, pis_n, p1_i, p1_r, p1_n, p1_u, pw0, pw1, pw2, pw3, pw4, pK_v, pK_0, pK_ite, if_true, if_false, if_pos, if_neg, Nat.reduceAdd, pok_r, i10, i01, Bool.true_or, Bool.or_true, Bool.and_true, Bool.true_and, Nat.add_sub_cancel, i1p1, i1p0, i0p1, i0p0, nIrem2, va_rf_s, bit1, bit0, pinT, pinLT, pin0, nIc, nIcL, nIlt, nIeq, nIltL, nILlt, nIeqL, nILeq, nIadL, nILad, nILmu, nI_add, nIsbL, nI_sub', decide_true, decide_false, Bool.false_or, Bool.or_false, rX23_ends_0, rX23_ends_1, rX23_ends_2, rX23_ends_3, rX23_ends_5, rX23_ends_6, rX23_ends_9, rX23_ends_12, rX23_ends_13, rX23_ends_14, rX23_ends_15, rX23_ends_18, rX23_ends_19, rX23_ends_20, rX23_ends_23, rX23_ends_24, rX23_ends_27, rX23_ends_28, rX23_ends_31, rX23_ends_32, rX23_ends_33, rX23_ends_34, rX23_ends_37, rX23_ends_38, rX23_ends_39, rX23_ends_42, rX23_ends_43, rX23_ends_46, rX23_ends_47, rX23_ends_50, rX23_ends_51, rX23_ends_52, rX23_ends_53, rX23_ends_54, rX23_ends_57, rX23_ends_60, rX23_ends_61, wCl, wF0, wF1, wF2, wF3, wF4, wF5, wF6, wF7, wP7, wF8, wP8, wF9, wP9, wF10, wP10, wF11, wP11, wL1, wL1n, wC1, wW1, wL2, wL2n, wC2, wW2, wL3, wL3n, wC3, wW3, wL4, wL4n, wC4, wW4, wL5, wL5n, wC5, wW5, wL6, wL6n, wC6, wW6, wL7, wL7n, wC7, wW7, wo9]
    rfl
theorem kX23_held (hk : HdOk H) (hb0 : 0 < H.nb) : pCa 223 (d + 2) [.ref o] (wput h o (wOf H)) = some (.inl (some (.int (nI H.hel))), wput h o (wOf H)) := by
  have hn := hk.n
  have hb := hk.b
  have hl := hk.l
  rw [eX23_held]
  simp (disch := first | omega | decide) only [pis_i, pis_l, pis_r, pis_n, p1_i, p1_r, p1_n, p1_u, pw0, pw1, pw2, pw3, pw4, pK_v, pK_0, pK_ite, if_true, if_false, if_pos, if_neg, Nat.reduceAdd, pok_r, i10, i01, Bool.true_or, Bool.or_true, Bool.and_true, Bool.true_and, rX23_held_0, rX23_held_1, rX23_held_2, rX23_held_3, rX23_held_5, rX23_held_6, rX23_held_7, rX23_held_8, rX23_held_11, rX23_held_14, rX23_held_15, rX23_held_16, rX23_held_19, rX23_held_20, rX23_held_21, rX23_held_22, rX23_held_25, rX23_held_26, rX23_held_27, rX23_held_28, rX23_held_29, rX23_held_32, rX23_held_33, rX23_held_34, rX23_held_35, rX23_held_38, rX23_held_39, rX23_held_40, rX23_held_43, rX23_held_46, rX23_held_47, rX23_held_50, rX23_held_51, rX23_held_54, rX23_held_55, rX23_held_56, rX23_held_57, rX23_held_60, rX23_held_63, rX23_held_64]
  refine loopN (N := H.nb - 1) (P := fun b => pR 223 (d + 2) 4 [.ref o, .int (nI (fb_ct H.h1 b)), .int (nI b)] [] (wput h o (wOf H))) (fun b hb R hR => ?_) ?_ 0 (Nat.zero_le _)
  · obtain ⟨f1, f2, f3⟩ := hk.f b (by omega)
    obtain ⟨g1, g2, g3⟩ := hk.f (b + 1) (by omega)
    have h2 := ro_lt hk.j f2
    have h3 := Hd.en_le (H := H) (r := ro H.jo (H.tq b))
    rw [rX23_held_4]
    simp (disch := first | omega | decide) only [pis_i, pis_l, pis_r, pis_n, p1_i, p1_r, p1_n, p1_u, pw0, pw1, pw2, pw3, pw4, pK_v, pK_0, pK_ite, if_true, if_false, if_pos, if_neg, Nat.reduceAdd, pok_r, i10, i01, Bool.true_or, Bool.or_true, Bool.and_true, Bool.true_and, Nat.add_sub_cancel, i1p1, i1p0, i0p1, i0p0, nIrem2, va_rf_s, bit1, bit0, pinT, pinLT, pin0, nIc, nIcL, nIlt, nIeq, nIltL, nILlt, nIeqL, nILeq, nIadL, nILad, nILmu, nI_add, nIsbL, nI_sub', decide_true, decide_false, Bool.false_or, Bool.or_false, rX23_held_0, rX23_held_1, rX23_held_2, rX23_held_3, rX23_held_5, rX23_held_6, rX23_held_7, rX23_held_8, rX23_held_11, rX23_held_14, rX23_held_15, rX23_held_16, rX23_held_19, rX23_held_20, rX23_held_21, rX23_held_22, rX23_held_25, rX23_held_26, rX23_held_27, rX23_held_28, rX23_held_29, rX23_held_32, rX23_held_33, rX23_held_34, rX23_held_35, rX23_held_38, rX23_held_39, rX23_held_40, rX23_held_43, rX23_held_46, rX23_held_47, rX23_held_50, rX23_held_51, rX23_held_54, rX23_held_55, rX23_held_56, rX23_held_57, rX23_held_60, rX23_held_63, rX23_held_64, wCl, wF0, wF1, wF2, wF3, wF4, wF5, wF6, wF7, wP7, wF8, wP8, wF9, wP9, wF10, wP10, wF11, wP11, wL1, wL1n, wC1, wW1, wL2, wL2n, wC2, wW2, wL3, wL3n, wC3, wW3, wL4, wL4n, wC4, wW4, wL5, wL5n, wC5, wW5, wL6, wL6n, wC6, wW6, wL7, wL7n, wC7, wW7, wo9, wa4, wa6, kX23_root hk f2, kX23_ends hk]
    rw [fb_ct_succ] at hR
    (repeat' split) <;> (refine Eq.trans ?_ hR; clear hR; simp [Hd.h1, *])
  · rw [rX23_held_4]
    simp (disch := first | omega | decide) only [pis_i, pis_l, pis_r, pis_n, p1_i, p1_r, p1_n, p1_u, pw0, pw1, pw2, pw3, pw4, pK_v, pK_0, pK_ite, if_true, if_false, if_pos, if_neg, Nat.reduceAdd, pok_r, i10, i01, Bool.true_or, Bool.or_true, Bool.and_true, Bool.true_and, Nat.add_sub_cancel, i1p1, i1p0, i0p1, i0p0, nIrem2, va_rf_s, bit1, bit0, pinT, pinLT, pin0, nIc, nIcL, nIlt, nIeq, nIltL, nILlt, nIeqL, nILeq, nIadL, nILad, nILmu, nI_add, nIsbL, nI_sub', decide_true, decide_false, Bool.false_or, Bool.or_false, rX23_held_0, rX23_held_1, rX23_held_2, rX23_held_3, rX23_held_5, rX23_held_6, rX23_held_7, rX23_held_8, rX23_held_11, rX23_held_14, rX23_held_15, rX23_held_16, rX23_held_19, rX23_held_20, rX23_held_21, rX23_held_22, rX23_held_25, rX23_held_26, rX23_held_27, rX23_held_28, rX23_held_29, rX23_held_32, rX23_held_33, rX23_held_34, rX23_held_35, rX23_held_38, rX23_held_39, rX23_held_40, rX23_held_43, rX23_held_46, rX23_held_47, rX23_held_50, rX23_held_51, rX23_held_54, rX23_held_55, rX23_held_56, rX23_held_57, rX23_held_60, rX23_held_63, rX23_held_64, wCl, wF0, wF1, wF2, wF3, wF4, wF5, wF6, wF7, wP7, wF8, wP8, wF9, wP9, wF10, wP10, wF11, wP11, wL1, wL1n, wC1, wW1, wL2, wL2n, wC2, wW2, wL3, wL3n, wC3, wW3, wL4, wL4n, wC4, wW4, wL5, wL5n, wC5, wW5, wL6, wL6n, wC6, wW6, wL7, wL7n, wC7, wW7, wo9]
    rfl
theorem un_c {T : Nat → Nat} {s v j : Nat} (h : j ≠ s) : un T s v j = T j := by simp [un, h]
theorem HdOk.ad0 (hk : HdOk H) {l : Int32} {a b c : Nat} (hb : H.nb < 24) (h1 : a < H.np) (h2 : b < H.np) (h3 : c < H.nl) : HdOk (H.ad0 l a b c) := by
  refine ⟨hk.j, hk.n, ?_, hk.l, hk.m, fun k hk' => ?_, hk.a⟩
  · exact hb
  · have hk' : k < H.nb + 1 := hk'
    show un H.fr H.nb a k < H.np ∧ un H.tq H.nb b k < H.np ∧ un H.ba H.nb c k < H.nl
    by_cases e : k = H.nb
    · subst e; simp only [un_s]; exact ⟨h1, h2, h3⟩
    · rw [un_c e, un_c e, un_c e]; exact hk.f k (by omega)
theorem HdOk.add (hk : HdOk H) {l : Int32} {a b c : Nat} (hb : H.nb < 24) (h1 : a < H.np) (h2 : b < H.np) (h3 : c < H.nl) : HdOk (H.add l a b c) := by
  have h0 := hk.ad0 (l := l) hb h1 h2 h3
  refine ⟨h0.j, h0.n, h0.b, h0.l, ?_, h0.f, h0.a⟩
  have e1 := Hd.hel_le (H := H.ad0 l a b c)
  have e2 : (H.ad0 l a b c).nb = H.nb + 1 := rfl
  have e3 := hk.m
  show max H.mo (H.ad0 l a b c).hel ≤ 24
  omega
theorem kX23_adds (hk : HdOk H) {l : Int32} {a b c : Nat} (hb : H.nb < 24) (h1 : a < H.np) (h2 : b < H.np) (h3 : c < H.nl) : pCa 222 (d + 3) [.ref o, .int l, .int (nI a), .int (nI b), .int (nI c)] (wput h o (wOf H)) = some (.inl none, wput h o (wOf (H.add l a b c))) := by
  have h0 := hk.ad0 (l := l) hb h1 h2 h3
  have e1 := Hd.hel_le (H := H.ad0 l a b c)
  have e2 : (H.ad0 l a b c).nb = H.nb + 1 := rfl
  have e3 := hk.m
  have hh := kX23_held (d := d) (h := h) (o := o) h0 (by omega)
  rw [eX23_adds]
  have em : (if H.mo < (H.ad0 l a b c).hel then nI (H.ad0 l a b c).hel else nI H.mo) = nI (max H.mo (H.ad0 l a b c).hel) := by
    split
    · rw [Nat.max_eq_right (by omega)]
    · rw [Nat.max_eq_left (by omega)]
  have ew : wOf { jo := H.jo, na := H.na, fr := un H.fr H.nb a, tq := un H.tq H.nb b, le := ul H.le H.nb l, ba := un H.ba H.nb c, so := H.so, wh := H.wh, np := H.np, nb := H.nb + 1, nl := H.nl, mo := H.mo } = wOf (H.ad0 l a b c) := rfl
  simp (disch := first | omega | decide) only [pis_i, pis_l, pis_r, pis_n, p1_i, p1_r, p1_n, p1_u, pw0, pw1, pw2, pw3, pw4, pK_v, pK_0, pK_ite, if_true, if_false, if_pos, if_neg, Nat.reduceAdd, pok_r, i10, i01, Bool.true_or, Bool.or_true, Bool.and_true, Bool.true_and, Nat.add_sub_cancel, i1p1, i1p0, i0p1, i0p0, nIrem2, va_rf_s, bit1, bit0, pinT, pinLT, pin0, nIc, nIcL, nIlt, nIeq, nIltL, nILlt, nIeqL, nILeq, nIadL, nILad, nILmu, nI_add, nIsbL, nI_sub', decide_true, decide_false, Bool.false_or, Bool.or_false, rX23_adds_0, rX23_adds_1, rX23_adds_4, rX23_adds_5, rX23_adds_8, rX23_adds_9, rX23_adds_10, rX23_adds_11, rX23_adds_14, rX23_adds_15, rX23_adds_18, rX23_adds_19, rX23_adds_20, rX23_adds_21, rX23_adds_24, rX23_adds_25, rX23_adds_28, rX23_adds_29, rX23_adds_30, rX23_adds_31, rX23_adds_34, rX23_adds_35, rX23_adds_38, rX23_adds_40, rX23_adds_41, rX23_adds_42, rX23_adds_42i, rX23_adds_43, rX23_adds_46, rX23_adds_47, rX23_adds_48, rX23_adds_51, rX23_adds_52, rX23_adds_53, rX23_adds_56, rX23_adds_57, rX23_adds_60, rX23_adds_63, rX23_adds_66, wCl, wF0, wF1, wF2, wF3, wF4, wF5, wF6, wF7, wP7, wF8, wP8, wF9, wP9, wF10, wP10, wF11, wP11, wL1, wL1n, wC1, wW1, wL2, wL2n, wC2, wW2, wL3, wL3n, wC3, wW3, wL4, wL4n, wC4, wW4, wL5, wL5n, wC5, wW5, wL6, wL6n, wC6, wW6, wL7, wL7n, wC7, wW7, wo9, wo11, wv3, wv4, wv5, wv6, wu9, ew, hh]
  rw [show (H.ad0 l a b c).mo = H.mo from rfl]
  simp (disch := first | omega | decide) only [Nat.add_sub_cancel, i1p1, i1p0, i0p1, i0p0, nIrem2, va_rf_s, bit1, bit0, pinT, pinLT, pin0, nIc, nIcL, nIlt, nIeq, nIltL, nILlt, nIeqL, nILeq, nIadL, nILad, nILmu, nI_add, nIsbL, nI_sub', decide_true, decide_false, Bool.false_or, Bool.or_false, em, wu11]
  rfl
end
