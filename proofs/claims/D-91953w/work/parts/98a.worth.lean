/-! WORTH 1: what rules are worth (plain part), the component's sums and tests -/
set_option maxRecDepth 100000
def clp (v : Int64) : Int64 := if (if v < 1000000 then v else 1000000) < -1000000 then -1000000 else if v < 1000000 then v else 1000000
def opv (op : Nat) (x y : Int64) : Int64 := if op = 43 then x + y else if op = 45 then x - y else if op = 42 then x * y else if y = 0 then 0 else x / y
def Sm.ev (L : Nat → Int32) : Sm → Int32
  | .pl v => nI v
  | .le c => L c
  | .pa op a b => (clp (opv op (a.ev L).toInt64 (b.ev L).toInt64)).toInt32
def cpv (op : Nat) (x y : Int32) : Bool := if op = 61 then decide (x = y) else if op = 60 then decide (x < y) else decide (y < x)
def Ts.ev (L : Nat → Int32) : Ts → Bool
  | .cm op a b => cpv op (a.ev L) (b.ev L)
  | .no a => !a.ev L
  | .bo all a b => if all = true then a.ev L && b.ev L else a.ev L || b.ev L
def Cl.ho (L : Nat → Int32) (c : Cl) : Bool := match c.1 with
  | none => true
  | some y => y.ev L
def wth (L : Nat → Int32) : List Cl → Int32
  | [] => 0
  | c :: l => if c.ho L = true then c.2.ev L else wth L l
def Sm.m : Sm → Nat
  | .pl _ => 210
  | .le _ => 208
  | .pa _ _ _ => 212
def Sm.c : Sm → Nat
  | .pl _ => 18
  | .le _ => 17
  | .pa _ _ _ => 19
def Ts.m : Ts → Nat
  | .cm _ _ _ => 214
  | .no _ => 205
  | .bo _ _ _ => 216
def Ts.c : Ts → Nat
  | .cm _ _ _ => 20
  | .no _ => 15
  | .bo _ _ _ => 21
section
variable {H : pH} {a b lt la d : Nat} {L : Nat → Int32} {ls st : List Value} {b1 : Value}
theorem SmAt.cl {s : Sm} (h : SmAt H s a) : pcl H a = s.c := by
  cases s with
  | pl v => exact pcl_of h
  | le c => exact pcl_of h
  | pa op x y => obtain ⟨b, c, h, -⟩ := h; exact pcl_of h
theorem TsAt.cl {s : Ts} (h : TsAt H s a) : pcl H a = s.c := by
  cases s with
  | cm op x y => obtain ⟨b, c, h, -⟩ := h; exact pcl_of h
  | no x => obtain ⟨b, h, -⟩ := h; exact pcl_of h
  | bo all x y => obtain ⟨b, c, h, -⟩ := h; exact pcl_of h
theorem c19_5 {x : Sm} (h : pcl H a = x.c) : pR 212 (d + 1) 5 ls (b1 :: .ref a :: st) H = if pw st = true then pK 212 (d + 1) 5 3 ls st (pCa x.m d [.ref a, b1] H) else none := by
  cases x with
  | pl v => exact rX19_of_5c18 h
  | le c => exact rX19_of_5c17 h
  | pa op x y => exact rX19_of_5c19 h
theorem c19_15 {x : Sm} (h : pcl H a = x.c) : pR 212 (d + 1) 15 ls (b1 :: .ref a :: st) H = if pw st = true then pK 212 (d + 1) 15 3 ls st (pCa x.m d [.ref a, b1] H) else none := by
  cases x with
  | pl v => exact rX19_of_15c18 h
  | le c => exact rX19_of_15c17 h
  | pa op x y => exact rX19_of_15c19 h
theorem c20_5 {x : Sm} (h : pcl H a = x.c) : pR 214 (d + 1) 5 ls (b1 :: .ref a :: st) H = if pw st = true then pK 214 (d + 1) 5 3 ls st (pCa x.m d [.ref a, b1] H) else none := by
  cases x with
  | pl v => exact rX20_holds_5c18 h
  | le c => exact rX20_holds_5c17 h
  | pa op x y => exact rX20_holds_5c19 h
theorem c20_14 {x : Sm} (h : pcl H a = x.c) : pR 214 (d + 1) 14 ls (b1 :: .ref a :: st) H = if pw st = true then pK 214 (d + 1) 14 3 ls st (pCa x.m d [.ref a, b1] H) else none := by
  cases x with
  | pl v => exact rX20_holds_14c18 h
  | le c => exact rX20_holds_14c17 h
  | pa op x y => exact rX20_holds_14c19 h
theorem c59_87 {x : Sm} (h : pcl H a = x.c) : pR 59 (d + 1) 87 ls (b1 :: .ref a :: st) H = if pw st = true then pK 59 (d + 1) 87 3 ls st (pCa x.m d [.ref a, b1] H) else none := by
  cases x with
  | pl v => exact rX1_worthOf_87c18 h
  | le c => exact rX1_worthOf_87c17 h
  | pa op x y => exact rX1_worthOf_87c19 h
theorem c22_12 {x : Ts} (h : pcl H a = x.c) : pR 218 (d + 1) 12 ls (b1 :: .ref a :: st) H = if pw st = true then pK 218 (d + 1) 12 3 ls st (pCa x.m d [.ref a, b1] H) else none := by
  cases x with
  | cm op x y => exact rX22_holds_12c20 h
  | no x => exact rX22_holds_12c15 h
  | bo all x y => exact rX22_holds_12c21 h
theorem c15_5 {x : Ts} (h : pcl H a = x.c) : pR 205 (d + 1) 5 ls (b1 :: .ref a :: st) H = if pw st = true then pK 205 (d + 1) 5 3 ls st (pCa x.m d [.ref a, b1] H) else none := by
  cases x with
  | cm op x y => exact rX15_holds_5c20 h
  | no x => exact rX15_holds_5c15 h
  | bo all x y => exact rX15_holds_5c21 h
theorem c21_12 {x : Ts} (h : pcl H a = x.c) : pR 216 (d + 1) 12 ls (b1 :: .ref a :: st) H = if pw st = true then pK 216 (d + 1) 12 3 ls st (pCa x.m d [.ref a, b1] H) else none := by
  cases x with
  | cm op x y => exact rX21_holds_12c20 h
  | no x => exact rX21_holds_12c15 h
  | bo all x y => exact rX21_holds_12c21 h
theorem c21_23 {x : Ts} (h : pcl H a = x.c) : pR 216 (d + 1) 23 ls (b1 :: .ref a :: st) H = if pw st = true then pK 216 (d + 1) 23 3 ls st (pCa x.m d [.ref a, b1] H) else none := by
  cases x with
  | cm op x y => exact rX21_holds_23c20 h
  | no x => exact rX21_holds_23c15 h
  | bo all x y => exact rX21_holds_23c21 h
theorem c21_42 {x : Ts} (h : pcl H a = x.c) : pR 216 (d + 1) 42 ls (b1 :: .ref a :: st) H = if pw st = true then pK 216 (d + 1) 42 3 ls st (pCa x.m d [.ref a, b1] H) else none := by
  cases x with
  | cm op x y => exact rX21_holds_42c20 h
  | no x => exact rX21_holds_42c15 h
  | bo all x y => exact rX21_holds_42c21 h
theorem c21_53 {x : Ts} (h : pcl H a = x.c) : pR 216 (d + 1) 53 ls (b1 :: .ref a :: st) H = if pw st = true then pK 216 (d + 1) 53 3 ls st (pCa x.m d [.ref a, b1] H) else none := by
  cases x with
  | cm op x y => exact rX21_holds_53c20 h
  | no x => exact rX21_holds_53c15 h
  | bo all x y => exact rX21_holds_53c21 h
theorem p2_uu : p2 pU pU = true := rfl
/-- the letters -/
structure LtAt (H : pH) (lt la : Nat) (L : Nat → Int32) : Prop where
  f : pfl H 2 lt 0 = .ref la
  n : pln H 0 la = 128
  c : ∀ i, i < 128 → pct H la i = L i
theorem ev_S (hL : LtAt H lt la L) : ∀ s : Sm, ∀ d a, s.g → SmAt H s a → pCa s.m (d + s.sz) [.ref a, .ref lt] H = some (.inl (some (.int (s.ev L))), H) := by
  intro s
  induction s with
  | pl v =>
    intro d a hg h
    have f0 : pfl H 18 a 0 = .int (nI v) := pfl_of h rfl rfl
    show pCa 210 (d + 1) [.ref a, .ref lt] H = _
    rw [eX18_of]
    simp (disch := first | assumption | omega | decide) only [pis_i, pis_l, pis_r, pis_n, p1_i, p1_r, p1_n, p1_u, pw0, pw1, pw2, pw3, pw4, pK_v, pK_0, pK_ite, if_true, if_false, if_pos, if_neg, Nat.reduceAdd, pok_r, i10, i01, Bool.true_or, Bool.or_true, Bool.and_true, Bool.true_and, Nat.add_sub_cancel, i1p1, i1p0, i0p1, i0p0, nIrem2, va_rf_s, bit1, bit0, pinT, pinLT, pin0, nIc, nIcL, nIlt, nIeq, nIltL, nILlt, nIeqL, nILeq, nIadL, nILad, nILmu, nI_add, nIsbL, nI_sub', decide_true, decide_false, Bool.false_or, Bool.or_false, rX18_of_0, rX18_of_1, rX18_of_4, f0, Sm.ev]
  | le c =>
    intro d a hg h
    have f0 : pfl H 17 a 0 = .int (nI c) := pfl_of h rfl rfl
    have hc : c < 128 := by rcases hg with h | h | h | h | h <;> omega
    show pCa 208 (d + 1) [.ref a, .ref lt] H = _
    rw [eX17_of]
    simp (disch := first | assumption | omega | decide) only [pis_i, pis_l, pis_r, pis_n, p1_i, p1_r, p1_n, p1_u, pw0, pw1, pw2, pw3, pw4, pK_v, pK_0, pK_ite, if_true, if_false, if_pos, if_neg, Nat.reduceAdd, pok_r, i10, i01, Bool.true_or, Bool.or_true, Bool.and_true, Bool.true_and, Nat.add_sub_cancel, i1p1, i1p0, i0p1, i0p0, nIrem2, va_rf_s, bit1, bit0, pinT, pinLT, pin0, nIc, nIcL, nIlt, nIeq, nIltL, nILlt, nIeqL, nILeq, nIadL, nILad, nILmu, nI_add, nIsbL, nI_sub', decide_true, decide_false, Bool.false_or, Bool.or_false, rX17_of_0, rX17_of_0n, rX17_of_1, rX17_of_4, rX17_of_5, rX17_of_8, rX17_of_9, f0, hL.f, hL.n, hL.c c hc, Sm.ev]
  | pa op x y ihx ihy =>
    intro d a hg h
    obtain ⟨b, c, h0, hx, hy⟩ := h
    obtain ⟨g0, gx, gy⟩ := hg
    have f0 : pfl H 19 a 0 = .int (nI op) := pfl_of h0 rfl rfl
    have f1 : pfl H 19 a 1 = .ref b := pfl_of h0 rfl rfl
    have f2 : pfl H 19 a 2 = .ref c := pfl_of h0 rfl rfl
    have i1 := ihx (d + y.sz) b gx hx
    have i2 := ihy (d + x.sz) c gy hy
    rw [show d + y.sz + x.sz = d + (x.sz + y.sz) by omega] at i1
    rw [show d + x.sz + y.sz = d + (x.sz + y.sz) by omega] at i2
    have hxc := hx.cl
    have hyc := hy.cl
    show pCa 212 (d + (x.sz + y.sz + 1)) [.ref a, .ref lt] H = some (.inl (some (.int (clp (opv op (x.ev L).toInt64 (y.ev L).toInt64)).toInt32)), H)
    rw [eX19_of, show d + (x.sz + y.sz + 1) = d + (x.sz + y.sz) + 1 by omega]
    rcases g0 with rfl | rfl | rfl | rfl
    · simp (disch := first | assumption | omega | decide) only [pis_i, pis_l, pis_r, pis_n, p1_i, p1_r, p1_n, p1_u, pw0, pw1, pw2, pw3, pw4, pK_v, pK_0, pK_ite, if_true, if_false, if_pos, if_neg, Nat.reduceAdd, pok_r, i10, i01, Bool.true_or, Bool.or_true, Bool.and_true, Bool.true_and, Nat.add_sub_cancel, i1p1, i1p0, i0p1, i0p0, nIrem2, va_rf_s, bit1, bit0, pinT, pinLT, pin0, nIc, nIcL, nIlt, nIeq, nIltL, nILlt, nIeqL, nILeq, nIadL, nILad, nILmu, nI_add, nIsbL, nI_sub', decide_true, decide_false, Bool.false_or, Bool.or_false, rX19_of_0, rX19_of_1, rX19_of_4, rX19_of_4n, rX19_of_5c17, rX19_of_5c18, rX19_of_5c19, rX19_of_8, rX19_of_9, rX19_of_10, rX19_of_11, rX19_of_14, rX19_of_14n, rX19_of_15c17, rX19_of_15c18, rX19_of_15c19, rX19_of_18, rX19_of_19, rX19_of_21, rX19_of_22, rX19_of_25, rX19_of_27, rX19_of_30, rX19_of_31, rX19_of_33, rX19_of_34, rX19_of_37, rX19_of_38, rX19_of_41, rX19_of_43, rX19_of_46, rX19_of_47, rX19_of_49, rX19_of_50, rX19_of_53, rX19_of_54, rX19_of_57, rX19_of_59, rX19_of_62, rX19_of_63, rX19_of_65, rX19_of_66, rX19_of_69, rX19_of_71, rX19_of_72, rX19_of_73, rX19_of_76, rX19_of_77, rX19_of_80, rX19_of_81, rX19_of_83, rX19_of_84, rX19_of_86, rX19_of_89, rX19_of_92, rX19_of_94, rX19_of_97, rX19_of_100, rX19_of_101, f0, f1, f2, c19_5 hxc, c19_15 hyc, i1, i2, p2_uu]
      rfl
    · by_cases e : (y.ev L).toInt64 = 0
      · have el : lg_cmp (y.ev L).toInt64 0 = 0 := by have := lc_eq (x := (y.ev L).toInt64) (y := 0); rw [this]; exact e
        simp (disch := first | assumption | omega | decide) only [pis_i, pis_l, pis_r, pis_n, p1_i, p1_r, p1_n, p1_u, pw0, pw1, pw2, pw3, pw4, pK_v, pK_0, pK_ite, if_true, if_false, if_pos, if_neg, Nat.reduceAdd, pok_r, i10, i01, Bool.true_or, Bool.or_true, Bool.and_true, Bool.true_and, Nat.add_sub_cancel, i1p1, i1p0, i0p1, i0p0, nIrem2, va_rf_s, bit1, bit0, pinT, pinLT, pin0, nIc, nIcL, nIlt, nIeq, nIltL, nILlt, nIeqL, nILeq, nIadL, nILad, nILmu, nI_add, nIsbL, nI_sub', decide_true, decide_false, Bool.false_or, Bool.or_false, rX19_of_0, rX19_of_1, rX19_of_4, rX19_of_4n, rX19_of_5c17, rX19_of_5c18, rX19_of_5c19, rX19_of_8, rX19_of_9, rX19_of_10, rX19_of_11, rX19_of_14, rX19_of_14n, rX19_of_15c17, rX19_of_15c18, rX19_of_15c19, rX19_of_18, rX19_of_19, rX19_of_21, rX19_of_22, rX19_of_25, rX19_of_27, rX19_of_30, rX19_of_31, rX19_of_33, rX19_of_34, rX19_of_37, rX19_of_38, rX19_of_41, rX19_of_43, rX19_of_46, rX19_of_47, rX19_of_49, rX19_of_50, rX19_of_53, rX19_of_54, rX19_of_57, rX19_of_59, rX19_of_62, rX19_of_63, rX19_of_65, rX19_of_66, rX19_of_69, rX19_of_71, rX19_of_72, rX19_of_73, rX19_of_76, rX19_of_77, rX19_of_80, rX19_of_81, rX19_of_83, rX19_of_84, rX19_of_86, rX19_of_89, rX19_of_92, rX19_of_94, rX19_of_97, rX19_of_100, rX19_of_101, f0, f1, f2, c19_5 hxc, c19_15 hyc, i1, i2, p2_uu, el]
        have eo : opv 47 (x.ev L).toInt64 (y.ev L).toInt64 = 0 := by unfold opv; rw [if_neg (by decide), if_neg (by decide), if_neg (by decide), if_pos e]
        rw [eo, show clp 0 = 0 by decide]
      · have el : ¬ lg_cmp (y.ev L).toInt64 0 = 0 := by have := lc_eq (x := (y.ev L).toInt64) (y := 0); rw [this]; exact e
        simp (disch := first | assumption | omega | decide) only [pis_i, pis_l, pis_r, pis_n, p1_i, p1_r, p1_n, p1_u, pw0, pw1, pw2, pw3, pw4, pK_v, pK_0, pK_ite, if_true, if_false, if_pos, if_neg, Nat.reduceAdd, pok_r, i10, i01, Bool.true_or, Bool.or_true, Bool.and_true, Bool.true_and, Nat.add_sub_cancel, i1p1, i1p0, i0p1, i0p0, nIrem2, va_rf_s, bit1, bit0, pinT, pinLT, pin0, nIc, nIcL, nIlt, nIeq, nIltL, nILlt, nIeqL, nILeq, nIadL, nILad, nILmu, nI_add, nIsbL, nI_sub', decide_true, decide_false, Bool.false_or, Bool.or_false, rX19_of_0, rX19_of_1, rX19_of_4, rX19_of_4n, rX19_of_5c17, rX19_of_5c18, rX19_of_5c19, rX19_of_8, rX19_of_9, rX19_of_10, rX19_of_11, rX19_of_14, rX19_of_14n, rX19_of_15c17, rX19_of_15c18, rX19_of_15c19, rX19_of_18, rX19_of_19, rX19_of_21, rX19_of_22, rX19_of_25, rX19_of_27, rX19_of_30, rX19_of_31, rX19_of_33, rX19_of_34, rX19_of_37, rX19_of_38, rX19_of_41, rX19_of_43, rX19_of_46, rX19_of_47, rX19_of_49, rX19_of_50, rX19_of_53, rX19_of_54, rX19_of_57, rX19_of_59, rX19_of_62, rX19_of_63, rX19_of_65, rX19_of_66, rX19_of_69, rX19_of_71, rX19_of_72, rX19_of_73, rX19_of_76, rX19_of_77, rX19_of_80, rX19_of_81, rX19_of_83, rX19_of_84, rX19_of_86, rX19_of_89, rX19_of_92, rX19_of_94, rX19_of_97, rX19_of_100, rX19_of_101, f0, f1, f2, c19_5 hxc, c19_15 hyc, i1, i2, p2_uu, el, e]
        have eo : opv 47 (x.ev L).toInt64 (y.ev L).toInt64 = (x.ev L).toInt64 / (y.ev L).toInt64 := by unfold opv; rw [if_neg (by decide), if_neg (by decide), if_neg (by decide), if_neg e]
        rw [eo]
        unfold clp
        with_reducible rfl
    · simp (disch := first | assumption | omega | decide) only [pis_i, pis_l, pis_r, pis_n, p1_i, p1_r, p1_n, p1_u, pw0, pw1, pw2, pw3, pw4, pK_v, pK_0, pK_ite, if_true, if_false, if_pos, if_neg, Nat.reduceAdd, pok_r, i10, i01, Bool.true_or, Bool.or_true, Bool.and_true, Bool.true_and, Nat.add_sub_cancel, i1p1, i1p0, i0p1, i0p0, nIrem2, va_rf_s, bit1, bit0, pinT, pinLT, pin0, nIc, nIcL, nIlt, nIeq, nIltL, nILlt, nIeqL, nILeq, nIadL, nILad, nILmu, nI_add, nIsbL, nI_sub', decide_true, decide_false, Bool.false_or, Bool.or_false, rX19_of_0, rX19_of_1, rX19_of_4, rX19_of_4n, rX19_of_5c17, rX19_of_5c18, rX19_of_5c19, rX19_of_8, rX19_of_9, rX19_of_10, rX19_of_11, rX19_of_14, rX19_of_14n, rX19_of_15c17, rX19_of_15c18, rX19_of_15c19, rX19_of_18, rX19_of_19, rX19_of_21, rX19_of_22, rX19_of_25, rX19_of_27, rX19_of_30, rX19_of_31, rX19_of_33, rX19_of_34, rX19_of_37, rX19_of_38, rX19_of_41, rX19_of_43, rX19_of_46, rX19_of_47, rX19_of_49, rX19_of_50, rX19_of_53, rX19_of_54, rX19_of_57, rX19_of_59, rX19_of_62, rX19_of_63, rX19_of_65, rX19_of_66, rX19_of_69, rX19_of_71, rX19_of_72, rX19_of_73, rX19_of_76, rX19_of_77, rX19_of_80, rX19_of_81, rX19_of_83, rX19_of_84, rX19_of_86, rX19_of_89, rX19_of_92, rX19_of_94, rX19_of_97, rX19_of_100, rX19_of_101, f0, f1, f2, c19_5 hxc, c19_15 hyc, i1, i2, p2_uu]
      rfl
    · simp (disch := first | assumption | omega | decide) only [pis_i, pis_l, pis_r, pis_n, p1_i, p1_r, p1_n, p1_u, pw0, pw1, pw2, pw3, pw4, pK_v, pK_0, pK_ite, if_true, if_false, if_pos, if_neg, Nat.reduceAdd, pok_r, i10, i01, Bool.true_or, Bool.or_true, Bool.and_true, Bool.true_and, Nat.add_sub_cancel, i1p1, i1p0, i0p1, i0p0, nIrem2, va_rf_s, bit1, bit0, pinT, pinLT, pin0, nIc, nIcL, nIlt, nIeq, nIltL, nILlt, nIeqL, nILeq, nIadL, nILad, nILmu, nI_add, nIsbL, nI_sub', decide_true, decide_false, Bool.false_or, Bool.or_false, rX19_of_0, rX19_of_1, rX19_of_4, rX19_of_4n, rX19_of_5c17, rX19_of_5c18, rX19_of_5c19, rX19_of_8, rX19_of_9, rX19_of_10, rX19_of_11, rX19_of_14, rX19_of_14n, rX19_of_15c17, rX19_of_15c18, rX19_of_15c19, rX19_of_18, rX19_of_19, rX19_of_21, rX19_of_22, rX19_of_25, rX19_of_27, rX19_of_30, rX19_of_31, rX19_of_33, rX19_of_34, rX19_of_37, rX19_of_38, rX19_of_41, rX19_of_43, rX19_of_46, rX19_of_47, rX19_of_49, rX19_of_50, rX19_of_53, rX19_of_54, rX19_of_57, rX19_of_59, rX19_of_62, rX19_of_63, rX19_of_65, rX19_of_66, rX19_of_69, rX19_of_71, rX19_of_72, rX19_of_73, rX19_of_76, rX19_of_77, rX19_of_80, rX19_of_81, rX19_of_83, rX19_of_84, rX19_of_86, rX19_of_89, rX19_of_92, rX19_of_94, rX19_of_97, rX19_of_100, rX19_of_101, f0, f1, f2, c19_5 hxc, c19_15 hyc, i1, i2, p2_uu]
      rfl
def bI (b : Bool) : Int32 := if b = true then 1 else 0
theorem ev_T (hL : LtAt H lt la L) : ∀ s : Ts, ∀ d a, s.g → TsAt H s a → pCa s.m (d + s.sz) [.ref a, .ref lt] H = some (.inl (some (.int (bI (s.ev L)))), H) := by
  intro s
  induction s with
  | cm op x y =>
    intro d a hg h
    obtain ⟨b, c, h0, hx, hy⟩ := h
    obtain ⟨g0, gx, gy⟩ := hg
    have f0 : pfl H 20 a 0 = .int (nI op) := pfl_of h0 rfl rfl
    have f1 : pfl H 20 a 1 = .ref b := pfl_of h0 rfl rfl
    have f2 : pfl H 20 a 2 = .ref c := pfl_of h0 rfl rfl
    have i1 := ev_S hL x (d + y.sz) b gx hx
    have i2 := ev_S hL y (d + x.sz) c gy hy
    rw [show d + y.sz + x.sz = d + (x.sz + y.sz) by omega] at i1
    rw [show d + x.sz + y.sz = d + (x.sz + y.sz) by omega] at i2
    have hxc := hx.cl
    have hyc := hy.cl
    show pCa 214 (d + (x.sz + y.sz + 1)) [.ref a, .ref lt] H = some (.inl (some (.int (bI (cpv op (x.ev L) (y.ev L))))), H)
    rw [eX20_holds, show d + (x.sz + y.sz + 1) = d + (x.sz + y.sz) + 1 by omega]
    rcases g0 with rfl | rfl | rfl
    · simp (disch := first | assumption | omega | decide) only [pis_i, pis_l, pis_r, pis_n, p1_i, p1_r, p1_n, p1_u, pw0, pw1, pw2, pw3, pw4, pK_v, pK_0, pK_ite, if_true, if_false, if_pos, if_neg, Nat.reduceAdd, pok_r, i10, i01, Bool.true_or, Bool.or_true, Bool.and_true, Bool.true_and, Nat.add_sub_cancel, i1p1, i1p0, i0p1, i0p0, nIrem2, va_rf_s, bit1, bit0, pinT, pinLT, pin0, nIc, nIcL, nIlt, nIeq, nIltL, nILlt, nIeqL, nILeq, nIadL, nILad, nILmu, nI_add, nIsbL, nI_sub', decide_true, decide_false, Bool.false_or, Bool.or_false, rX20_holds_0, rX20_holds_1, rX20_holds_4, rX20_holds_4n, rX20_holds_5c17, rX20_holds_5c18, rX20_holds_5c19, rX20_holds_8, rX20_holds_9, rX20_holds_10, rX20_holds_13, rX20_holds_13n, rX20_holds_14c17, rX20_holds_14c18, rX20_holds_14c19, rX20_holds_17, rX20_holds_18, rX20_holds_19, rX20_holds_22, rX20_holds_24, rX20_holds_27, rX20_holds_28, rX20_holds_29, rX20_holds_32, rX20_holds_33, rX20_holds_36, rX20_holds_37, rX20_holds_40, rX20_holds_41, rX20_holds_44, rX20_holds_46, rX20_holds_49, rX20_holds_50, rX20_holds_51, rX20_holds_54, rX20_holds_55, rX20_holds_58, rX20_holds_59, rX20_holds_62, rX20_holds_63, rX20_holds_64, rX20_holds_67, rX20_holds_68, rX20_holds_71, rX20_holds_720, rX20_holds_721, f0, f1, f2, c20_5 hxc, c20_14 hyc, i1, i2]
      by_cases e : x.ev L = y.ev L <;> simp [cpv, bI, e]
    · simp (disch := first | assumption | omega | decide) only [pis_i, pis_l, pis_r, pis_n, p1_i, p1_r, p1_n, p1_u, pw0, pw1, pw2, pw3, pw4, pK_v, pK_0, pK_ite, if_true, if_false, if_pos, if_neg, Nat.reduceAdd, pok_r, i10, i01, Bool.true_or, Bool.or_true, Bool.and_true, Bool.true_and, Nat.add_sub_cancel, i1p1, i1p0, i0p1, i0p0, nIrem2, va_rf_s, bit1, bit0, pinT, pinLT, pin0, nIc, nIcL, nIlt, nIeq, nIltL, nILlt, nIeqL, nILeq, nIadL, nILad, nILmu, nI_add, nIsbL, nI_sub', decide_true, decide_false, Bool.false_or, Bool.or_false, rX20_holds_0, rX20_holds_1, rX20_holds_4, rX20_holds_4n, rX20_holds_5c17, rX20_holds_5c18, rX20_holds_5c19, rX20_holds_8, rX20_holds_9, rX20_holds_10, rX20_holds_13, rX20_holds_13n, rX20_holds_14c17, rX20_holds_14c18, rX20_holds_14c19, rX20_holds_17, rX20_holds_18, rX20_holds_19, rX20_holds_22, rX20_holds_24, rX20_holds_27, rX20_holds_28, rX20_holds_29, rX20_holds_32, rX20_holds_33, rX20_holds_36, rX20_holds_37, rX20_holds_40, rX20_holds_41, rX20_holds_44, rX20_holds_46, rX20_holds_49, rX20_holds_50, rX20_holds_51, rX20_holds_54, rX20_holds_55, rX20_holds_58, rX20_holds_59, rX20_holds_62, rX20_holds_63, rX20_holds_64, rX20_holds_67, rX20_holds_68, rX20_holds_71, rX20_holds_720, rX20_holds_721, f0, f1, f2, c20_5 hxc, c20_14 hyc, i1, i2]
      by_cases e : x.ev L < y.ev L <;> simp [cpv, bI, e]
    · simp (disch := first | assumption | omega | decide) only [pis_i, pis_l, pis_r, pis_n, p1_i, p1_r, p1_n, p1_u, pw0, pw1, pw2, pw3, pw4, pK_v, pK_0, pK_ite, if_true, if_false, if_pos, if_neg, Nat.reduceAdd, pok_r, i10, i01, Bool.true_or, Bool.or_true, Bool.and_true, Bool.true_and, Nat.add_sub_cancel, i1p1, i1p0, i0p1, i0p0, nIrem2, va_rf_s, bit1, bit0, pinT, pinLT, pin0, nIc, nIcL, nIlt, nIeq, nIltL, nILlt, nIeqL, nILeq, nIadL, nILad, nILmu, nI_add, nIsbL, nI_sub', decide_true, decide_false, Bool.false_or, Bool.or_false, rX20_holds_0, rX20_holds_1, rX20_holds_4, rX20_holds_4n, rX20_holds_5c17, rX20_holds_5c18, rX20_holds_5c19, rX20_holds_8, rX20_holds_9, rX20_holds_10, rX20_holds_13, rX20_holds_13n, rX20_holds_14c17, rX20_holds_14c18, rX20_holds_14c19, rX20_holds_17, rX20_holds_18, rX20_holds_19, rX20_holds_22, rX20_holds_24, rX20_holds_27, rX20_holds_28, rX20_holds_29, rX20_holds_32, rX20_holds_33, rX20_holds_36, rX20_holds_37, rX20_holds_40, rX20_holds_41, rX20_holds_44, rX20_holds_46, rX20_holds_49, rX20_holds_50, rX20_holds_51, rX20_holds_54, rX20_holds_55, rX20_holds_58, rX20_holds_59, rX20_holds_62, rX20_holds_63, rX20_holds_64, rX20_holds_67, rX20_holds_68, rX20_holds_71, rX20_holds_720, rX20_holds_721, f0, f1, f2, c20_5 hxc, c20_14 hyc, i1, i2]
      by_cases e : y.ev L < x.ev L <;> simp [cpv, bI, e]
  | no x ih =>
    intro d a hg h
    obtain ⟨b, h0, hx⟩ := h
    have f0 : pfl H 15 a 0 = .ref b := pfl_of h0 rfl rfl
    have i1 := ih d b hg hx
    have hxc := hx.cl
    show pCa 205 (d + (x.sz + 1)) [.ref a, .ref lt] H = some (.inl (some (.int (bI (!x.ev L)))), H)
    rw [eX15_holds, show d + (x.sz + 1) = d + x.sz + 1 by omega]
    simp (disch := first | assumption | omega | decide) only [pis_i, pis_l, pis_r, pis_n, p1_i, p1_r, p1_n, p1_u, pw0, pw1, pw2, pw3, pw4, pK_v, pK_0, pK_ite, if_true, if_false, if_pos, if_neg, Nat.reduceAdd, pok_r, i10, i01, Bool.true_or, Bool.or_true, Bool.and_true, Bool.true_and, Nat.add_sub_cancel, i1p1, i1p0, i0p1, i0p0, nIrem2, va_rf_s, bit1, bit0, pinT, pinLT, pin0, nIc, nIcL, nIlt, nIeq, nIltL, nILlt, nIeqL, nILeq, nIadL, nILad, nILmu, nI_add, nIsbL, nI_sub', decide_true, decide_false, Bool.false_or, Bool.or_false, rX15_holds_0, rX15_holds_1, rX15_holds_4, rX15_holds_4n, rX15_holds_5c15, rX15_holds_5c20, rX15_holds_5c21, rX15_holds_8, rX15_holds_11, rX15_holds_12, rX15_holds_15, rX15_holds_160, rX15_holds_161, f0, c15_5 hxc, i1]
    cases x.ev L <;> simp [bI]
  | bo all x y ihx ihy =>
    intro d a hg h
    obtain ⟨b, c, h0, hx, hy⟩ := h
    obtain ⟨gx, gy⟩ := hg
    have f0 : pfl H 21 a 0 = .int (if all = true then 1 else 0) := pfl_of h0 rfl rfl
    have f1 : pfl H 21 a 1 = .ref b := pfl_of h0 rfl rfl
    have f2 : pfl H 21 a 2 = .ref c := pfl_of h0 rfl rfl
    have i1 := ihx (d + y.sz) b gx hx
    have i2 := ihy (d + x.sz) c gy hy
    rw [show d + y.sz + x.sz = d + (x.sz + y.sz) by omega] at i1
    rw [show d + x.sz + y.sz = d + (x.sz + y.sz) by omega] at i2
    have hxc := hx.cl
    have hyc := hy.cl
    show pCa 216 (d + (x.sz + y.sz + 1)) [.ref a, .ref lt] H = some (.inl (some (.int (bI (if all = true then x.ev L && y.ev L else x.ev L || y.ev L)))), H)
    rw [eX21_holds, show d + (x.sz + y.sz + 1) = d + (x.sz + y.sz) + 1 by omega]
    cases all with
    | true =>
      simp only [if_true] at f0 ⊢
      cases e1 : x.ev L <;> cases e2 : y.ev L <;> simp (disch := first | assumption | omega | decide) only [pis_i, pis_l, pis_r, pis_n, p1_i, p1_r, p1_n, p1_u, pw0, pw1, pw2, pw3, pw4, pK_v, pK_0, pK_ite, if_true, if_false, if_pos, if_neg, Nat.reduceAdd, pok_r, i10, i01, Bool.true_or, Bool.or_true, Bool.and_true, Bool.true_and, Nat.add_sub_cancel, i1p1, i1p0, i0p1, i0p0, nIrem2, va_rf_s, bit1, bit0, pinT, pinLT, pin0, nIc, nIcL, nIlt, nIeq, nIltL, nILlt, nIeqL, nILeq, nIadL, nILad, nILmu, nI_add, nIsbL, nI_sub', decide_true, decide_false, Bool.false_or, Bool.or_false, rX21_holds_0, rX21_holds_1, rX21_holds_4, rX21_holds_7, rX21_holds_8, rX21_holds_11, rX21_holds_11n, rX21_holds_12c15, rX21_holds_12c20, rX21_holds_12c21, rX21_holds_15, rX21_holds_18, rX21_holds_19, rX21_holds_22, rX21_holds_22n, rX21_holds_23c15, rX21_holds_23c20, rX21_holds_23c21, rX21_holds_26, rX21_holds_29, rX21_holds_30, rX21_holds_33, rX21_holds_34, rX21_holds_37, rX21_holds_38, rX21_holds_41, rX21_holds_41n, rX21_holds_42c15, rX21_holds_42c20, rX21_holds_42c21, rX21_holds_45, rX21_holds_48, rX21_holds_49, rX21_holds_52, rX21_holds_52n, rX21_holds_53c15, rX21_holds_53c20, rX21_holds_53c21, rX21_holds_56, rX21_holds_59, rX21_holds_60, rX21_holds_63, rX21_holds_640, rX21_holds_641, f0, f1, f2, c21_12 hxc, c21_23 hyc, i1, i2, e1, e2, bI, Bool.and_self, Bool.and_false, Bool.false_and, Bool.false_eq_true]
    | false =>
      simp only [Bool.false_eq_true, if_false] at f0 ⊢
      cases e1 : x.ev L <;> cases e2 : y.ev L <;> simp (disch := first | assumption | omega | decide) only [pis_i, pis_l, pis_r, pis_n, p1_i, p1_r, p1_n, p1_u, pw0, pw1, pw2, pw3, pw4, pK_v, pK_0, pK_ite, if_true, if_false, if_pos, if_neg, Nat.reduceAdd, pok_r, i10, i01, Bool.true_or, Bool.or_true, Bool.and_true, Bool.true_and, Nat.add_sub_cancel, i1p1, i1p0, i0p1, i0p0, nIrem2, va_rf_s, bit1, bit0, pinT, pinLT, pin0, nIc, nIcL, nIlt, nIeq, nIltL, nILlt, nIeqL, nILeq, nIadL, nILad, nILmu, nI_add, nIsbL, nI_sub', decide_true, decide_false, Bool.false_or, Bool.or_false, rX21_holds_0, rX21_holds_1, rX21_holds_4, rX21_holds_7, rX21_holds_8, rX21_holds_11, rX21_holds_11n, rX21_holds_12c15, rX21_holds_12c20, rX21_holds_12c21, rX21_holds_15, rX21_holds_18, rX21_holds_19, rX21_holds_22, rX21_holds_22n, rX21_holds_23c15, rX21_holds_23c20, rX21_holds_23c21, rX21_holds_26, rX21_holds_29, rX21_holds_30, rX21_holds_33, rX21_holds_34, rX21_holds_37, rX21_holds_38, rX21_holds_41, rX21_holds_41n, rX21_holds_42c15, rX21_holds_42c20, rX21_holds_42c21, rX21_holds_45, rX21_holds_48, rX21_holds_49, rX21_holds_52, rX21_holds_52n, rX21_holds_53c15, rX21_holds_53c20, rX21_holds_53c21, rX21_holds_56, rX21_holds_59, rX21_holds_60, rX21_holds_63, rX21_holds_640, rX21_holds_641, f0, f1, f2, c21_42 hxc, c21_53 hyc, i1, i2, e1, e2, bI, Bool.or_self, Bool.or_false, Bool.false_or, Bool.true_or, Bool.or_true, Bool.false_eq_true]
end
