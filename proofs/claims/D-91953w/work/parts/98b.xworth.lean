/-! WORTH 2: the component's worthOf -/
set_option maxRecDepth 100000
def Lf (l h k s a : Int32) : Nat → Int32 := fun c => if c = 108 then l else if c = 104 then h else if c = 107 then k else if c = 115 then s else a
theorem Sm.ev_c {L L' : Nat → Int32} (hL : ∀ c, (c = 108 ∨ c = 104 ∨ c = 107 ∨ c = 115 ∨ c = 97) → L c = L' c) : ∀ s : Sm, s.g → s.ev L = s.ev L' := by
  intro s
  induction s with
  | pl v => intro _; rfl
  | le c => intro hg; exact hL c hg
  | pa op x y h1 h2 => intro hg; show (clp _).toInt32 = (clp _).toInt32; rw [h1 hg.2.1, h2 hg.2.2]
theorem Ts.ev_c {L L' : Nat → Int32} (hL : ∀ c, (c = 108 ∨ c = 104 ∨ c = 107 ∨ c = 115 ∨ c = 97) → L c = L' c) : ∀ s : Ts, s.g → s.ev L = s.ev L' := by
  intro s
  induction s with
  | cm op x y => intro hg; show cpv _ _ _ = cpv _ _ _; rw [Sm.ev_c hL x hg.2.1, Sm.ev_c hL y hg.2.2]
  | no x h => intro hg; show (!x.ev L) = _; rw [h hg]; rfl
  | bo all x y h1 h2 => intro hg; show (if all = true then _ else _) = (if all = true then _ else _); rw [h1 hg.1, h2 hg.2]
theorem wth_c {L L' : Nat → Int32} (hL : ∀ c, (c = 108 ∨ c = 104 ∨ c = 107 ∨ c = 115 ∨ c = 97) → L c = L' c) : ∀ l : List Cl, (∀ c, c ∈ l → c.g) → wth L l = wth L' l := by
  intro l
  induction l with
  | nil => intro _; rfl
  | cons c l ih =>
    intro hg
    have hc := hg c (List.mem_cons_self ..)
    have e1 : c.ho L = c.ho L' := by
      unfold Cl.ho
      cases h : c.1 with
      | none => rfl
      | some y => exact Ts.ev_c hL y (hc.1 y h)
    show (if c.ho L = true then c.2.ev L else wth L l) = (if c.ho L' = true then c.2.ev L' else wth L' l)
    rw [e1, Sm.ev_c hL c.2 hc.2, ih (fun c hc => hg c (List.mem_cons_of_mem _ hc))]
/-- the letters' array -/
def Lw (A : Nat → Int32) (l h k s a : Int32) : Nat → Int32 := upd (upd (upd (upd (upd A 108 l) 104 h) 107 k) 115 s) 97 a
theorem Lw_f {A : Nat → Int32} {l h k s a : Int32} : ∀ c, (c = 108 ∨ c = 104 ∨ c = 107 ∨ c = 115 ∨ c = 97) → Lw A l h k s a c = Lf l h k s a c := by
  intro c hc
  rcases hc with rfl | rfl | rfl | rfl | rfl <;> rfl
section
variable {h : pH} {x d : Nat} {X : XS} {l1 l2 l3 l4 l5 : Int32}
def xL (X : XS) (l1 l2 l3 l4 l5 : Int32) : XS := (X.1, us X.2.1 12 (Lw (X.2.1 12) l1 l2 l3 l4 l5), X.2.2)
theorem xL_lt : LtAt (xput h x (xL X l1 l2 l3 l4 l5)) (x + 11) (x + 12) (Lw (X.2.1 12) l1 l2 l3 l4 l5) := ⟨xLf, xL12, fun i hi => by rw [xC12]; show us X.2.1 12 (Lw (X.2.1 12) l1 l2 l3 l4 l5) 12 i = _; rw [us_same]⟩
theorem kX22_holds {H : pH} {q lt la : Nat} {L : Nat → Int32} {c : Cl} {s : Nat} {e : Option Nat} (hL : LtAt H lt la L) (hg : c.g) (hz : c.sz ≤ 200) (hc : match c.1 with
      | none => H.1 q = some (.inr (22, [.null, .ref s, va_rf e]))
      | some y => ∃ b, H.1 q = some (.inr (22, [.ref b, .ref s, va_rf e])) ∧ TsAt H y b) : pCa 218 (d + 201) [.ref q, .ref lt] H = some (.inl (some (.int (bI (c.ho L)))), H) := by
  rw [eX22_holds]
  unfold Cl.ho
  cases h1 : c.1 with
  | none =>
    rw [h1] at hc
    have f0 : pfl H 22 q 0 = .null := pfl_of hc rfl rfl
    simp (disch := first | assumption | omega | decide) only [pis_i, pis_l, pis_r, pis_n, p1_i, p1_r, p1_n, p1_u, pw0, pw1, pw2, pw3, pw4, pK_v, pK_0, pK_ite, if_true, if_false, if_pos, if_neg, Nat.reduceAdd, pok_r, i10, i01, Bool.true_or, Bool.or_true, Bool.and_true, Bool.true_and, Nat.add_sub_cancel, i1p1, i1p0, i0p1, i0p0, nIrem2, va_rf_s, bit1, bit0, pinT, pinLT, pin0, nIc, nIcL, nIlt, nIeq, nIltL, nILlt, nIeqL, nILeq, nIadL, nILad, nILmu, nI_add, nIsbL, nI_sub', decide_true, decide_false, Bool.false_or, Bool.or_false, rX22_holds_0, rX22_holds_1, rX22_holds_4n, rX22_holds_4, rX22_holds_7, rX22_holds_8, rX22_holds_11, rX22_holds_11n, rX22_holds_12c15, rX22_holds_12c20, rX22_holds_12c21, rX22_holds_15, rX22_holds_18, rX22_holds_19, rX22_holds_22, rX22_holds_230, rX22_holds_231, f0]
    rfl
  | some y =>
    rw [h1] at hc
    obtain ⟨b, hc, hy⟩ := hc
    have f0 : pfl H 22 q 0 = .ref b := pfl_of hc rfl rfl
    have hyz : y.sz ≤ 200 := by unfold Cl.sz at hz; rw [h1] at hz; exact Nat.le_trans (Nat.le_add_right _ _) hz
    have hev := ev_T hL y (d + 200 - y.sz) b (hg.1 y h1) hy
    rw [show d + 200 - y.sz + y.sz = d + 200 by omega] at hev
    have hyc := hy.cl
    cases e1 : y.ev L <;> simp (disch := first | assumption | omega | decide) only [pis_i, pis_l, pis_r, pis_n, p1_i, p1_r, p1_n, p1_u, pw0, pw1, pw2, pw3, pw4, pK_v, pK_0, pK_ite, if_true, if_false, if_pos, if_neg, Nat.reduceAdd, pok_r, i10, i01, Bool.true_or, Bool.or_true, Bool.and_true, Bool.true_and, Nat.add_sub_cancel, i1p1, i1p0, i0p1, i0p0, nIrem2, va_rf_s, bit1, bit0, pinT, pinLT, pin0, nIc, nIcL, nIlt, nIeq, nIltL, nILlt, nIeqL, nILeq, nIadL, nILad, nILmu, nI_add, nIsbL, nI_sub', decide_true, decide_false, Bool.false_or, Bool.or_false, rX22_holds_0, rX22_holds_1, rX22_holds_4n, rX22_holds_4, rX22_holds_7, rX22_holds_8, rX22_holds_11, rX22_holds_11n, rX22_holds_12c15, rX22_holds_12c20, rX22_holds_12c21, rX22_holds_15, rX22_holds_18, rX22_holds_19, rX22_holds_22, rX22_holds_230, rX22_holds_231, f0, c22_12 hyc, hev, e1, bI, Bool.false_eq_true]
theorem wo_l {a0 : Nat} : ∀ (cl : List Cl) (e : Option Nat), (∀ c, c ∈ cl → c.g) → Lz cl ≤ 201 → ClAt (xput h x (xL X l1 l2 l3 l4 l5)) cl e → pR 59 (d + 202) 61 [.ref x, .ref a0, .int l1, .int l2, .int l3, .int l4, .int l5, va_rf e] [] (xput h x (xL X l1 l2 l3 l4 l5)) = some (.inl (some (.int (wth (Lf l1 l2 l3 l4 l5) cl))), xput h x (xL X l1 l2 l3 l4 l5)) := by
  intro cl
  induction cl with
  | nil =>
    intro e _ _ hC
    have hC : e = none := hC
    subst hC
    rw [va_rf_n, rX1_worthOf_61n]
    simp (disch := first | assumption | omega | decide) only [pis_i, pis_l, pis_r, pis_n, p1_i, p1_r, p1_n, p1_u, pw0, pw1, pw2, pw3, pw4, pK_v, pK_0, pK_ite, if_true, if_false, if_pos, if_neg, Nat.reduceAdd, pok_r, i10, i01, Bool.true_or, Bool.or_true, Bool.and_true, Bool.true_and, rX1_worthOf_0, rX1_worthOf_1, rX1_worthOf_4, rX1_worthOf_7, rX1_worthOf_9, rX1_worthOf_10, rX1_worthOf_11, rX1_worthOf_12, rX1_worthOf_15, rX1_worthOf_18, rX1_worthOf_20, rX1_worthOf_21, rX1_worthOf_22, rX1_worthOf_23, rX1_worthOf_26, rX1_worthOf_29, rX1_worthOf_31, rX1_worthOf_33, rX1_worthOf_34, rX1_worthOf_35, rX1_worthOf_38, rX1_worthOf_41, rX1_worthOf_43, rX1_worthOf_45, rX1_worthOf_46, rX1_worthOf_47, rX1_worthOf_50, rX1_worthOf_53, rX1_worthOf_55, rX1_worthOf_57, rX1_worthOf_58, rX1_worthOf_58n, rX1_worthOf_59, rX1_worthOf_59n, rX1_worthOf_63n, rX1_worthOf_63, rX1_worthOf_66, rX1_worthOf_66n, rX1_worthOf_68, rX1_worthOf_69, rX1_worthOf_72, rX1_worthOf_75, rX1_worthOf_78, rX1_worthOf_78n, rX1_worthOf_80, rX1_worthOf_83, rX1_worthOf_84, rX1_worthOf_87c17, rX1_worthOf_87c18, rX1_worthOf_87c19, rX1_worthOf_90, rX1_worthOf_91, rX1_worthOf_91n, rX1_worthOf_93, rX1_worthOf_96, rX1_worthOf_96n, rX1_worthOf_98, rX1_worthOf_101, rX1_worthOf_102]
    rfl
  | cons c cl ih =>
    intro e hg hz hC
    obtain ⟨q, e', s, rfl, hc, hs, hC'⟩ := hC
    have hz : c.sz + 3 + Lz cl ≤ 201 := hz
    have hcg := hg c (List.mem_cons_self ..)
    have hho := kX22_holds (d := d) (xL_lt (h := h) (x := x) (X := X) (l1 := l1) (l2 := l2) (l3 := l3) (l4 := l4) (l5 := l5)) hcg (by omega) hc
    have i1 := ih e' (fun c hc => hg c (List.mem_cons_of_mem _ hc)) (by omega) hC'
    have hcl : pcl (xput h x (xL X l1 l2 l3 l4 l5)) q = 22 ∧ pfl (xput h x (xL X l1 l2 l3 l4 l5)) 22 q 1 = .ref s ∧ pfl (xput h x (xL X l1 l2 l3 l4 l5)) 22 q 2 = va_rf e' := by
      cases h1 : c.1 with
      | none => rw [h1] at hc; exact ⟨pcl_of hc, pfl_of hc rfl rfl, pfl_of hc rfl rfl⟩
      | some y => rw [h1] at hc; obtain ⟨b, hc, -⟩ := hc; exact ⟨pcl_of hc, pfl_of hc rfl rfl, pfl_of hc rfl rfl⟩
    obtain ⟨c0, c1, c2⟩ := hcl
    have e1 : c.ho (Lw (X.2.1 12) l1 l2 l3 l4 l5) = c.ho (Lf l1 l2 l3 l4 l5) := by
      unfold Cl.ho
      cases hh : c.1 with
      | none => rfl
      | some y => exact Ts.ev_c Lw_f y (hcg.1 y hh)
    rw [e1] at hho
    have hsz : c.2.sz ≤ 200 := by unfold Cl.sz at hz; omega
    have hev := ev_S (xL_lt (h := h) (x := x) (X := X) (l1 := l1) (l2 := l2) (l3 := l3) (l4 := l4) (l5 := l5)) c.2 (d + 201 - c.2.sz) s hcg.2 hs
    rw [show d + 201 - c.2.sz + c.2.sz = d + 201 by omega, Sm.ev_c Lw_f c.2 hcg.2] at hev
    have hsc := hs.cl
    show _ = some (Sum.inl (some (Value.int (if c.ho (Lf l1 l2 l3 l4 l5) = true then c.2.ev (Lf l1 l2 l3 l4 l5) else wth (Lf l1 l2 l3 l4 l5) cl))), _)
    rw [va_rf_s, rX1_worthOf_61]
    cases hb : c.ho (Lf l1 l2 l3 l4 l5) with
    | true => simp (disch := first | assumption | omega | decide) only [pis_i, pis_l, pis_r, pis_n, p1_i, p1_r, p1_n, p1_u, pw0, pw1, pw2, pw3, pw4, pK_v, pK_0, pK_ite, if_true, if_false, if_pos, if_neg, Nat.reduceAdd, pok_r, i10, i01, Bool.true_or, Bool.or_true, Bool.and_true, Bool.true_and, Nat.add_sub_cancel, i1p1, i1p0, i0p1, i0p0, nIrem2, va_rf_s, bit1, bit0, pinT, pinLT, pin0, nIc, nIcL, nIlt, nIeq, nIltL, nILlt, nIeqL, nILeq, nIadL, nILad, nILmu, nI_add, nIsbL, nI_sub', decide_true, decide_false, Bool.false_or, Bool.or_false, rX1_worthOf_0, rX1_worthOf_1, rX1_worthOf_4, rX1_worthOf_7, rX1_worthOf_9, rX1_worthOf_10, rX1_worthOf_11, rX1_worthOf_12, rX1_worthOf_15, rX1_worthOf_18, rX1_worthOf_20, rX1_worthOf_21, rX1_worthOf_22, rX1_worthOf_23, rX1_worthOf_26, rX1_worthOf_29, rX1_worthOf_31, rX1_worthOf_33, rX1_worthOf_34, rX1_worthOf_35, rX1_worthOf_38, rX1_worthOf_41, rX1_worthOf_43, rX1_worthOf_45, rX1_worthOf_46, rX1_worthOf_47, rX1_worthOf_50, rX1_worthOf_53, rX1_worthOf_55, rX1_worthOf_57, rX1_worthOf_58, rX1_worthOf_58n, rX1_worthOf_59, rX1_worthOf_59n, rX1_worthOf_63n, rX1_worthOf_63, rX1_worthOf_66, rX1_worthOf_66n, rX1_worthOf_68, rX1_worthOf_69, rX1_worthOf_72, rX1_worthOf_75, rX1_worthOf_78, rX1_worthOf_78n, rX1_worthOf_80, rX1_worthOf_83, rX1_worthOf_84, rX1_worthOf_87c17, rX1_worthOf_87c18, rX1_worthOf_87c19, rX1_worthOf_90, rX1_worthOf_91, rX1_worthOf_91n, rX1_worthOf_93, rX1_worthOf_96, rX1_worthOf_96n, rX1_worthOf_98, rX1_worthOf_101, rX1_worthOf_102, xCl, xF0, xF1, xP1, xF2, xF3, xP3, xF4, xF5, xP5, xF6, xF7, xF8, xF9, xF10, xF11, xF12, xP12, xF13, xP13, xF14, xP14, xF15, xP15, xF16, xP16, xF17, xP17, xF18, xF19, xF20, xP20, xF21, xF22, xP22, xL2, xL2n, xC2, xW2, xL4, xL4n, xC4, xW4, xL5, xL5n, xC5, xW5, xL6, xL6n, xC6, xW6, xL7, xL7n, xC7, xW7, xL8, xL8n, xC8, xW8, xL12, xL12n, xC12, xW12, xL13, xL13n, xC13, xW13, xL1, xK1, xC1, xW1, xL3, xK3, xC3, xW3, xL9, xK9, xC9, xW9, xL10, xK10, xC10, xW10, xLf, xLc, c0, hho, hb, bI, c1, c59_87 hsc, hev]
    | false =>
      cases e' with
      | none =>
        rw [va_rf_n] at i1 c2
        simp (disch := first | assumption | omega | decide) only [pis_i, pis_l, pis_r, pis_n, p1_i, p1_r, p1_n, p1_u, pw0, pw1, pw2, pw3, pw4, pK_v, pK_0, pK_ite, if_true, if_false, if_pos, if_neg, Nat.reduceAdd, pok_r, i10, i01, Bool.true_or, Bool.or_true, Bool.and_true, Bool.true_and, Nat.add_sub_cancel, i1p1, i1p0, i0p1, i0p0, nIrem2, va_rf_s, bit1, bit0, pinT, pinLT, pin0, nIc, nIcL, nIlt, nIeq, nIltL, nILlt, nIeqL, nILeq, nIadL, nILad, nILmu, nI_add, nIsbL, nI_sub', decide_true, decide_false, Bool.false_or, Bool.or_false, rX1_worthOf_0, rX1_worthOf_1, rX1_worthOf_4, rX1_worthOf_7, rX1_worthOf_9, rX1_worthOf_10, rX1_worthOf_11, rX1_worthOf_12, rX1_worthOf_15, rX1_worthOf_18, rX1_worthOf_20, rX1_worthOf_21, rX1_worthOf_22, rX1_worthOf_23, rX1_worthOf_26, rX1_worthOf_29, rX1_worthOf_31, rX1_worthOf_33, rX1_worthOf_34, rX1_worthOf_35, rX1_worthOf_38, rX1_worthOf_41, rX1_worthOf_43, rX1_worthOf_45, rX1_worthOf_46, rX1_worthOf_47, rX1_worthOf_50, rX1_worthOf_53, rX1_worthOf_55, rX1_worthOf_57, rX1_worthOf_58, rX1_worthOf_58n, rX1_worthOf_59, rX1_worthOf_59n, rX1_worthOf_63n, rX1_worthOf_63, rX1_worthOf_66, rX1_worthOf_66n, rX1_worthOf_68, rX1_worthOf_69, rX1_worthOf_72, rX1_worthOf_75, rX1_worthOf_78, rX1_worthOf_78n, rX1_worthOf_80, rX1_worthOf_83, rX1_worthOf_84, rX1_worthOf_87c17, rX1_worthOf_87c18, rX1_worthOf_87c19, rX1_worthOf_90, rX1_worthOf_91, rX1_worthOf_91n, rX1_worthOf_93, rX1_worthOf_96, rX1_worthOf_96n, rX1_worthOf_98, rX1_worthOf_101, rX1_worthOf_102, xCl, xF0, xF1, xP1, xF2, xF3, xP3, xF4, xF5, xP5, xF6, xF7, xF8, xF9, xF10, xF11, xF12, xP12, xF13, xP13, xF14, xP14, xF15, xP15, xF16, xP16, xF17, xP17, xF18, xF19, xF20, xP20, xF21, xF22, xP22, xL2, xL2n, xC2, xW2, xL4, xL4n, xC4, xW4, xL5, xL5n, xC5, xW5, xL6, xL6n, xC6, xW6, xL7, xL7n, xC7, xW7, xL8, xL8n, xC8, xW8, xL12, xL12n, xC12, xW12, xL13, xL13n, xC13, xW13, xL1, xK1, xC1, xW1, xL3, xK3, xC3, xW3, xL9, xK9, xC9, xW9, xL10, xK10, xC10, xW10, xLf, xLc, c0, hho, hb, bI, Bool.false_eq_true, c2]
        exact i1
      | some q' =>
        rw [va_rf_s] at i1 c2
        simp (disch := first | assumption | omega | decide) only [pis_i, pis_l, pis_r, pis_n, p1_i, p1_r, p1_n, p1_u, pw0, pw1, pw2, pw3, pw4, pK_v, pK_0, pK_ite, if_true, if_false, if_pos, if_neg, Nat.reduceAdd, pok_r, i10, i01, Bool.true_or, Bool.or_true, Bool.and_true, Bool.true_and, Nat.add_sub_cancel, i1p1, i1p0, i0p1, i0p0, nIrem2, va_rf_s, bit1, bit0, pinT, pinLT, pin0, nIc, nIcL, nIlt, nIeq, nIltL, nILlt, nIeqL, nILeq, nIadL, nILad, nILmu, nI_add, nIsbL, nI_sub', decide_true, decide_false, Bool.false_or, Bool.or_false, rX1_worthOf_0, rX1_worthOf_1, rX1_worthOf_4, rX1_worthOf_7, rX1_worthOf_9, rX1_worthOf_10, rX1_worthOf_11, rX1_worthOf_12, rX1_worthOf_15, rX1_worthOf_18, rX1_worthOf_20, rX1_worthOf_21, rX1_worthOf_22, rX1_worthOf_23, rX1_worthOf_26, rX1_worthOf_29, rX1_worthOf_31, rX1_worthOf_33, rX1_worthOf_34, rX1_worthOf_35, rX1_worthOf_38, rX1_worthOf_41, rX1_worthOf_43, rX1_worthOf_45, rX1_worthOf_46, rX1_worthOf_47, rX1_worthOf_50, rX1_worthOf_53, rX1_worthOf_55, rX1_worthOf_57, rX1_worthOf_58, rX1_worthOf_58n, rX1_worthOf_59, rX1_worthOf_59n, rX1_worthOf_63n, rX1_worthOf_63, rX1_worthOf_66, rX1_worthOf_66n, rX1_worthOf_68, rX1_worthOf_69, rX1_worthOf_72, rX1_worthOf_75, rX1_worthOf_78, rX1_worthOf_78n, rX1_worthOf_80, rX1_worthOf_83, rX1_worthOf_84, rX1_worthOf_87c17, rX1_worthOf_87c18, rX1_worthOf_87c19, rX1_worthOf_90, rX1_worthOf_91, rX1_worthOf_91n, rX1_worthOf_93, rX1_worthOf_96, rX1_worthOf_96n, rX1_worthOf_98, rX1_worthOf_101, rX1_worthOf_102, xCl, xF0, xF1, xP1, xF2, xF3, xP3, xF4, xF5, xP5, xF6, xF7, xF8, xF9, xF10, xF11, xF12, xP12, xF13, xP13, xF14, xP14, xF15, xP15, xF16, xP16, xF17, xP17, xF18, xF19, xF20, xP20, xF21, xF22, xP22, xL2, xL2n, xC2, xW2, xL4, xL4n, xC4, xW4, xL5, xL5n, xC5, xW5, xL6, xL6n, xC6, xW6, xL7, xL7n, xC7, xW7, xL8, xL8n, xC8, xW8, xL12, xL12n, xC12, xW12, xL13, xL13n, xC13, xW13, xL1, xK1, xC1, xW1, xL3, xK3, xC3, xW3, xL9, xK9, xC9, xW9, xL10, xK10, xC10, xW10, xLf, xLc, c0, hho, hb, bI, Bool.false_eq_true, c2]
        exact i1
/-- a rule on the heap, beyond the component's cells -/
def RuAt (x : Nat) (h : pH) (cl : List Cl) (a : Nat) : Prop := (∀ c, c ∈ cl → c.g) ∧ Lz cl ≤ 201 ∧ ∃ lo hi, x + 14 ≤ lo ∧ hi ≤ h.2.1 ∧ ClS h lo hi cl (some a)
theorem kX1_worthOf {cl : List Cl} {a : Nat} (hr : RuAt x h cl a) : pCa 59 (d + 202) [.ref x, .ref a, .int l1, .int l2, .int l3, .int l4, .int l5] (xput h x X) = some (.inl (some (.int (wth (Lf l1 l2 l3 l4 l5) cl))), xput h x (xL X l1 l2 l3 l4 l5)) := by
  obtain ⟨hg, hz, lo, hi, h1, h2, h3⟩ := hr
  have hC : ClAt (xput h x (xL X l1 l2 l3 l4 l5)) cl (some a) := h3 _ (fun q q1 q2 => xput_out (Or.inr (by omega)))
  have := wo_l (d := d) (a0 := a) cl (some a) hg hz hC
  rw [va_rf_s] at this
  rw [eX1_worthOf]
  simp (disch := first | assumption | omega | decide) only [pis_i, pis_l, pis_r, pis_n, p1_i, p1_r, p1_n, p1_u, pw0, pw1, pw2, pw3, pw4, pK_v, pK_0, pK_ite, if_true, if_false, if_pos, if_neg, Nat.reduceAdd, pok_r, i10, i01, Bool.true_or, Bool.or_true, Bool.and_true, Bool.true_and, Nat.add_sub_cancel, i1p1, i1p0, i0p1, i0p0, nIrem2, va_rf_s, bit1, bit0, pinT, pinLT, pin0, nIc, nIcL, nIlt, nIeq, nIltL, nILlt, nIeqL, nILeq, nIadL, nILad, nILmu, nI_add, nIsbL, nI_sub', decide_true, decide_false, Bool.false_or, Bool.or_false, rX1_worthOf_0, rX1_worthOf_1, rX1_worthOf_4, rX1_worthOf_7, rX1_worthOf_9, rX1_worthOf_10, rX1_worthOf_11, rX1_worthOf_12, rX1_worthOf_15, rX1_worthOf_18, rX1_worthOf_20, rX1_worthOf_21, rX1_worthOf_22, rX1_worthOf_23, rX1_worthOf_26, rX1_worthOf_29, rX1_worthOf_31, rX1_worthOf_33, rX1_worthOf_34, rX1_worthOf_35, rX1_worthOf_38, rX1_worthOf_41, rX1_worthOf_43, rX1_worthOf_45, rX1_worthOf_46, rX1_worthOf_47, rX1_worthOf_50, rX1_worthOf_53, rX1_worthOf_55, rX1_worthOf_57, rX1_worthOf_58, rX1_worthOf_58n, rX1_worthOf_59, rX1_worthOf_59n, xCl, xF0, xF1, xP1, xF2, xF3, xP3, xF4, xF5, xP5, xF6, xF7, xF8, xF9, xF10, xF11, xF12, xP12, xF13, xP13, xF14, xP14, xF15, xP15, xF16, xP16, xF17, xP17, xF18, xF19, xF20, xP20, xF21, xF22, xP22, xL2, xL2n, xC2, xW2, xL4, xL4n, xC4, xW4, xL5, xL5n, xC5, xW5, xL6, xL6n, xC6, xW6, xL7, xL7n, xC7, xW7, xL8, xL8n, xC8, xW8, xL12, xL12n, xC12, xW12, xL13, xL13n, xC13, xW13, xL1, xK1, xC1, xW1, xL3, xK3, xC3, xW3, xL9, xK9, xC9, xW9, xL10, xK10, xC10, xW10, xLf, xLc]
  refine Eq.trans ?_ this
  refine congrArg (fun Y => pR 59 (d + 202) 61 [.ref x, .ref a, .int l1, .int l2, .int l3, .int l4, .int l5, .ref a] [] (xput h x Y)) ?_
  refine Prod.ext rfl (Prod.ext ?_ rfl)
  show ua (ua (ua (ua (ua X.2.1 12 108 l1) 12 104 l2) 12 107 l3) 12 115 l4) 12 97 l5 = us X.2.1 12 (Lw (X.2.1 12) l1 l2 l3 l4 l5)
  rw [ua_us, ua_us, ua_us, ua_us, ua_us]
  simp only [us_us, us_same]
  rfl
end
