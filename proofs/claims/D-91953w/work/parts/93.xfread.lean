/-! READING 3: the component's FigureReader: move, moves -/
set_option maxRecDepth 100000
/-- the heap grew by at most n cells; what was there stays -/
def Fr (h h' : pH) (n : Nat) : Prop := h.2.1 ≤ h'.2.1 ∧ h'.2.1 ≤ h.2.1 + n ∧ h'.2.2 ≤ h.2.2 + 8 * n ∧ ∀ q, q < h.2.1 → h'.1 q = h.1 q
theorem Fr.rf {h : pH} {n : Nat} : Fr h h n := ⟨Nat.le_refl _, by omega, by omega, fun _ _ => rfl⟩
theorem Fr.tr {h h' h'' : pH} {n m : Nat} (h1 : Fr h h' n) (h2 : Fr h' h'' m) : Fr h h'' (n + m) := ⟨by have := h1.1; have := h2.1; omega, by have := h1.2.1; have := h2.2.1; omega, by have := h1.2.2.1; have := h2.2.2.1; omega, fun q hq => (h2.2.2.2 q (by have := h1.1; omega)).trans (h1.2.2.2 q hq)⟩
theorem Fr.wk {h h' : pH} {n m : Nat} (h1 : Fr h h' n) (hm : n ≤ m) : Fr h h' m := ⟨h1.1, by have := h1.2.1; omega, by have := h1.2.2.1; omega, h1.2.2.2⟩
theorem Fr.nw {h : pH} {c : va_E} {n : Nat} (hn : n ≤ 8) : Fr h (pnw h c n) 1 := ⟨Nat.le_succ _, Nat.le_refl _, by show h.2.2 + n ≤ _; omega, fun q hq => pnw_ne (by omega)⟩
theorem Fr.agr {h h' : pH} {n lo : Nat} (h1 : Fr h h' n) : ag h h' lo h.2.1 := fun q _ q2 => h1.2.2.2 q q2
theorem pK_t {M d pc n : Nat} {ls st : List Value} {a : Nat} {h : pH} (hp : phd M pc = none) : pK M d pc n ls st (some (.inr a, h)) = some (.inr a, h) := by simp [pK, hp]
/-- where a reader reads -/
structure RP (h : pH) (x o : Nat) (t : Tp) (N : Nat) : Prop where
  X : XT h x t N
  x2 : x + 2 < h.2.1
  ol : o < h.2.1
  n0 : o ≠ x
  n2 : o ≠ x + 2
theorem RP.fr {h h' : pH} {x o N n : Nat} {t : Tp} (hR : RP h x o t N) (hf : Fr h h' n) : RP h' x o t N := by
  obtain ⟨a1, a2, a3, a4, a5⟩ := hR
  have := hf.1
  exact ⟨a1.fr (hf.2.2.2 x (by omega)) (hf.2.2.2 (x + 2) (by omega)), by omega, by omega, a4, a5⟩
section
variable {h : pH} {o c a dp x d N p bu bl : Nat} {r : List Value} {t : Tp}
theorem kX6_isMove {H : pH} (ht : TpOk t) : pCa 181 d [.ref o, .int (hr t p)] H = if isM t p = true then some (.inl (some (.int 1)), H) else some (.inl (some (.int 0)), H) := by
  rw [eX6_isMove]
  simp (disch := first | assumption | omega | decide) only [pis_i, pis_l, pis_r, pis_n, p1_i, p1_r, p1_n, p1_u, pw0, pw1, pw2, pw3, pw4, pK_v, pK_0, pK_ite, if_true, if_false, if_pos, if_neg, Nat.reduceAdd, pok_r, i10, i01, Bool.true_or, Bool.or_true, Bool.and_true, Bool.true_and, rX6_isMove_0, rX6_isMove_1, rX6_isMove_3, rX6_isMove_6, rX6_isMove_7, rX6_isMove_9, rX6_isMove_12, rX6_isMove_13, rX6_isMove_15, rX6_isMove_18, rX6_isMove_19, rX6_isMove_21, rX6_isMove_24, rX6_isMove_25, rX6_isMove_27, rX6_isMove_30, rX6_isMove_31, rX6_isMove_34, rX6_isMove_350, rX6_isMove_351, hr_lt ht, hr_gt ht, hr_eq ht]
  unfold isM dg inC isC
  by_cases h1 : p < t.1
  · simp only [h1, true_and, decide_true, Bool.true_and]
    by_cases h2 : 48 ≤ t.2 p
    · by_cases h3 : 57 < t.2 p
      · by_cases h4 : 97 ≤ t.2 p
        · by_cases h5 : 105 ≤ t.2 p
          · simp [h2, h3, h4, h5, Nat.not_le.mpr h3, show ¬ t.2 p ≤ 104 by omega, show ¬ t.2 p = 40 by omega]
          · simp [h2, h3, h4, h5, Nat.not_le.mpr h3, show t.2 p ≤ 104 by omega]
        · simp [h2, h3, h4, Nat.not_le.mpr h3, show ¬ t.2 p = 40 by omega]
      · simp [h2, h3, Nat.le_of_not_lt h3]
    · by_cases h6 : t.2 p = 40
      · simp [h6]
      · simp [h2, h6, show ¬ 97 ≤ t.2 p by omega]
  · simp [h1]
theorem sub48 {a : Nat} (h : 48 ≤ a) : nI a - 48 = nI (a - 48) := nIsbL h
theorem kX6_bubble (hR : RP h x o t N) (hp : dg t p = true) (hb : bu ≤ 24) : (match bubP t p bu with
    | .inl w => ∃ a' bu', pCa 182 (d + 10) [.ref o] (rq (h) o 6 (p) (dp) x [.int (nI (bu)), .int (nI (bl)), .ref x]) = some (.inr h.2.1, (rq (pnw h (wr (nI w)) 7) o 6 (a') (dp) x [.int (nI (bu')), .int (nI (bl)), .ref x]))
    | .inr (v, q) => pCa 182 (d + 10) [.ref o] (rq (h) o 6 (p) (dp) x [.int (nI (bu)), .int (nI (bl)), .ref x]) = some (.inl (some (.int (nI v))), (rq (h) o 6 (q) (dp) x [.int (nI (bu + 1)), .int (nI (bl)), .ref x]))) := by
  obtain ⟨hX, hx2, ho, hn0, hn2⟩ := hR
  have ht := hX.k
  have ht1 := ht.1
  have hp1 := inC_lt hp
  have hpo : pok 5 6 = true := rfl
  have hF3 : ∀ (h : pH) (a dp bu : Nat), pfl (rq (h) o 6 (a) (dp) x [.int (nI (bu)), .int (nI (bl)), .ref x]) 6 o 3 = .int (nI bu) := fun h a dp bu => pfl_of rq_at rfl rfl
  have hP3 : ∀ (h : pH) (a dp bu b : Nat), psf (rq (h) o 6 (a) (dp) x [.int (nI (bu)), .int (nI (bl)), .ref x]) o 3 (.int (nI b)) = (rq (h) o 6 (a) (dp) x [.int (nI (b)), .int (nI (bl)), .ref x]) := fun h a dp bu b => qPr (j := 0)
  have hq0 : o ≠ x ∧ o ≠ x + 2 := ⟨hn0, hn2⟩
  have htk := kX5_take (d := d + 9) (dp := dp) (c := 6) (r := [.int (nI bu), .int (nI bl), .ref x]) hX hq0 hpo hp1.1
  have ht0 := kX5_take0 (d := d + 1) (a := p) (dp := dp) (x := x) (r := [.int (nI bu), .int (nI bl), .ref x]) hpo ho
  have e7 : (nI (t.2 p)).toInt8.toInt32 = nI (t.2 p) := byte7 _ (by omega)
  rw [e7] at htk
  rw [eX6_bubble]
  unfold bubP
  by_cases e1 : bu = 24
  · rw [if_pos e1]
    refine ⟨p, bu, ?_⟩
    simp (disch := first | assumption | omega | decide | rfl) only [pis_i, pis_l, pis_r, pis_n, p1_i, p1_r, p1_n, p1_u, pw0, pw1, pw2, pw3, pw4, pK_v, pK_0, pK_ite, if_true, if_false, if_pos, if_neg, Nat.reduceAdd, pok_r, i10, i01, Bool.true_or, Bool.or_true, Bool.and_true, Bool.true_and, Nat.add_sub_cancel, i1p1, i1p0, i0p1, i0p0, nIrem2, va_rf_s, bit1, bit0, pinT, pinLT, pin0, nIc, nIcL, nIlt, nIeq, nIltL, nILlt, nIeqL, nILeq, nIadL, nILad, nILmu, nI_add, nIsbL, nI_sub', decide_true, decide_false, Bool.false_or, Bool.or_false, rX6_bubble_0, rX6_bubble_1, rX6_bubble_2, rX6_bubble_5, rX6_bubble_7, rX6_bubble_10, rX6_bubble_11, rX6_bubble_14, rX6_bubble_15, rX6_bubble_18, rX6_bubble_20, rX6_bubble_21, rX6_bubble_22, rX6_bubble_23, rX6_bubble_23i, rX6_bubble_24, rX6_bubble_27, rX6_bubble_28, rX6_bubble_29, rX6_bubble_32, rX6_bubble_33, rX6_bubble_36, rX6_bubble_39, rX6_bubble_41, rX6_bubble_42, rX6_bubble_43, rX6_bubble_44, rX6_bubble_45, rX6_bubble_48, rX6_bubble_49, rX6_bubble_51, rX6_bubble_52, rX6_bubble_53, rX6_bubble_54, rX6_bubble_55, rX6_bubble_56, rX6_bubble_59, rX6_bubble_62, rX6_bubble_65, rX6_bubble_68, rX6_bubble_68i, rX6_bubble_69, rX6_bubble_70, rX6_bubble_73, rX6_bubble_74, rX6_bubble_75, rX6_bubble_78, rX6_bubble_79, rX6_bubble_80, rX6_bubble_83, rX6_bubble_86, rX6_bubble_89, rX6_bubble_89i, rX6_bubble_90, rX6_bubble_91, rX6_bubble_94, rX6_bubble_97, rX6_bubble_98, rX6_bubble_99, qCl, hF3, e1, ht0, pK_t]
    subst e1
    simp (disch := first | assumption | omega | decide | rfl) only [pis_i, pis_l, pis_r, pis_n, p1_i, p1_r, p1_n, p1_u, pw0, pw1, pw2, pw3, pw4, pK_v, pK_0, pK_ite, if_true, if_false, if_pos, if_neg, Nat.reduceAdd, pok_r, i10, i01, Bool.true_or, Bool.or_true, Bool.and_true, Bool.true_and, Nat.add_sub_cancel, i1p1, i1p0, i0p1, i0p0, nIrem2, va_rf_s, bit1, bit0, pinT, pinLT, pin0, nIc, nIcL, nIlt, nIeq, nIltL, nILlt, nIeqL, nILeq, nIadL, nILad, nILmu, nI_add, nIsbL, nI_sub', decide_true, decide_false, Bool.false_or, Bool.or_false, rX6_bubble_0, rX6_bubble_1, rX6_bubble_2, rX6_bubble_5, rX6_bubble_7, rX6_bubble_10, rX6_bubble_11, rX6_bubble_14, rX6_bubble_15, rX6_bubble_18, rX6_bubble_20, rX6_bubble_21, rX6_bubble_22, rX6_bubble_23, rX6_bubble_23i, rX6_bubble_24, rX6_bubble_27, rX6_bubble_28, rX6_bubble_29, rX6_bubble_32, rX6_bubble_33, rX6_bubble_36, rX6_bubble_39, rX6_bubble_41, rX6_bubble_42, rX6_bubble_43, rX6_bubble_44, rX6_bubble_45, rX6_bubble_48, rX6_bubble_49, rX6_bubble_51, rX6_bubble_52, rX6_bubble_53, rX6_bubble_54, rX6_bubble_55, rX6_bubble_56, rX6_bubble_59, rX6_bubble_62, rX6_bubble_65, rX6_bubble_68, rX6_bubble_68i, rX6_bubble_69, rX6_bubble_70, rX6_bubble_73, rX6_bubble_74, rX6_bubble_75, rX6_bubble_78, rX6_bubble_79, rX6_bubble_80, rX6_bubble_83, rX6_bubble_86, rX6_bubble_89, rX6_bubble_89i, rX6_bubble_90, rX6_bubble_91, rX6_bubble_94, rX6_bubble_97, rX6_bubble_98, rX6_bubble_99, qCl, hF3, ht0, pK_t]
  rw [if_neg e1]
  have hdg : ∀ (a bu : Nat), a < 1000 → pCa 173 (d + 9) [.ref o] (rq (h) o 6 (a) (dp) x [.int (nI (bu)), .int (nI (bl)), .ref x]) = if dg t a = true then some (.inl (some (.int 1)), (rq (h) o 6 (a) (dp) x [.int (nI (bu)), .int (nI (bl)), .ref x])) else some (.inl (some (.int 0)), (rq (h) o 6 (a) (dp) x [.int (nI (bu)), .int (nI (bl)), .ref x])) := fun a bu ha => kX5_isDigit (d := d + 8) hX hq0 hpo ha
  have hF0 : ∀ (h : pH) (a dp bu : Nat), pfl (rq (h) o 6 (a) (dp) x [.int (nI (bu)), .int (nI (bl)), .ref x]) 6 o 0 = .int (nI a) := fun h a dp bu => qF0 rfl
  have tail : ∀ (V Q : Nat), V < 1000 → p < Q → Q ≤ t.1 → bubV t p = V → bubQ t p = Q → (match (if V < 1 ∨ 30 < V then .inl (Q - 1) else if dg t Q = true then .inl Q else .inr (V, Q) : Nat ⊕ (Nat × Nat)) with
      | .inl w => ∃ a' bu', pR 182 (d + 10) 53 [.ref o, .int (nI V)] [] (rq (h) o 6 (Q) (dp) x [.int (nI (bu + 1)), .int (nI (bl)), .ref x]) = some (.inr h.2.1, (rq (pnw h (wr (nI w)) 7) o 6 (a') (dp) x [.int (nI (bu')), .int (nI (bl)), .ref x]))
      | .inr (v, q) => pR 182 (d + 10) 53 [.ref o, .int (nI V)] [] (rq (h) o 6 (Q) (dp) x [.int (nI (bu + 1)), .int (nI (bl)), .ref x]) = some (.inl (some (.int (nI v))), (rq (h) o 6 (q) (dp) x [.int (nI (bu + 1)), .int (nI (bl)), .ref x]))) := by
    intro V Q hV hQ hQ2 _ _
    by_cases e2 : V < 1
    · rw [if_pos (Or.inl e2)]
      refine ⟨Q, bu + 1, ?_⟩
      simp (disch := first | assumption | omega | decide | rfl | (refine kWd ?_; omega)) only [pis_i, pis_l, pis_r, pis_n, p1_i, p1_r, p1_n, p1_u, pw0, pw1, pw2, pw3, pw4, pK_v, pK_0, pK_ite, if_true, if_false, if_pos, if_neg, Nat.reduceAdd, pok_r, i10, i01, Bool.true_or, Bool.or_true, Bool.and_true, Bool.true_and, Nat.add_sub_cancel, i1p1, i1p0, i0p1, i0p0, nIrem2, va_rf_s, bit1, bit0, pinT, pinLT, pin0, nIc, nIcL, nIlt, nIeq, nIltL, nILlt, nIeqL, nILeq, nIadL, nILad, nILmu, nI_add, nIsbL, nI_sub', decide_true, decide_false, Bool.false_or, Bool.or_false, rX6_bubble_0, rX6_bubble_1, rX6_bubble_2, rX6_bubble_5, rX6_bubble_7, rX6_bubble_10, rX6_bubble_11, rX6_bubble_14, rX6_bubble_15, rX6_bubble_18, rX6_bubble_20, rX6_bubble_21, rX6_bubble_22, rX6_bubble_23, rX6_bubble_23i, rX6_bubble_24, rX6_bubble_27, rX6_bubble_28, rX6_bubble_29, rX6_bubble_32, rX6_bubble_33, rX6_bubble_36, rX6_bubble_39, rX6_bubble_41, rX6_bubble_42, rX6_bubble_43, rX6_bubble_44, rX6_bubble_45, rX6_bubble_48, rX6_bubble_49, rX6_bubble_51, rX6_bubble_52, rX6_bubble_53, rX6_bubble_54, rX6_bubble_55, rX6_bubble_56, rX6_bubble_59, rX6_bubble_62, rX6_bubble_65, rX6_bubble_68, rX6_bubble_68i, rX6_bubble_69, rX6_bubble_70, rX6_bubble_73, rX6_bubble_74, rX6_bubble_75, rX6_bubble_78, rX6_bubble_79, rX6_bubble_80, rX6_bubble_83, rX6_bubble_86, rX6_bubble_89, rX6_bubble_89i, rX6_bubble_90, rX6_bubble_91, rX6_bubble_94, rX6_bubble_97, rX6_bubble_98, rX6_bubble_99, kX1_isIn, iLltL, iLLlt, e2, rq_21, qO_pnw, hF0, kWc, kWr]
    · by_cases e3 : 30 < V
      · rw [if_pos (Or.inr e3)]
        refine ⟨Q, bu + 1, ?_⟩
        simp (disch := first | assumption | omega | decide | rfl | (refine kWd ?_; omega)) only [pis_i, pis_l, pis_r, pis_n, p1_i, p1_r, p1_n, p1_u, pw0, pw1, pw2, pw3, pw4, pK_v, pK_0, pK_ite, if_true, if_false, if_pos, if_neg, Nat.reduceAdd, pok_r, i10, i01, Bool.true_or, Bool.or_true, Bool.and_true, Bool.true_and, Nat.add_sub_cancel, i1p1, i1p0, i0p1, i0p0, nIrem2, va_rf_s, bit1, bit0, pinT, pinLT, pin0, nIc, nIcL, nIlt, nIeq, nIltL, nILlt, nIeqL, nILeq, nIadL, nILad, nILmu, nI_add, nIsbL, nI_sub', decide_true, decide_false, Bool.false_or, Bool.or_false, rX6_bubble_0, rX6_bubble_1, rX6_bubble_2, rX6_bubble_5, rX6_bubble_7, rX6_bubble_10, rX6_bubble_11, rX6_bubble_14, rX6_bubble_15, rX6_bubble_18, rX6_bubble_20, rX6_bubble_21, rX6_bubble_22, rX6_bubble_23, rX6_bubble_23i, rX6_bubble_24, rX6_bubble_27, rX6_bubble_28, rX6_bubble_29, rX6_bubble_32, rX6_bubble_33, rX6_bubble_36, rX6_bubble_39, rX6_bubble_41, rX6_bubble_42, rX6_bubble_43, rX6_bubble_44, rX6_bubble_45, rX6_bubble_48, rX6_bubble_49, rX6_bubble_51, rX6_bubble_52, rX6_bubble_53, rX6_bubble_54, rX6_bubble_55, rX6_bubble_56, rX6_bubble_59, rX6_bubble_62, rX6_bubble_65, rX6_bubble_68, rX6_bubble_68i, rX6_bubble_69, rX6_bubble_70, rX6_bubble_73, rX6_bubble_74, rX6_bubble_75, rX6_bubble_78, rX6_bubble_79, rX6_bubble_80, rX6_bubble_83, rX6_bubble_86, rX6_bubble_89, rX6_bubble_89i, rX6_bubble_90, rX6_bubble_91, rX6_bubble_94, rX6_bubble_97, rX6_bubble_98, rX6_bubble_99, kX1_isIn, iLltL, iLLlt, e2, e3, rq_21, qO_pnw, hF0, kWc, kWr]
      · rw [if_neg (by omega)]
        by_cases e4 : dg t Q = true
        · rw [if_pos e4]
          refine ⟨Q, bu + 1, ?_⟩
          simp (disch := first | assumption | omega | decide | rfl | (refine kWd ?_; omega)) only [pis_i, pis_l, pis_r, pis_n, p1_i, p1_r, p1_n, p1_u, pw0, pw1, pw2, pw3, pw4, pK_v, pK_0, pK_ite, if_true, if_false, if_pos, if_neg, Nat.reduceAdd, pok_r, i10, i01, Bool.true_or, Bool.or_true, Bool.and_true, Bool.true_and, Nat.add_sub_cancel, i1p1, i1p0, i0p1, i0p0, nIrem2, va_rf_s, bit1, bit0, pinT, pinLT, pin0, nIc, nIcL, nIlt, nIeq, nIltL, nILlt, nIeqL, nILeq, nIadL, nILad, nILmu, nI_add, nIsbL, nI_sub', decide_true, decide_false, Bool.false_or, Bool.or_false, rX6_bubble_0, rX6_bubble_1, rX6_bubble_2, rX6_bubble_5, rX6_bubble_7, rX6_bubble_10, rX6_bubble_11, rX6_bubble_14, rX6_bubble_15, rX6_bubble_18, rX6_bubble_20, rX6_bubble_21, rX6_bubble_22, rX6_bubble_23, rX6_bubble_23i, rX6_bubble_24, rX6_bubble_27, rX6_bubble_28, rX6_bubble_29, rX6_bubble_32, rX6_bubble_33, rX6_bubble_36, rX6_bubble_39, rX6_bubble_41, rX6_bubble_42, rX6_bubble_43, rX6_bubble_44, rX6_bubble_45, rX6_bubble_48, rX6_bubble_49, rX6_bubble_51, rX6_bubble_52, rX6_bubble_53, rX6_bubble_54, rX6_bubble_55, rX6_bubble_56, rX6_bubble_59, rX6_bubble_62, rX6_bubble_65, rX6_bubble_68, rX6_bubble_68i, rX6_bubble_69, rX6_bubble_70, rX6_bubble_73, rX6_bubble_74, rX6_bubble_75, rX6_bubble_78, rX6_bubble_79, rX6_bubble_80, rX6_bubble_83, rX6_bubble_86, rX6_bubble_89, rX6_bubble_89i, rX6_bubble_90, rX6_bubble_91, rX6_bubble_94, rX6_bubble_97, rX6_bubble_98, rX6_bubble_99, kX1_isIn, iLltL, iLLlt, e2, e3, qCl, hdg, e4, rq_21, qO_pnw, hF0, kWc, kWr]
        · rw [if_neg e4]
          simp (disch := first | assumption | omega | decide | rfl) only [pis_i, pis_l, pis_r, pis_n, p1_i, p1_r, p1_n, p1_u, pw0, pw1, pw2, pw3, pw4, pK_v, pK_0, pK_ite, if_true, if_false, if_pos, if_neg, Nat.reduceAdd, pok_r, i10, i01, Bool.true_or, Bool.or_true, Bool.and_true, Bool.true_and, Nat.add_sub_cancel, i1p1, i1p0, i0p1, i0p0, nIrem2, va_rf_s, bit1, bit0, pinT, pinLT, pin0, nIc, nIcL, nIlt, nIeq, nIltL, nILlt, nIeqL, nILeq, nIadL, nILad, nILmu, nI_add, nIsbL, nI_sub', decide_true, decide_false, Bool.false_or, Bool.or_false, rX6_bubble_0, rX6_bubble_1, rX6_bubble_2, rX6_bubble_5, rX6_bubble_7, rX6_bubble_10, rX6_bubble_11, rX6_bubble_14, rX6_bubble_15, rX6_bubble_18, rX6_bubble_20, rX6_bubble_21, rX6_bubble_22, rX6_bubble_23, rX6_bubble_23i, rX6_bubble_24, rX6_bubble_27, rX6_bubble_28, rX6_bubble_29, rX6_bubble_32, rX6_bubble_33, rX6_bubble_36, rX6_bubble_39, rX6_bubble_41, rX6_bubble_42, rX6_bubble_43, rX6_bubble_44, rX6_bubble_45, rX6_bubble_48, rX6_bubble_49, rX6_bubble_51, rX6_bubble_52, rX6_bubble_53, rX6_bubble_54, rX6_bubble_55, rX6_bubble_56, rX6_bubble_59, rX6_bubble_62, rX6_bubble_65, rX6_bubble_68, rX6_bubble_68i, rX6_bubble_69, rX6_bubble_70, rX6_bubble_73, rX6_bubble_74, rX6_bubble_75, rX6_bubble_78, rX6_bubble_79, rX6_bubble_80, rX6_bubble_83, rX6_bubble_86, rX6_bubble_89, rX6_bubble_89i, rX6_bubble_90, rX6_bubble_91, rX6_bubble_94, rX6_bubble_97, rX6_bubble_98, rX6_bubble_99, kX1_isIn, iLltL, iLLlt, e2, e3, qCl, hdg, e4]
  by_cases e5 : dg t (p + 1) = true
  · have h5 := inC_lt e5
    have e8 : (nI (t.2 (p + 1))).toInt8.toInt32 = nI (t.2 (p + 1)) := byte7 _ (by omega)
    have htk2 := kX5_take (d := d + 9) (dp := dp) (c := 6) (r := [.int (nI (bu + 1)), .int (nI bl), .ref x]) hX hq0 hpo h5.1
    rw [e8] at htk2
    have eV : bubV t p = 10 * (t.2 p - 48) + (t.2 (p + 1) - 48) := if_pos e5
    have eQ : bubQ t p = p + 2 := if_pos e5
    have := tail _ _ (by omega) (by omega) (by omega) eV eQ
    rw [eV, eQ]
    have go : pR 182 (d + 10) 0 [.ref o, pU] [] (rq (h) o 6 (p) (dp) x [.int (nI (bu)), .int (nI (bl)), .ref x]) = pR 182 (d + 10) 53 [.ref o, .int (nI (10 * (t.2 p - 48) + (t.2 (p + 1) - 48)))] [] (rq (h) o 6 (p + 2) (dp) x [.int (nI (bu + 1)), .int (nI (bl)), .ref x]) := by
      simp (disch := first | assumption | omega | decide | rfl) only [pis_i, pis_l, pis_r, pis_n, p1_i, p1_r, p1_n, p1_u, pw0, pw1, pw2, pw3, pw4, pK_v, pK_0, pK_ite, if_true, if_false, if_pos, if_neg, Nat.reduceAdd, pok_r, i10, i01, Bool.true_or, Bool.or_true, Bool.and_true, Bool.true_and, Nat.add_sub_cancel, i1p1, i1p0, i0p1, i0p0, nIrem2, va_rf_s, bit1, bit0, pinT, pinLT, pin0, nIc, nIcL, nIlt, nIeq, nIltL, nILlt, nIeqL, nILeq, nIadL, nILad, nILmu, nI_add, nIsbL, nI_sub', decide_true, decide_false, Bool.false_or, Bool.or_false, rX6_bubble_0, rX6_bubble_1, rX6_bubble_2, rX6_bubble_5, rX6_bubble_7, rX6_bubble_10, rX6_bubble_11, rX6_bubble_14, rX6_bubble_15, rX6_bubble_18, rX6_bubble_20, rX6_bubble_21, rX6_bubble_22, rX6_bubble_23, rX6_bubble_23i, rX6_bubble_24, rX6_bubble_27, rX6_bubble_28, rX6_bubble_29, rX6_bubble_32, rX6_bubble_33, rX6_bubble_36, rX6_bubble_39, rX6_bubble_41, rX6_bubble_42, rX6_bubble_43, rX6_bubble_44, rX6_bubble_45, rX6_bubble_48, rX6_bubble_49, rX6_bubble_51, rX6_bubble_52, qCl, hF3, htk, hP3, hdg, e5, htk2]
      rw [show 10 * (t.2 p - 48) + t.2 (p + 1) - 48 = 10 * (t.2 p - 48) + (t.2 (p + 1) - 48) by omega]
    rw [go]
    exact this
  · have eV : bubV t p = t.2 p - 48 := if_neg e5
    have eQ : bubQ t p = p + 1 := if_neg e5
    have := tail _ _ (by omega) (by omega) (by omega) eV eQ
    rw [eV, eQ]
    have go : pR 182 (d + 10) 0 [.ref o, pU] [] (rq (h) o 6 (p) (dp) x [.int (nI (bu)), .int (nI (bl)), .ref x]) = pR 182 (d + 10) 53 [.ref o, .int (nI (t.2 p - 48))] [] (rq (h) o 6 (p + 1) (dp) x [.int (nI (bu + 1)), .int (nI (bl)), .ref x]) := by
      simp (disch := first | assumption | omega | decide | rfl) only [pis_i, pis_l, pis_r, pis_n, p1_i, p1_r, p1_n, p1_u, pw0, pw1, pw2, pw3, pw4, pK_v, pK_0, pK_ite, if_true, if_false, if_pos, if_neg, Nat.reduceAdd, pok_r, i10, i01, Bool.true_or, Bool.or_true, Bool.and_true, Bool.true_and, Nat.add_sub_cancel, i1p1, i1p0, i0p1, i0p0, nIrem2, va_rf_s, bit1, bit0, pinT, pinLT, pin0, nIc, nIcL, nIlt, nIeq, nIltL, nILlt, nIeqL, nILeq, nIadL, nILad, nILmu, nI_add, nIsbL, nI_sub', decide_true, decide_false, Bool.false_or, Bool.or_false, rX6_bubble_0, rX6_bubble_1, rX6_bubble_2, rX6_bubble_5, rX6_bubble_7, rX6_bubble_10, rX6_bubble_11, rX6_bubble_14, rX6_bubble_15, rX6_bubble_18, rX6_bubble_20, rX6_bubble_21, rX6_bubble_22, rX6_bubble_23, rX6_bubble_23i, rX6_bubble_24, rX6_bubble_27, rX6_bubble_28, rX6_bubble_29, rX6_bubble_32, rX6_bubble_33, rX6_bubble_36, rX6_bubble_39, rX6_bubble_41, rX6_bubble_42, rX6_bubble_43, rX6_bubble_44, rX6_bubble_45, rX6_bubble_48, rX6_bubble_49, rX6_bubble_51, rX6_bubble_52, qCl, hF3, htk, hP3, hdg, e5]
    rw [go]
    exact this
end
