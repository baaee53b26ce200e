/-! RULES 5: the component's RuleReader: units of all levels, clauses -/
set_option maxRecDepth 100000
section
variable {h : pH} {o dp x d N p k : Nat} {t : Tp}
def CU (x o N : Nat) (t : Tp) (dp D : Nat) : Option ((Nat → QR Ts) × (Nat → QR Ts)) → Prop
  | none => dp = 6
  | some u => dp < 6 ∧ okQu t (some u) ∧ (∀ h p, RP h x o t N → p ≤ t.1 → oG TsAt t x o (dp + 1) h p (pCa 197 D [.ref o] (rq h o 13 p (dp + 1) x [.ref x])) (u.1 p)) ∧ ∀ h p, RP h x o t N → p ≤ t.1 → oG TsAt t x o (dp + 1) h p (pCa 195 D [.ref o, .null] (rq h o 13 p (dp + 1) x [.ref x])) (u.2 p)
theorem cmpP_ge {s : Sm} {q : Nat} (hq : q ≤ t.1) {y : Ts} {r : Nat} (e : cmpP t k s q = .inr (y, r)) : q ≤ r := by
  have s1 := skp_le (t := t) (a := q)
  unfold cmpP at e
  by_cases h1 : isCp t (skp t q) = true
  · rw [if_pos h1] at e
    have h9 := isCp_lt h1
    have hz := sm_ok (t := t) k (skp t q + 1) (by omega)
    generalize sm t k (skp t q + 1) = zz at hz e
    match zz, hz, e with
    | .inr (b, q'), hz, e =>
      cases e
      have := hz.1
      omega
  · rw [if_neg h1] at e
    cases e
theorem cmpP_le {s : Sm} {q : Nat} (hq : q ≤ t.1) {y : Ts} {r : Nat} (e : cmpP t k s q = .inr (y, r)) : r ≤ t.1 := by
  unfold cmpP at e
  by_cases h1 : isCp t (skp t q) = true
  · rw [if_pos h1] at e
    have h9 := isCp_lt h1
    have hz := sm_ok (t := t) k (skp t q + 1) (by omega)
    generalize sm t k (skp t q + 1) = zz at hz e
    match zz, hz, e with
    | .inr (b, q'), hz, e =>
      cases e
      exact hz.2.1
  · rw [if_neg h1] at e
    cases e
theorem kX5_comeOut {c a : Nat} {r : List Value} {H : pH} (hc : pok 5 c = true) (hd : dp < 100) : pCa 176 d [.ref o] (rq H o c a (dp + 1) x r) = some (.inl none, rq H o c a dp x r) := by
  rw [eX5_comeOut]
  simp (disch := first | assumption | omega | decide | rfl) only [pis_i, pis_l, pis_r, pis_n, p1_i, p1_r, p1_n, p1_u, pw0, pw1, pw2, pw3, pw4, pK_v, pK_0, pK_ite, if_true, if_false, if_pos, if_neg, Nat.reduceAdd, pok_r, i10, i01, Bool.true_or, Bool.or_true, Bool.and_true, Bool.true_and, Nat.add_sub_cancel, i1p1, i1p0, i0p1, i0p0, nIrem2, va_rf_s, bit1, bit0, pinT, pinLT, pin0, nIc, nIcL, nIlt, nIeq, nIltL, nILlt, nIeqL, nILeq, nIadL, nILad, nILmu, nI_add, nIsbL, nI_sub', decide_true, decide_false, Bool.false_or, Bool.or_false, rX5_comeOut_0, rX5_comeOut_1, rX5_comeOut_1i, rX5_comeOut_2, rX5_comeOut_5, rX5_comeOut_6, rX5_comeOut_7, rX5_comeOut_10, qF1 hc, qP1, Nat.add_sub_cancel]
theorem kX13_unit {U : Option ((Nat → QR Ts) × (Nat → QR Ts))} (hU : CU x o N t dp (d + 13) U) (hs1 : ∀ h p, RP h x o t N → p ≤ t.1 → oG SmAt t x o dp h p (pCa 198 (d + 13) [.ref o] (rq h o 13 p dp x [.ref x])) (sm t k p)) (hs2 : ∀ h p, RP h x o t N → p ≤ t.1 → oG SmAt t x o dp h p (pCa 198 (d + 12) [.ref o] (rq h o 13 p dp x [.ref x])) (sm t k p)) (hdp : dp < 100) (hR : RP h x o t N) (hp : p ≤ t.1) : oG TsAt t x o dp h p (pCa 197 (d + 14) [.ref o] (rq h o 13 p dp x [.ref x])) (untP U t k p) := by
  have hq0 : o ≠ x ∧ o ≠ x + 2 := ⟨hR.n0, hR.n2⟩
  have ho := hR.ol
  have ht := hR.X.k
  have ht1 := ht.1
  have hpo : pok 5 13 = true := rfl
  have hno : h.2.1 ≠ o := by omega
  have s1 := skp_le (t := t) (a := p)
  have s2 := skp_t hp
  have hlk := kX5_look (d := d + 12) (dp := dp) (c := 13) (r := [.ref x]) hR.X hq0 hpo hp
  have go : pCa 197 (d + 14) [.ref o] (rq h o 13 p dp x [.ref x]) = pR 197 (d + 14) 5 [.ref o, .int (hr t (skp t p)), pU] [] (rq h o 13 (skp t p) dp x [.ref x]) := by
    rw [eX13_unit]
    simp (disch := first | assumption | omega | decide | rfl) only [pis_i, pis_l, pis_r, pis_n, p1_i, p1_r, p1_n, p1_u, pw0, pw1, pw2, pw3, pw4, pK_v, pK_0, pK_ite, if_true, if_false, if_pos, if_neg, Nat.reduceAdd, pok_r, i10, i01, Bool.true_or, Bool.or_true, Bool.and_true, Bool.true_and, Nat.add_sub_cancel, i1p1, i1p0, i0p1, i0p0, nIrem2, va_rf_s, bit1, bit0, pinT, pinLT, pin0, nIc, nIcL, nIlt, nIeq, nIltL, nILlt, nIeqL, nILeq, nIadL, nILad, nILmu, nI_add, nIsbL, nI_sub', decide_true, decide_false, Bool.false_or, Bool.or_false, rX13_unit_0, rX13_unit_1, rX13_unit_4, qCl, hlk]
  rw [go]
  clear go hlk
  unfold untP
  by_cases h1 : isC t (skp t p) 33 = true
  · rw [if_pos h1]
    have h2 := isC_lt h1
    have e33 : hr t (skp t p) = 33 := by rw [hr_in h2.1, h2.2]; rfl
    rw [e33]
    cases U with
    | none =>
      refine ⟨h.2.1, pnw h (wr (nI (skp t p))) 7, skp t p, dp, ?_, (Fr.nw (by decide)).wk (by omega), pnw_same, by omega⟩
      have hg := kX5_goIn0 (d := d + 4) (p := skp t p) (c := 13) (r := [.ref x]) hR hpo hU
      simp (disch := first | assumption | omega | decide | rfl) only [pis_i, pis_l, pis_r, pis_n, p1_i, p1_r, p1_n, p1_u, pw0, pw1, pw2, pw3, pw4, pK_v, pK_0, pK_ite, if_true, if_false, if_pos, if_neg, Nat.reduceAdd, pok_r, i10, i01, Bool.true_or, Bool.or_true, Bool.and_true, Bool.true_and, Nat.add_sub_cancel, i1p1, i1p0, i0p1, i0p0, nIrem2, va_rf_s, bit1, bit0, pinT, pinLT, pin0, nIc, nIcL, nIlt, nIeq, nIltL, nILlt, nIeqL, nILeq, nIadL, nILad, nILmu, nI_add, nIsbL, nI_sub', decide_true, decide_false, Bool.false_or, Bool.or_false, rX13_unit_5, rX13_unit_6, rX13_unit_8, rX13_unit_11, rX13_unit_12, rX13_unit_15, rX13_unit_18, rX13_unit_18i, rX13_unit_19, rX13_unit_20, rX13_unit_23, rX13_unit_26, rX13_unit_26n, rX13_unit_27, rX13_unit_28, rX13_unit_31, rX13_unit_31n, rX13_unit_32, qCl, hg, pK_t]
    | some u =>
      obtain ⟨hd, hok, hU1, hU2⟩ := hU
      have hg := kX5_goIn (d := d + 4) (p := skp t p) (c := 13) (r := [.ref x]) hR hpo h2.1 hd
      have hf1 : Fr h (pnw h (.inr (15, [.null])) 1) 1 := Fr.nw (by decide)
      have hin := hU1 _ (skp t p + 1) (hR.fr hf1) (by omega)
      have hokp := hok.1 (skp t p + 1) (by omega)
      have go : pR 197 (d + 14) 5 [.ref o, .int 33, pU] [] (rq h o 13 (skp t p) dp x [.ref x]) = pK 197 (d + 14) 20 3 [.ref o, .int 33, pU] [.ref h.2.1, .ref h.2.1] (pCa 197 (d + 13) [.ref o] (rq (pnw h (.inr (15, [.null])) 1) o 13 (skp t p + 1) (dp + 1) x [.ref x])) := by
        simp (disch := first | assumption | omega | decide | rfl) only [pis_i, pis_l, pis_r, pis_n, p1_i, p1_r, p1_n, p1_u, pw0, pw1, pw2, pw3, pw4, pK_v, pK_0, pK_ite, if_true, if_false, if_pos, if_neg, Nat.reduceAdd, pok_r, i10, i01, Bool.true_or, Bool.or_true, Bool.and_true, Bool.true_and, Nat.add_sub_cancel, i1p1, i1p0, i0p1, i0p0, nIrem2, va_rf_s, bit1, bit0, pinT, pinLT, pin0, nIc, nIcL, nIlt, nIeq, nIltL, nILlt, nIeqL, nILeq, nIadL, nILad, nILmu, nI_add, nIsbL, nI_sub', decide_true, decide_false, Bool.false_or, Bool.or_false, rX13_unit_5, rX13_unit_6, rX13_unit_8, rX13_unit_11, rX13_unit_12, rX13_unit_15, rX13_unit_18, rX13_unit_18i, rX13_unit_19, rX13_unit_20, qCl, hg, rq_21, qO_pnw]
      rw [go]
      show oG TsAt t x o dp h p _ (match u.1 (skp t p + 1) with | .inl w => .inl w | .inr (y, q) => .inr (.no y, q))
      generalize u.1 (skp t p + 1) = z at hin hokp
      match z, hin, hokp with
      | .inl w, ⟨e, h', a', dp', q1, q2, q3, q4⟩, _ =>
        refine ⟨e, h', a', dp', ?_, (hf1.tr q2).wk (by omega), q3, q4⟩
        rw [q1, pK_t rfl]
      | .inr (y, q), ⟨a1, h1', q1, q2, q3⟩, ⟨k1, k2, k3, k4⟩ =>
        have hcell : h1'.1 h.2.1 = some (.inr (15, [.null])) := by rw [q2.2.2.2 h.2.1 (Nat.lt_succ_self _)]; exact pnw_same
        have hg1 : h.2.1 + 1 ≤ h1'.2.1 := q2.1
        have fr2 := (hf1.tr q2).pup (q := h.2.1) (z := .inr (15, [.ref a1])) (Nat.le_refl _)
        have e1 : rq h1' o 13 q (dp + 1) x [.ref x] = rq (pup h1' h.2.1 (.inr (15, [.null]))) o 13 q (dp + 1) x [.ref x] := by rw [pup_id hcell]
        refine ⟨h.2.1, pup h1' h.2.1 (.inr (15, [.ref a1])), ?_, fr2.wk (by omega), ?_⟩
        · rw [q1, e1]
          have hco := kX5_comeOut (d := d + 13) (o := o) (c := 13) (a := q) (dp := dp) (x := x) (r := [.ref x]) (H := pup h1' h.2.1 (.inr (15, [.ref a1]))) hpo hdp
          simp (disch := first | assumption | omega | decide | rfl) only [pis_i, pis_l, pis_r, pis_n, p1_i, p1_r, p1_n, p1_u, pw0, pw1, pw2, pw3, pw4, pK_v, pK_0, pK_ite, if_true, if_false, if_pos, if_neg, Nat.reduceAdd, pok_r, i10, i01, Bool.true_or, Bool.or_true, Bool.and_true, Bool.true_and, Nat.add_sub_cancel, i1p1, i1p0, i0p1, i0p0, nIrem2, va_rf_s, bit1, bit0, pinT, pinLT, pin0, nIc, nIcL, nIlt, nIeq, nIltL, nILlt, nIeqL, nILeq, nIadL, nILad, nILmu, nI_add, nIsbL, nI_sub', decide_true, decide_false, Bool.false_or, Bool.or_false, rX13_unit_23, rX13_unit_26, rX13_unit_26n, rX13_unit_27, rX13_unit_28, rX13_unit_31, rX13_unit_31n, rX13_unit_32, qO_pcl hno, pcl_pup, kX15_init hno, qCl, hco]
        · intro h2' g2
          refine ⟨a1, ?_, q3 h2' (fun z z1 z2 => ?_)⟩
          · rw [g2 h.2.1 (Nat.le_refl _) (by show h.2.1 < h1'.2.1; omega)]; exact pup_same
          · have z1 : h.2.1 + 1 ≤ z := z1
            rw [g2 z (by omega) z2, pup_ne (by omega)]
  rw [if_neg h1]
  by_cases h2 : isC t (skp t p) 40 = true
  · rw [if_pos h2]
    have h3 := isC_lt h2
    have e40 : hr t (skp t p) = 40 := by rw [hr_in h3.1, h3.2]; rfl
    rw [e40]
    cases U with
    | none =>
      refine ⟨h.2.1, pnw h (wr (nI (skp t p))) 7, skp t p, dp, ?_, (Fr.nw (by decide)).wk (by omega), pnw_same, by omega⟩
      have hg := kX5_goIn0 (d := d + 4) (p := skp t p) (c := 13) (r := [.ref x]) hR hpo hU
      simp (disch := first | assumption | omega | decide | rfl) only [pis_i, pis_l, pis_r, pis_n, p1_i, p1_r, p1_n, p1_u, pw0, pw1, pw2, pw3, pw4, pK_v, pK_0, pK_ite, if_true, if_false, if_pos, if_neg, Nat.reduceAdd, pok_r, i10, i01, Bool.true_or, Bool.or_true, Bool.and_true, Bool.true_and, Nat.add_sub_cancel, i1p1, i1p0, i0p1, i0p0, nIrem2, va_rf_s, bit1, bit0, pinT, pinLT, pin0, nIc, nIcL, nIlt, nIeq, nIltL, nILlt, nIeqL, nILeq, nIadL, nILad, nILmu, nI_add, nIsbL, nI_sub', decide_true, decide_false, Bool.false_or, Bool.or_false, rX13_unit_5, rX13_unit_6, rX13_unit_8, rX13_unit_11, rX13_unit_12, rX13_unit_15, rX13_unit_18, rX13_unit_18i, rX13_unit_19, rX13_unit_20, rX13_unit_23, rX13_unit_26, rX13_unit_26n, rX13_unit_27, rX13_unit_28, rX13_unit_31, rX13_unit_31n, rX13_unit_32, rX13_unit_33, rX13_unit_34, rX13_unit_36, rX13_unit_39, rX13_unit_40, rX13_unit_43, rX13_unit_44, rX13_unit_45, rX13_unit_48, rX13_unit_48n, rX13_unit_49, rX13_unit_50, rX13_unit_52, rX13_unit_55, rX13_unit_55n, rX13_unit_56, qCl, hg, pK_t]
    | some u =>
      obtain ⟨hd, hok, hU1, hU2⟩ := hU
      have hg := kX5_goIn (d := d + 4) (p := skp t p) (c := 13) (r := [.ref x]) hR hpo h3.1 hd
      have hin := hU2 h (skp t p + 1) hR (by omega)
      have hokp := hok.2 (skp t p + 1) (by omega)
      show oG TsAt t x o dp h p _ (match u.2 (skp t p + 1) with | .inl w => .inl w | .inr (y, q) => if isC t (skp t q) 41 = true then .inr (y, skp t q + 1) else .inl (skp t q))
      generalize u.2 (skp t p + 1) = z at hin hokp
      match z, hin, hokp with
      | .inl w, ⟨e, h', a', dp', q1, q2, q3, q4⟩, _ =>
        refine ⟨e, h', a', dp', ?_, q2.wk (by omega), q3, q4⟩
        simp (disch := first | assumption | omega | decide | rfl) only [pis_i, pis_l, pis_r, pis_n, p1_i, p1_r, p1_n, p1_u, pw0, pw1, pw2, pw3, pw4, pK_v, pK_0, pK_ite, if_true, if_false, if_pos, if_neg, Nat.reduceAdd, pok_r, i10, i01, Bool.true_or, Bool.or_true, Bool.and_true, Bool.true_and, Nat.add_sub_cancel, i1p1, i1p0, i0p1, i0p0, nIrem2, va_rf_s, bit1, bit0, pinT, pinLT, pin0, nIc, nIcL, nIlt, nIeq, nIltL, nILlt, nIeqL, nILeq, nIadL, nILad, nILmu, nI_add, nIsbL, nI_sub', decide_true, decide_false, Bool.false_or, Bool.or_false, rX13_unit_5, rX13_unit_6, rX13_unit_8, rX13_unit_11, rX13_unit_12, rX13_unit_15, rX13_unit_18, rX13_unit_18i, rX13_unit_19, rX13_unit_20, rX13_unit_23, rX13_unit_26, rX13_unit_26n, rX13_unit_27, rX13_unit_28, rX13_unit_31, rX13_unit_31n, rX13_unit_32, rX13_unit_33, rX13_unit_34, rX13_unit_36, rX13_unit_39, rX13_unit_40, rX13_unit_43, rX13_unit_44, rX13_unit_45, rX13_unit_48, rX13_unit_48n, rX13_unit_49, rX13_unit_50, rX13_unit_52, rX13_unit_55, rX13_unit_55n, rX13_unit_56, qCl, hg, q1, pK_t]
      | .inr (y, q), ⟨a, h', q1, q2, q3⟩, ⟨k1, k2, k3, k4⟩ =>
        have hR' := hR.fr q2
        have ho' := hR'.ol
        have s3 := skp_le (t := t) (a := q)
        have s4 := skp_t k2
        show oG TsAt t x o dp h p _ (if isC t (skp t q) 41 = true then _ else _)
        by_cases h6 : isC t (skp t q) 41 = true
        · rw [if_pos h6]
          have h7 := isC_lt h6
          have hgo := kX5_goOut (d := d + 4) (dp := dp) (c := 13) (r := [.ref x]) hR' hpo k2 (show 41 < 256 by decide) (by omega) h6
          refine ⟨a, h', ?_, q2.wk (by omega), q3⟩
          simp (disch := first | assumption | omega | decide | rfl) only [pis_i, pis_l, pis_r, pis_n, p1_i, p1_r, p1_n, p1_u, pw0, pw1, pw2, pw3, pw4, pK_v, pK_0, pK_ite, if_true, if_false, if_pos, if_neg, Nat.reduceAdd, pok_r, i10, i01, Bool.true_or, Bool.or_true, Bool.and_true, Bool.true_and, Nat.add_sub_cancel, i1p1, i1p0, i0p1, i0p0, nIrem2, va_rf_s, bit1, bit0, pinT, pinLT, pin0, nIc, nIcL, nIlt, nIeq, nIltL, nILlt, nIeqL, nILeq, nIadL, nILad, nILmu, nI_add, nIsbL, nI_sub', decide_true, decide_false, Bool.false_or, Bool.or_false, rX13_unit_5, rX13_unit_6, rX13_unit_8, rX13_unit_11, rX13_unit_12, rX13_unit_15, rX13_unit_18, rX13_unit_18i, rX13_unit_19, rX13_unit_20, rX13_unit_23, rX13_unit_26, rX13_unit_26n, rX13_unit_27, rX13_unit_28, rX13_unit_31, rX13_unit_31n, rX13_unit_32, rX13_unit_33, rX13_unit_34, rX13_unit_36, rX13_unit_39, rX13_unit_40, rX13_unit_43, rX13_unit_44, rX13_unit_45, rX13_unit_48, rX13_unit_48n, rX13_unit_49, rX13_unit_50, rX13_unit_52, rX13_unit_55, rX13_unit_55n, rX13_unit_56, qCl, hg, q1, show (41 : Int32) = nI 41 from rfl, hgo]
        · rw [if_neg h6]
          have hgo := kX5_goOut0 (d := d + 4) (dp := dp + 1) (c := 13) (r := [.ref x]) hR' hpo k2 (show 41 < 256 by decide) h6
          refine ⟨h'.2.1, pnw h' (wr (nI (skp t q))) 7, skp t q, dp + 1, ?_, (q2.tr (Fr.nw (by decide))).wk (by omega), pnw_same, by omega⟩
          simp (disch := first | assumption | omega | decide | rfl) only [pis_i, pis_l, pis_r, pis_n, p1_i, p1_r, p1_n, p1_u, pw0, pw1, pw2, pw3, pw4, pK_v, pK_0, pK_ite, if_true, if_false, if_pos, if_neg, Nat.reduceAdd, pok_r, i10, i01, Bool.true_or, Bool.or_true, Bool.and_true, Bool.true_and, Nat.add_sub_cancel, i1p1, i1p0, i0p1, i0p0, nIrem2, va_rf_s, bit1, bit0, pinT, pinLT, pin0, nIc, nIcL, nIlt, nIeq, nIltL, nILlt, nIeqL, nILeq, nIadL, nILad, nILmu, nI_add, nIsbL, nI_sub', decide_true, decide_false, Bool.false_or, Bool.or_false, rX13_unit_5, rX13_unit_6, rX13_unit_8, rX13_unit_11, rX13_unit_12, rX13_unit_15, rX13_unit_18, rX13_unit_18i, rX13_unit_19, rX13_unit_20, rX13_unit_23, rX13_unit_26, rX13_unit_26n, rX13_unit_27, rX13_unit_28, rX13_unit_31, rX13_unit_31n, rX13_unit_32, rX13_unit_33, rX13_unit_34, rX13_unit_36, rX13_unit_39, rX13_unit_40, rX13_unit_43, rX13_unit_44, rX13_unit_45, rX13_unit_48, rX13_unit_48n, rX13_unit_49, rX13_unit_50, rX13_unit_52, rX13_unit_55, rX13_unit_55n, rX13_unit_56, qCl, hg, q1, show (41 : Int32) = nI 41 from rfl, hgo, pK_t]
  rw [if_neg h2]
  have hin := hs1 h (skp t p) hR s2
  have hokp := sm_ok (t := t) k (skp t p) s2
  have go : pR 197 (d + 14) 5 [.ref o, .int (hr t (skp t p)), pU] [] (rq h o 13 (skp t p) dp x [.ref x]) = pK 197 (d + 14) 59 3 [.ref o, .int (hr t (skp t p)), pU] [.ref o] (pCa 198 (d + 13) [.ref o] (rq h o 13 (skp t p) dp x [.ref x])) := by
    simp (disch := first | assumption | omega | decide | rfl) only [pis_i, pis_l, pis_r, pis_n, p1_i, p1_r, p1_n, p1_u, pw0, pw1, pw2, pw3, pw4, pK_v, pK_0, pK_ite, if_true, if_false, if_pos, if_neg, Nat.reduceAdd, pok_r, i10, i01, Bool.true_or, Bool.or_true, Bool.and_true, Bool.true_and, Nat.add_sub_cancel, i1p1, i1p0, i0p1, i0p0, nIrem2, va_rf_s, bit1, bit0, pinT, pinLT, pin0, nIc, nIcL, nIlt, nIeq, nIltL, nILlt, nIeqL, nILeq, nIadL, nILad, nILmu, nI_add, nIsbL, nI_sub', decide_true, decide_false, Bool.false_or, Bool.or_false, rX13_unit_5, rX13_unit_6, rX13_unit_8, rX13_unit_11, rX13_unit_12, rX13_unit_15, rX13_unit_18, rX13_unit_18i, rX13_unit_19, rX13_unit_20, rX13_unit_23, rX13_unit_26, rX13_unit_26n, rX13_unit_27, rX13_unit_28, rX13_unit_31, rX13_unit_31n, rX13_unit_32, rX13_unit_33, rX13_unit_34, rX13_unit_36, rX13_unit_39, rX13_unit_40, rX13_unit_43, rX13_unit_44, rX13_unit_45, rX13_unit_48, rX13_unit_48n, rX13_unit_49, rX13_unit_50, rX13_unit_52, rX13_unit_55, rX13_unit_55n, rX13_unit_56, rX13_unit_57, rX13_unit_58, rX13_unit_59, hr_eq ht, h1, h2, qCl]
  rw [go]
  generalize sm t k (skp t p) = z at hin hokp
  match z, hin, hokp with
  | .inl w, ⟨e, h', a', dp', q1, q2, q3, q4⟩, _ =>
    refine ⟨e, h', a', dp', ?_, q2.wk (by omega), q3, q4⟩
    rw [q1, pK_t rfl]
  | .inr (s, q), ⟨a, h', q1, q2, q3⟩, ⟨k1, k2, k3, k4⟩ =>
    have hR' := hR.fr q2
    have hc := kX13_compares (d := d + 1) (lo := h.2.1) hs2 hR' q2.1 k2 q3
    rw [q1]
    show oG TsAt t x o dp h p _ (cmpP t k s q)
    have hcg : ∀ y r, cmpP t k s q = .inr (y, r) → q ≤ r := fun y r e => cmpP_ge k2 e
    generalize cmpP t k s q = y at hc hcg
    have go2 : ∀ R, pCa 201 (d + 13) [.ref o, .ref a] (rq h' o 13 q dp x [.ref x]) = R → (∀ e H, R = some (.inr e, H) → pK 197 (d + 14) 59 3 [.ref o, .int (hr t (skp t p)), pU] [.ref o] (some (.inl (some (.ref a)), rq h' o 13 q dp x [.ref x])) = some (.inr e, H)) ∧ ∀ b H, R = some (.inl (some (.ref b)), H) → pK 197 (d + 14) 59 3 [.ref o, .int (hr t (skp t p)), pU] [.ref o] (some (.inl (some (.ref a)), rq h' o 13 q dp x [.ref x])) = some (.inl (some (.ref b)), H) := by
      intro R hR
      constructor
      · intro e H q; rw [q] at hR; simp (disch := first | assumption | omega | decide | rfl) only [pis_i, pis_l, pis_r, pis_n, p1_i, p1_r, p1_n, p1_u, pw0, pw1, pw2, pw3, pw4, pK_v, pK_0, pK_ite, if_true, if_false, if_pos, if_neg, Nat.reduceAdd, pok_r, i10, i01, Bool.true_or, Bool.or_true, Bool.and_true, Bool.true_and, Nat.add_sub_cancel, i1p1, i1p0, i0p1, i0p0, nIrem2, va_rf_s, bit1, bit0, pinT, pinLT, pin0, nIc, nIcL, nIlt, nIeq, nIltL, nILlt, nIeqL, nILeq, nIadL, nILad, nILmu, nI_add, nIsbL, nI_sub', decide_true, decide_false, Bool.false_or, Bool.or_false, rX13_unit_59, rX13_unit_62, rX13_unit_65, qCl, hR, pK_t]
      · intro b H q; rw [q] at hR; simp (disch := first | assumption | omega | decide | rfl) only [pis_i, pis_l, pis_r, pis_n, p1_i, p1_r, p1_n, p1_u, pw0, pw1, pw2, pw3, pw4, pK_v, pK_0, pK_ite, if_true, if_false, if_pos, if_neg, Nat.reduceAdd, pok_r, i10, i01, Bool.true_or, Bool.or_true, Bool.and_true, Bool.true_and, Nat.add_sub_cancel, i1p1, i1p0, i0p1, i0p0, nIrem2, va_rf_s, bit1, bit0, pinT, pinLT, pin0, nIc, nIcL, nIlt, nIeq, nIltL, nILlt, nIeqL, nILeq, nIadL, nILad, nILmu, nI_add, nIsbL, nI_sub', decide_true, decide_false, Bool.false_or, Bool.or_false, rX13_unit_59, rX13_unit_62, rX13_unit_65, qCl, hR]
    match y, hc, hcg with
    | .inl w, ⟨e, h2', a', dp', r1, r2, r3, r4⟩, _ => exact ⟨e, h2', a', dp', (go2 _ r1).1 _ _ rfl, (q2.tr r2).wk (by omega), r3, r4⟩
    | .inr (y, r), ⟨a2, h2', r1, r2, r3⟩, hcg =>
      have := hcg y r rfl
      exact ⟨a2, h2', (go2 _ r1).2 _ _ rfl, (q2.tr r2).wk (by omega), r3⟩
theorem kX13_ut : ∀ k, k ≤ 6 → (∀ d h p, RP h x o t N → p ≤ t.1 → oG TsAt t x o (6 - k) h p (pCa 197 (d + 15 + 3 * k) [.ref o] (rq h o 13 p (6 - k) x [.ref x])) ((ut t k).1 p)) ∧ ∀ d h p, RP h x o t N → p ≤ t.1 → oG TsAt t x o (6 - k) h p (pCa 195 (d + 17 + 3 * k) [.ref o, .null] (rq h o 13 p (6 - k) x [.ref x])) ((ut t k).2 p) := by
  intro k
  induction k with
  | zero =>
    intro _
    have hu : ∀ d h p, RP h x o t N → p ≤ t.1 → oG TsAt t x o 6 h p (pCa 197 (d + 15) [.ref o] (rq h o 13 p 6 x [.ref x])) (untP none t 0 p) := fun d h p hR hp => kX13_unit (d := d + 1) (U := none) (k := 0) rfl (fun h p hR hp => kX13_sm 0 (by decide) (d + 1) h p hR hp) (fun h p hR hp => kX13_sm 0 (by decide) d h p hR hp) (by decide) hR hp
    refine ⟨hu, fun d h p hR hp => ?_⟩
    exact kX13_conditionn (d := d + 4) (u := untP none t 0) (fun h p hR hp => hu d h p hR hp) (fun p hp => untP_ok (U := none) trivial hp) hR hp
  | succ k ih =>
    intro hk
    obtain ⟨i1, i2⟩ := ih (by omega)
    have hu : ∀ d h p, RP h x o t N → p ≤ t.1 → oG TsAt t x o (6 - (k + 1)) h p (pCa 197 (d + 15 + 3 * (k + 1)) [.ref o] (rq h o 13 p (6 - (k + 1)) x [.ref x])) (untP (some (ut t k)) t (k + 1) p) := by
      intro d h p hR hp
      rw [show d + 15 + 3 * (k + 1) = (d + 1 + 3 * (k + 1)) + 14 by omega]
      refine kX13_unit (U := some (ut t k)) (k := k + 1) ⟨by omega, ut_ok k, fun h p hR hp => ?_, fun h p hR hp => ?_⟩ (fun h p hR hp => ?_) (fun h p hR hp => ?_) (by omega) hR hp
      · have := i1 (d + 2) h p hR hp
        rw [show 6 - (k + 1) + 1 = 6 - k by omega, show d + 1 + 3 * (k + 1) + 13 = d + 2 + 15 + 3 * k by omega]
        exact this
      · have := i2 d h p hR hp
        rw [show 6 - (k + 1) + 1 = 6 - k by omega, show d + 1 + 3 * (k + 1) + 13 = d + 17 + 3 * k by omega]
        exact this
      · have := kX13_sm (k + 1) hk (d + 1) h p hR hp
        rw [show d + 1 + 3 * (k + 1) + 13 = d + 1 + 13 + 3 * (k + 1) by omega]
        exact this
      · have := kX13_sm (k + 1) hk d h p hR hp
        rw [show d + 1 + 3 * (k + 1) + 12 = d + 13 + 3 * (k + 1) by omega]
        exact this
    refine ⟨hu, fun d h p hR hp => ?_⟩
    rw [show d + 17 + 3 * (k + 1) = (d + 4 + 3 * (k + 1)) + 13 by omega]
    refine kX13_conditionn (u := untP (some (ut t k)) t (k + 1)) (fun h p hR hp => ?_) (fun p hp => untP_ok (U := some (ut t k)) (ut_ok k) hp) hR hp
    have := hu d h p hR hp
    rw [show d + 4 + 3 * (k + 1) + 11 = d + 15 + 3 * (k + 1) by omega]
    exact this
end
