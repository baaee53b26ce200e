/-! READING 10: the component's fault of a figure -/
set_option maxRecDepth 100000
def ansF : PR Mv → Int32
  | .inl w => nI w
  | .inr _ => -1
section
variable {h : pH} {x d G n : Nat} {X : XS} {t : Tp}
theorem x_fault_f {v : Int32} (hv : v < 0 ∨ 1 < v) : pCa 11 (d + 1) [.ref x, .int v] (xput h x X) = some (.inl (some (.int (-2))), xput h x X) := by
  rw [eX1_fault]
  rcases hv with h0 | h1
  · simp (disch := first | omega | decide) only [pis_i, pis_l, pis_r, pis_n, p1_i, p1_r, p1_n, p1_u, pw0, pw1, pw2, pw3, pw4, pK_v, pK_0, pK_ite, if_true, if_false, if_pos, if_neg, Nat.reduceAdd, pok_r, i10, i01, Bool.true_or, Bool.or_true, Bool.and_true, Bool.true_and, Nat.add_sub_cancel, i1p1, i1p0, i0p1, i0p0, nIrem2, va_rf_s, bit1, bit0, pinT, pinLT, pin0, nIc, nIcL, nIlt, nIeq, nIltL, nILlt, nIeqL, nILeq, nIadL, nILad, nILmu, nI_add, nIsbL, nI_sub', decide_true, decide_false, Bool.false_or, Bool.or_false, rX1_fault_0, rX1_fault_1, rX1_fault_2, rX1_fault_3, rX1_fault_4, rX1_fault_7, rX1_fault_10, rX1_fault_12, kX1_isIn, iL_l0, iLLlt, h0]
  · by_cases h0 : v < 0
    · simp (disch := first | omega | decide) only [pis_i, pis_l, pis_r, pis_n, p1_i, p1_r, p1_n, p1_u, pw0, pw1, pw2, pw3, pw4, pK_v, pK_0, pK_ite, if_true, if_false, if_pos, if_neg, Nat.reduceAdd, pok_r, i10, i01, Bool.true_or, Bool.or_true, Bool.and_true, Bool.true_and, Nat.add_sub_cancel, i1p1, i1p0, i0p1, i0p0, nIrem2, va_rf_s, bit1, bit0, pinT, pinLT, pin0, nIc, nIcL, nIlt, nIeq, nIltL, nILlt, nIeqL, nILeq, nIadL, nILad, nILmu, nI_add, nIsbL, nI_sub', decide_true, decide_false, Bool.false_or, Bool.or_false, rX1_fault_0, rX1_fault_1, rX1_fault_2, rX1_fault_3, rX1_fault_4, rX1_fault_7, rX1_fault_10, rX1_fault_12, kX1_isIn, iL_l0, iLLlt, h0]
    · simp (disch := first | omega | decide) only [pis_i, pis_l, pis_r, pis_n, p1_i, p1_r, p1_n, p1_u, pw0, pw1, pw2, pw3, pw4, pK_v, pK_0, pK_ite, if_true, if_false, if_pos, if_neg, Nat.reduceAdd, pok_r, i10, i01, Bool.true_or, Bool.or_true, Bool.and_true, Bool.true_and, Nat.add_sub_cancel, i1p1, i1p0, i0p1, i0p0, nIrem2, va_rf_s, bit1, bit0, pinT, pinLT, pin0, nIc, nIcL, nIlt, nIeq, nIltL, nILlt, nIeqL, nILeq, nIadL, nILad, nILmu, nI_add, nIsbL, nI_sub', decide_true, decide_false, Bool.false_or, Bool.or_false, rX1_fault_0, rX1_fault_1, rX1_fault_2, rX1_fault_3, rX1_fault_4, rX1_fault_7, rX1_fault_10, rX1_fault_12, kX1_isIn, iL_l0, iLLlt, h0, h1]
theorem x_fault0 (hN : X.1 1 = nI n) (hn : n ≤ 6) (hT : XTp X t) (ht : t.1 ≤ 200) (hx : x + 14 ≤ h.2.1) : ∃ h', pCa 11 (d + 40) [.ref x, .int 0] (xput h x X) = some (.inl (some (.int (ansF (pfig t n)))), xput h' x X) ∧ Gw x h h' := by
  let h1 : pH := pnw (xput h x X) (.inr (6, [.int 0, .int 0, .ref x, .int 0, .int 0, .ref x])) 6
  have h11 : h1.2.1 = h.2.1 + 1 := rfl
  have h12 : h1.2.2 = h.2.2 + 6 := rfl
  have h1o : ∀ q, q < h.2.1 → h1.1 q = (xput h x X).1 q := fun q hq => by show (pnw (xput h x X) _ 6).1 q = _; rw [pnw_ne (by show q ≠ h.2.1; omega)]
  have hR : RP h1 x h.2.1 t n := ⟨(XT_x (h := h) hT ht hN hn).fr (h1o x (by omega)) (h1o (x + 2) (by omega)), by omega, by omega, by omega, by omega⟩
  have hw := kX6_whole (d := d + 8) hR
  have hpo := pfig_ok (t := t) (N := n) (Nat.zero_le _)
  rw [eX1_fault]
  have hcx : pcl (pnw (xput h x X) (.inr (6, [.int 0, .int 0, .null, .int 0, .int 0, .null])) 6) h.2.1 = 6 := pcl_pnw (h := xput h x X)
  have hcx2 : pcl (pnw (xput h x X) (.inr (6, [.int 0, .int 0, .ref x, .int 0, .int 0, .ref x])) 6) h.2.1 = 6 := pcl_pnw (h := xput h x X)
  have hps : psf (psf (pnw (xput h x X) (.inr (6, [.int 0, .int 0, .null, .int 0, .int 0, .null])) 6) h.2.1 5 (.ref x)) h.2.1 2 (.ref x) = pnw (xput h x X) (.inr (6, [.int 0, .int 0, .ref x, .int 0, .int 0, .ref x])) 6 := by
    have e1 : psf (pnw (xput h x X) (.inr (6, [.int 0, .int 0, .null, .int 0, .int 0, .null])) 6) h.2.1 5 (.ref x) = pnw (xput h x X) (.inr (6, [.int 0, .int 0, .null, .int 0, .int 0, .ref x])) 6 := psf_pnw (h := xput h x X)
    rw [e1]
    exact psf_pnw (h := xput h x X)
  have go : pR 11 (d + 40) 0 [.ref x, .int 0, pU] [] (xput h x X) = pK 11 (d + 40) 25 3 [.ref x, .int 0, pU] [] (pCa 177 (d + 39) [.ref h.2.1] (rq h1 h.2.1 6 0 0 x [.int (nI 0), .int (nI 0), .ref x])) := by
    have := rq_nw (g := xput h x X) (x := x)
    show _ = pK 11 (d + 40) 25 3 [.ref x, .int 0, pU] [] (pCa 177 (d + 39) [.ref h.2.1] (rq (pnw (xput h x X) (.inr (6, [.int 0, .int 0, .ref x, .int 0, .int 0, .ref x])) 6) (xput h x X).2.1 6 0 0 x [.int (nI 0), .int (nI 0), .ref x]))
    rw [this]
    simp (disch := first | assumption | omega | decide) only [pis_i, pis_l, pis_r, pis_n, p1_i, p1_r, p1_n, p1_u, pw0, pw1, pw2, pw3, pw4, pK_v, pK_0, pK_ite, if_true, if_false, if_pos, if_neg, Nat.reduceAdd, pok_r, i10, i01, Bool.true_or, Bool.or_true, Bool.and_true, Bool.true_and, Nat.add_sub_cancel, i1p1, i1p0, i0p1, i0p0, nIrem2, va_rf_s, bit1, bit0, pinT, pinLT, pin0, nIc, nIcL, nIlt, nIeq, nIltL, nILlt, nIeqL, nILeq, nIadL, nILad, nILmu, nI_add, nIsbL, nI_sub', decide_true, decide_false, Bool.false_or, Bool.or_false, rX1_fault_0, rX1_fault_1, rX1_fault_2, rX1_fault_3, rX1_fault_4, rX1_fault_7, rX1_fault_10, rX1_fault_12, rX1_fault_13, rX1_fault_14, rX1_fault_17, rX1_fault_20, rX1_fault_20i, rX1_fault_21, rX1_fault_22, rX1_fault_25, kX1_isIn, show (0 : Int32).toInt64 = 0 from rfl, show ((0 : Int64) < 0) = False by decide, show ((1 : Int64) < 0) = False by decide, xput_21, hcx, hcx2, hps, beq_self_eq_true]
  rw [go]
  clear go
  generalize pfig t n = z at hw hpo
  match z, hw, hpo with
  | .inl w, ⟨e, h', a', dp', bu', bl', q1, q2, q3, q4⟩, _ =>
    have e1 : ∀ q, q < h.2.1 → (rq h' h.2.1 6 a' dp' x [.int (nI bu'), .int (nI bl'), .ref x]).1 q = (xput h x X).1 q := fun q hq => by rw [rq_ne (by omega), q2.2.2.2 q (by omega), h1o q hq]
    have eid : xput (rq h' h.2.1 6 a' dp' x [.int (nI bu'), .int (nI bl'), .ref x]) x X = rq h' h.2.1 6 a' dp' x [.int (nI bu'), .int (nI bl'), .ref x] := xput_id (fun j hj => by rw [e1 _ (by omega), xput_at hj])
    refine ⟨rq h' h.2.1 6 a' dp' x [.int (nI bu'), .int (nI bl'), .ref x], ?_, ?_⟩
    · rw [eid, show pCa 177 (d + 39) [.ref h.2.1] (rq h1 h.2.1 6 0 0 x [.int (nI 0), .int (nI 0), .ref x]) = _ from q1]
      have hcl : pcl (rq h' h.2.1 6 a' dp' x [.int (nI bu'), .int (nI bl'), .ref x]) e = 7 := by rw [qO_pcl q4]; exact pcl_of q3
      have hfl : pfl (rq h' h.2.1 6 a' dp' x [.int (nI bu'), .int (nI bl'), .ref x]) 7 e 6 = .int (nI w) := by rw [qO_pfl q4]; exact pfl_of q3 rfl rfl
      have hk : pK 11 (d + 40) 25 3 [.ref x, .int 0, pU] [] (some (.inr e, rq h' h.2.1 6 a' dp' x [.int (nI bu'), .int (nI bl'), .ref x])) = pR 11 (d + 40) 46 [.ref x, .int 0, pU] [.ref e] (rq h' h.2.1 6 a' dp' x [.int (nI bu'), .int (nI bl'), .ref x]) := by
        simp only [pK, show phd 11 25 = some (46, 7) from rfl, hcl, if_true]
      rw [hk]
      simp (disch := first | assumption | omega | decide) only [pis_i, pis_l, pis_r, pis_n, p1_i, p1_r, p1_n, p1_u, pw0, pw1, pw2, pw3, pw4, pK_v, pK_0, pK_ite, if_true, if_false, if_pos, if_neg, Nat.reduceAdd, pok_r, i10, i01, Bool.true_or, Bool.or_true, Bool.and_true, Bool.true_and, rX1_fault_46, rX1_fault_46n, rX1_fault_47, rX1_fault_47n, rX1_fault_48, rX1_fault_51, hfl]
      rfl
    · have f1 := q2.1
      have f2 := q2.2.1
      have f3 := q2.2.2.1
      refine ⟨by show h.2.1 ≤ h'.2.1; omega, by show h'.2.1 ≤ _; omega, by show h'.2.2 ≤ _; omega, fun q hq hq2 => ?_⟩
      rw [e1 q hq, xput_out hq2]
  | .inr (c, q, b), ⟨a, h', bl', q1, q2, q3⟩, ⟨o1, o2, o3, o4, o5, o6⟩ =>
    have f1 := q2.1
    have f2 := q2.2.1
    have f3 := q2.2.2.1
    have e1 : ∀ z, z < h.2.1 → (rq h' h.2.1 6 q 0 x [.int (nI b), .int (nI bl'), .ref x]).1 z = (xput h x X).1 z := fun z hz => by rw [rq_ne (by omega), q2.2.2.2 z (by omega), h1o z hz]
    have eid : xput (rq h' h.2.1 6 q 0 x [.int (nI b), .int (nI bl'), .ref x]) x X = rq h' h.2.1 6 q 0 x [.int (nI b), .int (nI bl'), .ref x] := xput_id (fun j hj => by rw [e1 _ (by omega), xput_at hj])
    refine ⟨rq h' h.2.1 6 q 0 x [.int (nI b), .int (nI bl'), .ref x], ?_, ?_⟩
    · rw [eid, show pCa 177 (d + 39) [.ref h.2.1] (rq h1 h.2.1 6 0 0 x [.int (nI 0), .int (nI 0), .ref x]) = _ from q1]
      simp (disch := first | assumption | omega | decide) only [pis_i, pis_l, pis_r, pis_n, p1_i, p1_r, p1_n, p1_u, pw0, pw1, pw2, pw3, pw4, pK_v, pK_0, pK_ite, if_true, if_false, if_pos, if_neg, Nat.reduceAdd, pok_r, i10, i01, Bool.true_or, Bool.or_true, Bool.and_true, Bool.true_and, rX1_fault_25, rX1_fault_28, rX1_fault_28n, rX1_fault_29, rX1_fault_32, rX1_fault_35, rX1_fault_35i, rX1_fault_36, rX1_fault_37, rX1_fault_40, rX1_fault_43, rX1_fault_43n, rX1_fault_44, rX1_fault_45]
      rfl
    · refine ⟨by show h.2.1 ≤ h'.2.1; omega, by show h'.2.1 ≤ _; omega, by show h'.2.2 ≤ _; omega, fun z hz hz2 => ?_⟩
      rw [e1 z hz, xput_out hz2]
end
