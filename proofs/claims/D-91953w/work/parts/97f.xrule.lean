/-! RULES 6: the component's RuleReader: clauses, the whole -/
set_option maxRecDepth 100000
/-- clauses on the heap -/
def ClAt (h : pH) : List Cl → Option Nat → Prop
  | [], a => a = none
  | c :: l, a => ∃ q e s, a = some q ∧ (match c.1 with
      | none => h.1 q = some (.inr (22, [.null, .ref s, va_rf e]))
      | some y => ∃ b, h.1 q = some (.inr (22, [.ref b, .ref s, va_rf e])) ∧ TsAt h y b) ∧ SmAt h c.2 s ∧ ClAt h l e
def ClS (h : pH) (lo hi : Nat) (l : List Cl) (a : Option Nat) : Prop := ∀ h', ag h h' lo hi → ClAt h' l a
/-- an open chain of clauses -/
def WdC (h : pH) (lo hi l a : Nat) (f : List Cl → List Cl) : Prop := lo ≤ l ∧ l < hi ∧ ∃ v s, h.1 l = some (.inr (22, [v, s, .null])) ∧ ∀ h' e d, (∀ q, lo ≤ q → q < hi → q ≠ l → h'.1 q = h.1 q) → h'.1 l = some (.inr (22, [v, s, va_rf e])) → ClAt h' d e → ClAt h' (f d) (some a)
theorem WdC.end {h : pH} {lo hi l a : Nat} {f : List Cl → List Cl} (W : WdC h lo hi l a f) : ClS h lo hi (f []) (some a) := by
  obtain ⟨w1, w2, v, s, w4, w5⟩ := W
  exact fun h' g => w5 h' none [] (fun q q1 q2 _ => g q q1 q2) ((g l w1 w2).trans w4) rfl
theorem WdC.app {h h2 : pH} {lo hi hi2 l a q : Nat} {f g : List Cl → List Cl} (W : WdC h lo hi l a f) (hg : ag h h2 lo hi) (V : WdC h2 hi hi2 q q g) : WdC (psf h2 l 2 (.ref q)) lo hi2 q a (fun d => f (g d)) ∧ pfl (psf h2 l 2 (.ref q)) 22 l 2 = .ref q ∧ pis (pfl h2 22 l 2) = true ∧ ∀ z, z ≠ l → (psf h2 l 2 (.ref q)).1 z = h2.1 z := by
  obtain ⟨w1, w2, v, s, w4, w5⟩ := W
  obtain ⟨v1, v2, v', s', v4, v5⟩ := V
  have c2 : h2.1 l = some (.inr (22, [v, s, .null])) := (hg l w1 w2).trans w4
  have e3 : psf h2 l 2 (.ref q) = pup h2 l (.inr (22, [v, s, .ref q])) := by rw [psf_of c2]; rfl
  rw [e3]
  have c3 : (pup h2 l (.inr (22, [v, s, .ref q]))).1 l = some (.inr (22, [v, s, .ref q])) := pup_same
  refine ⟨⟨by omega, v2, v', s', ?_, fun h' e d g1 g2 g3 => ?_⟩, pfl_of c3 rfl rfl, ?_, fun z hz => pup_ne hz⟩
  · rw [pup_ne (by omega)]; exact v4
  · have k1 : ClAt h' (g d) (some q) := v5 h' e d (fun z z1 z2 z3 => by rw [g1 z (by omega) z2 z3, pup_ne (by omega)]) g2 g3
    refine w5 h' (some q) (g d) (fun z z1 z2 z3 => ?_) ?_ k1
    · rw [g1 z z1 (by omega) (by omega), pup_ne z3, hg z z1 z2]
    · rw [g1 l w1 (by omega) (by omega), c3]; rfl
  · rw [pfl_of c2 rfl rfl]; rfl
def oC (t : Tp) (x o lo : Nat) (h : pH) (p : Nat) (r : Option pO) : QR Cl → Prop
  | .inl w => ∃ e h' a' dp', r = some (.inr e, rq h' o 13 a' dp' x [.ref x]) ∧ Fr h h' (t.1 - p + 2) ∧ h'.1 e = some (wr (nI w)) ∧ e ≠ o
  | .inr (c, q) => ∃ a h', r = some (.inl (some (.ref a)), rq h' o 13 q 0 x [.ref x]) ∧ Fr h h' (q - p) ∧ WdC h' lo h'.2.1 a a (fun l => c :: l)
section
variable {h : pH} {o x d N p lo a : Nat} {t : Tp} {y : Ts}
theorem kX13_asked (hR : RP h x o t N) (hl : lo ≤ h.2.1) (hp : p ≤ t.1) (hP : PS TsAt h lo h.2.1 y a) : oC t x o lo h p (pCa 202 (d + 32) [.ref o, .ref a] (rq h o 13 p 0 x [.ref x])) (askP t (.inr (y, p))) := by
  have hq0 : o ≠ x ∧ o ≠ x + 2 := ⟨hR.n0, hR.n2⟩
  have ho := hR.ol
  have ht := hR.X.k
  have ht1 := ht.1
  have hpo : pok 5 13 = true := rfl
  have hno : h.2.1 ≠ o := by omega
  have s1 := skp_le (t := t) (a := p)
  have s2 := skp_t hp
  have hlk := kX5_look (d := d + 30) (dp := 0) (c := 13) (r := [.ref x]) hR.X hq0 hpo hp
  rw [eX13_asked]
  show oC t x o lo h p _ (if isC t (skp t p) 63 = true then _ else _)
  by_cases h1 : isC t (skp t p) 63 = true
  · rw [if_pos h1]
    have h2 := isC_lt h1
    have htk := kX5_take (d := d + 31) (dp := 0) (c := 13) (r := [.ref x]) hR.X hq0 hpo h2.1
    have hf1 : Fr h (pnw h (.inr (22, [.null, .null, .null])) 3) 1 := Fr.nw (by decide)
    have hs1 := kX13_sm 6 (Nat.le_refl _) d _ (skp t p + 1) (hR.fr hf1) (by omega)
    have ok1 := sm_ok (t := t) 6 (skp t p + 1) (by omega)
    have e7 : (nI (t.2 (skp t p))).toInt8.toInt32 = 63 := by rw [h2.2]; rfl
    rw [e7] at htk
    have go : pR 202 (d + 32) 0 [.ref o, .ref a, pU] [] (rq h o 13 p 0 x [.ref x]) = pK 202 (d + 32) 27 3 [.ref o, .ref a, .int 63] [.ref a, .ref h.2.1, .ref h.2.1] (pCa 198 (d + 13 + 3 * 6) [.ref o] (rq (pnw h (.inr (22, [.null, .null, .null])) 3) o 13 (skp t p + 1) 0 x [.ref x])) := by
      simp (disch := first | assumption | omega | decide | rfl) only [pis_i, pis_l, pis_r, pis_n, p1_i, p1_r, p1_n, p1_u, pw0, pw1, pw2, pw3, pw4, pK_v, pK_0, pK_ite, if_true, if_false, if_pos, if_neg, Nat.reduceAdd, pok_r, i10, i01, Bool.true_or, Bool.or_true, Bool.and_true, Bool.true_and, Nat.add_sub_cancel, i1p1, i1p0, i0p1, i0p0, nIrem2, va_rf_s, bit1, bit0, pinT, pinLT, pin0, nIc, nIcL, nIlt, nIeq, nIltL, nILlt, nIeqL, nILeq, nIadL, nILad, nILmu, nI_add, nIsbL, nI_sub', decide_true, decide_false, Bool.false_or, Bool.or_false, rX13_asked_0, rX13_asked_1, rX13_asked_4, rX13_asked_5, rX13_asked_6, rX13_asked_7, rX13_asked_9, rX13_asked_12, rX13_asked_13, rX13_asked_16, rX13_asked_17, rX13_asked_20, rX13_asked_21, rX13_asked_24, rX13_asked_24i, rX13_asked_25, rX13_asked_25n, rX13_asked_26, rX13_asked_27, qCl, hlk, hr_eq ht, h1, htk, rq_21, qO_pnw]
    rw [go]
    generalize sm t 6 (skp t p + 1) = z at hs1 ok1
    match z, hs1, ok1 with
    | .inl w, ⟨e, h', a', dp', q1, q2, q3, q4⟩, _ =>
      refine ⟨e, h', a', dp', ?_, (hf1.tr q2).wk (by omega), q3, q4⟩
      rw [show (0 : Nat) = 6 - 6 from rfl, q1, pK_t rfl]
    | .inr (s, q), ⟨a1, h1', q1, q2, q3⟩, ⟨k1, k2, k3, k4⟩ =>
      have hcell : h1'.1 h.2.1 = some (.inr (22, [.null, .null, .null])) := by rw [q2.2.2.2 h.2.1 (Nat.lt_succ_self _)]; exact pnw_same
      have hg1 : h.2.1 + 1 ≤ h1'.2.1 := q2.1
      have fr2 := (hf1.tr q2).pup (q := h.2.1) (z := .inr (22, [.ref a, .ref a1, .null])) (Nat.le_refl _)
      have e1 : rq h1' o 13 q 0 x [.ref x] = rq (pup h1' h.2.1 (.inr (22, [.null, .null, .null]))) o 13 q 0 x [.ref x] := by rw [pup_id hcell]
      have q1 : pCa 198 (d + 13 + 3 * 6) [.ref o] (rq (pnw h (.inr (22, [.null, .null, .null])) 3) o 13 (skp t p + 1) 0 x [.ref x]) = some (.inl (some (.ref a1)), rq h1' o 13 q 0 x [.ref x]) := q1
      refine ⟨h.2.1, pup h1' h.2.1 (.inr (22, [.ref a, .ref a1, .null])), ?_, fr2.wk (by omega), ?_⟩
      · rw [q1, e1]
        simp (disch := first | assumption | omega | decide | rfl) only [pis_i, pis_l, pis_r, pis_n, p1_i, p1_r, p1_n, p1_u, pw0, pw1, pw2, pw3, pw4, pK_v, pK_0, pK_ite, if_true, if_false, if_pos, if_neg, Nat.reduceAdd, pok_r, i10, i01, Bool.true_or, Bool.or_true, Bool.and_true, Bool.true_and, Nat.add_sub_cancel, i1p1, i1p0, i0p1, i0p0, nIrem2, va_rf_s, bit1, bit0, pinT, pinLT, pin0, nIc, nIcL, nIlt, nIeq, nIltL, nILlt, nIeqL, nILeq, nIadL, nILad, nILmu, nI_add, nIsbL, nI_sub', decide_true, decide_false, Bool.false_or, Bool.or_false, rX13_asked_30, rX13_asked_33, qO_pcl hno, pcl_pup, kX22_init hno]
      · refine ⟨hl, by show h.2.1 < h1'.2.1; omega, .ref a, .ref a1, pup_same, fun h2' e d g1 g2 g3 => ⟨h.2.1, e, a1, rfl, ⟨a, g2, hP h2' (fun z z1 z2 => ?_)⟩, q3 h2' (fun z z1 z2 => ?_), g3⟩⟩
        · rw [g1 z z1 (by show z < h1'.2.1; omega) (by omega), fr2.2.2.2 z z2]
        · have z1 : h.2.1 + 1 ≤ z := z1
          rw [g1 z (by omega) z2 (by omega), pup_ne (by omega)]
  · rw [if_neg h1]
    have ht0 := kX5_take0 (d := d + 23) (a := skp t p) (dp := 0) (x := x) (c := 13) (r := [.ref x]) hpo ho
    refine ⟨h.2.1, pnw h (wr (nI (skp t p))) 7, skp t p, 0, ?_, (Fr.nw (by decide)).wk (by omega), pnw_same, by omega⟩
    simp (disch := first | assumption | omega | decide | rfl) only [pis_i, pis_l, pis_r, pis_n, p1_i, p1_r, p1_n, p1_u, pw0, pw1, pw2, pw3, pw4, pK_v, pK_0, pK_ite, if_true, if_false, if_pos, if_neg, Nat.reduceAdd, pok_r, i10, i01, Bool.true_or, Bool.or_true, Bool.and_true, Bool.true_and, Nat.add_sub_cancel, i1p1, i1p0, i0p1, i0p0, nIrem2, va_rf_s, bit1, bit0, pinT, pinLT, pin0, nIc, nIcL, nIlt, nIeq, nIltL, nILlt, nIeqL, nILeq, nIadL, nILad, nILmu, nI_add, nIsbL, nI_sub', decide_true, decide_false, Bool.false_or, Bool.or_false, rX13_asked_0, rX13_asked_1, rX13_asked_4, rX13_asked_5, rX13_asked_6, rX13_asked_7, rX13_asked_9, rX13_asked_12, rX13_asked_13, rX13_asked_16, rX13_asked_17, rX13_asked_20, qCl, hlk, hr_eq ht, h1, ht0, pK_t]
theorem askP_ge {f : QR Ts} {c : Cl} {r : Nat} (hf : ∀ y q, f = .inr (y, q) → p ≤ q ∧ q ≤ t.1) (e : askP t f = .inr (c, r)) : p ≤ r := by
  unfold askP at e
  match f, hf, e with
  | .inr (y, q), hf, e =>
    obtain ⟨f1, f2⟩ := hf y q rfl
    have s1 := skp_le (t := t) (a := q)
    have e : (if isC t (skp t q) 63 = true then _ else _) = _ := e
    by_cases h1 : isC t (skp t q) 63 = true
    · rw [if_pos h1] at e
      have h2 := isC_lt h1
      have hz := sm_ok (t := t) 6 (skp t q + 1) (by omega)
      generalize sm t 6 (skp t q + 1) = zz at hz e
      match zz, hz, e with
      | .inr (b, q'), hz, e =>
        cases e
        have := hz.1
        omega
    · rw [if_neg h1] at e
      cases e
theorem kX13_clause (hR : RP h x o t N) (hp : p ≤ t.1) : oC t x o h.2.1 h p (pCa 194 (d + 40) [.ref o] (rq h o 13 p 0 x [.ref x])) (clsP t p) := by
  have hq0 : o ≠ x ∧ o ≠ x + 2 := ⟨hR.n0, hR.n2⟩
  have ho := hR.ol
  have ht := hR.X.k
  have ht1 := ht.1
  have hpo : pok 5 13 = true := rfl
  have hno : h.2.1 ≠ o := by omega
  have s1 := skp_le (t := t) (a := p)
  have s2 := skp_t hp
  have hlk : ∀ p, p ≤ t.1 → pCa 170 (d + 39) [.ref o] (rq h o 13 p 0 x [.ref x]) = some (.inl (some (.int (hr t (skp t p)))), rq h o 13 (skp t p) 0 x [.ref x]) := fun p hp => kX5_look (d := d + 38) (dp := 0) (c := 13) (r := [.ref x]) hR.X hq0 hpo hp
  have ht0 : ∀ p, pCa 172 (d + 39) [.ref o, .int 0] (rq h o 13 p 0 x [.ref x]) = some (.inr h.2.1, rq (pnw h (wr (nI p)) 7) o 13 p 0 x [.ref x]) := fun p => kX5_take0 (d := d + 31) hpo ho
  rw [eX13_clause]
  unfold clsP
  by_cases h1 : isC t (skp t p) 119 = true
  · rw [if_pos h1]
    have h2 := isC_lt h1
    have s3 := skp_le (t := t) (a := skp t p + 1)
    have s4 := skp_t (t := t) (a := skp t p + 1) (by omega)
    have htk := kX5_take (d := d + 39) (dp := 0) (c := 13) (r := [.ref x]) hR.X hq0 hpo h2.1
    have hl1 := hlk p hp
    have hl2 := hlk (skp t p + 1) (by omega)
    by_cases h3 : isC t (skp t (skp t p + 1)) 58 = true
    · rw [if_pos h3]
      have h4 := isC_lt h3
      have s5 := skp_le (t := t) (a := skp t (skp t p + 1) + 1)
      have s6 := skp_t (t := t) (a := skp t (skp t p + 1) + 1) (by omega)
      have htk2 := kX5_take (d := d + 39) (dp := 0) (c := 13) (r := [.ref x]) hR.X hq0 hpo h4.1
      have hl3 := hlk (skp t (skp t p + 1) + 1) (by omega)
      generalize hQ : skp t (skp t (skp t p + 1) + 1) = Q at *
      have go : pR 194 (d + 40) 0 [.ref o, pU, pU] [] (rq h o 13 p 0 x [.ref x]) = pR 194 (d + 40) 47 [.ref o, .int (hr t Q), pU] [] (rq h o 13 Q 0 x [.ref x]) := by
        simp (disch := first | assumption | omega | decide | rfl) only [pis_i, pis_l, pis_r, pis_n, p1_i, p1_r, p1_n, p1_u, pw0, pw1, pw2, pw3, pw4, pK_v, pK_0, pK_ite, if_true, if_false, if_pos, if_neg, Nat.reduceAdd, pok_r, i10, i01, Bool.true_or, Bool.or_true, Bool.and_true, Bool.true_and, Nat.add_sub_cancel, i1p1, i1p0, i0p1, i0p0, nIrem2, va_rf_s, bit1, bit0, pinT, pinLT, pin0, nIc, nIcL, nIlt, nIeq, nIltL, nILlt, nIeqL, nILeq, nIadL, nILad, nILmu, nI_add, nIsbL, nI_sub', decide_true, decide_false, Bool.false_or, Bool.or_false, rX13_clause_0, rX13_clause_1, rX13_clause_4, rX13_clause_5, rX13_clause_6, rX13_clause_7, rX13_clause_9, rX13_clause_12, rX13_clause_13, rX13_clause_16, rX13_clause_17, rX13_clause_20, rX13_clause_21, rX13_clause_22, rX13_clause_25, rX13_clause_26, rX13_clause_27, rX13_clause_28, rX13_clause_30, rX13_clause_33, rX13_clause_34, rX13_clause_37, rX13_clause_38, rX13_clause_41, rX13_clause_42, rX13_clause_43, rX13_clause_46, qCl, hl1, hr_eq ht, h1, htk, hl2, h3, htk2, hl3]
      rw [go]
      by_cases h5 : isC t Q 33 = true ∨ isC t Q 40 = true
      · rw [if_pos h5]
        have h6 : Q < t.1 ∧ (t.2 Q = 33 ∨ t.2 Q = 40) := by rcases h5 with z | z <;> (have := isC_lt z; omega)
        have hc := (kX13_ut (x := x) (o := o) (N := N) (t := t) 6 (Nat.le_refl _)).2 (d + 4) h Q hR s6
        have ok1 := (ut_ok (t := t) 6).2 Q s6
        have go2 : pR 194 (d + 40) 47 [.ref o, .int (hr t Q), pU] [] (rq h o 13 Q 0 x [.ref x]) = pK 194 (d + 40) 62 3 [.ref o, .int (hr t Q), pU] [.ref o] (pCa 195 (d + 39) [.ref o, .null] (rq h o 13 Q 0 x [.ref x])) := by
          rw [hr_in h6.1]
          rcases h6.2 with e | e <;> simp (disch := first | assumption | omega | decide | rfl) only [pis_i, pis_l, pis_r, pis_n, p1_i, p1_r, p1_n, p1_u, pw0, pw1, pw2, pw3, pw4, pK_v, pK_0, pK_ite, if_true, if_false, if_pos, if_neg, Nat.reduceAdd, pok_r, i10, i01, Bool.true_or, Bool.or_true, Bool.and_true, Bool.true_and, Nat.add_sub_cancel, i1p1, i1p0, i0p1, i0p0, nIrem2, va_rf_s, bit1, bit0, pinT, pinLT, pin0, nIc, nIcL, nIlt, nIeq, nIltL, nILlt, nIeqL, nILeq, nIadL, nILad, nILmu, nI_add, nIsbL, nI_sub', decide_true, decide_false, Bool.false_or, Bool.or_false, rX13_clause_47, rX13_clause_48, rX13_clause_50, rX13_clause_53, rX13_clause_54, rX13_clause_56, rX13_clause_59, rX13_clause_60, rX13_clause_61, rX13_clause_62, e, qCl]
        rw [go2]
        generalize (ut t 6).2 Q = z at hc ok1
        match z, hc, ok1 with
        | .inl w, ⟨e, h', a', dp', q1, q2, q3, q4⟩, _ =>
          refine ⟨e, h', a', dp', ?_, q2.wk (by omega), q3, q4⟩
          have q1 : pCa 195 (d + 39) [.ref o, .null] (rq h o 13 Q 0 x [.ref x]) = some (.inr e, rq h' o 13 a' dp' x [.ref x]) := q1
          rw [q1, pK_t rfl]
        | .inr (y, q), ⟨a1, h1', q1, q2, q3⟩, ⟨k1, k2, k3, k4⟩ =>
          have q1 : pCa 195 (d + 39) [.ref o, .null] (rq h o 13 Q 0 x [.ref x]) = some (.inl (some (.ref a1)), rq h1' o 13 q 0 x [.ref x]) := q1
          have ha := kX13_asked (d := d + 7) (lo := h.2.1) (hR.fr q2) q2.1 k2 q3
          have hge : ∀ c r, askP t (.inr (y, q)) = .inr (c, r) → q ≤ r := fun c r e => askP_ge (fun y' q' e' => by cases e'; exact ⟨Nat.le_refl _, k2⟩) e
          rw [q1]
          generalize askP t (.inr (y, q)) = zz at ha hge
          match zz, ha, hge with
          | .inl w, ⟨e, h2', a', dp', r1, r2, r3, r4⟩, _ =>
            refine ⟨e, h2', a', dp', ?_, (q2.tr r2).wk (by omega), r3, r4⟩
            simp (disch := first | assumption | omega | decide | rfl) only [pis_i, pis_l, pis_r, pis_n, p1_i, p1_r, p1_n, p1_u, pw0, pw1, pw2, pw3, pw4, pK_v, pK_0, pK_ite, if_true, if_false, if_pos, if_neg, Nat.reduceAdd, pok_r, i10, i01, Bool.true_or, Bool.or_true, Bool.and_true, Bool.true_and, Nat.add_sub_cancel, i1p1, i1p0, i0p1, i0p0, nIrem2, va_rf_s, bit1, bit0, pinT, pinLT, pin0, nIc, nIcL, nIlt, nIeq, nIltL, nILlt, nIeqL, nILeq, nIadL, nILad, nILmu, nI_add, nIsbL, nI_sub', decide_true, decide_false, Bool.false_or, Bool.or_false, rX13_clause_65, rX13_clause_68, qCl, r1, pK_t]
          | .inr (cc, r), ⟨a2, h2', r1, r2, r3⟩, hge =>
            have := hge cc r rfl
            refine ⟨a2, h2', ?_, (q2.tr r2).wk (by omega), r3⟩
            simp (disch := first | assumption | omega | decide | rfl) only [pis_i, pis_l, pis_r, pis_n, p1_i, p1_r, p1_n, p1_u, pw0, pw1, pw2, pw3, pw4, pK_v, pK_0, pK_ite, if_true, if_false, if_pos, if_neg, Nat.reduceAdd, pok_r, i10, i01, Bool.true_or, Bool.or_true, Bool.and_true, Bool.true_and, Nat.add_sub_cancel, i1p1, i1p0, i0p1, i0p0, nIrem2, va_rf_s, bit1, bit0, pinT, pinLT, pin0, nIc, nIcL, nIlt, nIeq, nIltL, nILlt, nIeqL, nILeq, nIadL, nILad, nILmu, nI_add, nIsbL, nI_sub', decide_true, decide_false, Bool.false_or, Bool.or_false, rX13_clause_65, rX13_clause_68, qCl, r1]
      · rw [if_neg h5]
        have h6 : ¬ isC t Q 33 = true := fun z => h5 (Or.inl z)
        have h7 : ¬ isC t Q 40 = true := fun z => h5 (Or.inr z)
        have hc := kX13_sm (x := x) (o := o) (N := N) (t := t) 6 (Nat.le_refl _) (d + 8) h Q hR s6
        have ok1 := sm_ok (t := t) 6 Q s6
        have go2 : pR 194 (d + 40) 47 [.ref o, .int (hr t Q), pU] [] (rq h o 13 Q 0 x [.ref x]) = pK 194 (d + 40) 70 3 [.ref o, .int (hr t Q), pU] [] (pCa 198 (d + 39) [.ref o] (rq h o 13 Q 0 x [.ref x])) := by
          simp (disch := first | assumption | omega | decide | rfl) only [pis_i, pis_l, pis_r, pis_n, p1_i, p1_r, p1_n, p1_u, pw0, pw1, pw2, pw3, pw4, pK_v, pK_0, pK_ite, if_true, if_false, if_pos, if_neg, Nat.reduceAdd, pok_r, i10, i01, Bool.true_or, Bool.or_true, Bool.and_true, Bool.true_and, Nat.add_sub_cancel, i1p1, i1p0, i0p1, i0p0, nIrem2, va_rf_s, bit1, bit0, pinT, pinLT, pin0, nIc, nIcL, nIlt, nIeq, nIltL, nILlt, nIeqL, nILeq, nIadL, nILad, nILmu, nI_add, nIsbL, nI_sub', decide_true, decide_false, Bool.false_or, Bool.or_false, rX13_clause_47, rX13_clause_48, rX13_clause_50, rX13_clause_53, rX13_clause_54, rX13_clause_56, rX13_clause_59, rX13_clause_60, rX13_clause_61, rX13_clause_62, rX13_clause_65, rX13_clause_68, rX13_clause_69, rX13_clause_70, hr_eq ht, h6, h7, qCl]
        rw [go2]
        generalize sm t 6 Q = z at hc ok1
        match z, hc, ok1 with
        | .inl w, ⟨e, h', a', dp', q1, q2, q3, q4⟩, _ =>
          refine ⟨e, h', a', dp', ?_, q2.wk (by omega), q3, q4⟩
          have q1 : pCa 198 (d + 39) [.ref o] (rq h o 13 Q 0 x [.ref x]) = some (.inr e, rq h' o 13 a' dp' x [.ref x]) := q1
          rw [q1, pK_t rfl]
        | .inr (s, q), ⟨a1, h1', q1, q2, q3⟩, ⟨k1, k2, k3, k4⟩ =>
          have q1 : pCa 198 (d + 39) [.ref o] (rq h o 13 Q 0 x [.ref x]) = some (.inl (some (.ref a1)), rq h1' o 13 q 0 x [.ref x]) := q1
          have hR1 := hR.fr q2
          have ho1 := hR1.ol
          have s7 := skp_le (t := t) (a := q)
          have s8 := skp_t k2
          have hl4 := kX5_look (d := d + 38) (dp := 0) (c := 13) (r := [.ref x]) hR1.X hq0 hpo k2
          rw [q1]
          have go3 : pK 194 (d + 40) 70 3 [.ref o, .int (hr t Q), pU] [] (some (.inl (some (.ref a1)), rq h1' o 13 q 0 x [.ref x])) = pR 194 (d + 40) 79 [.ref o, .int (hr t (skp t q)), .ref a1] [] (rq h1' o 13 (skp t q) 0 x [.ref x]) := by
            simp (disch := first | assumption | omega | decide | rfl) only [pis_i, pis_l, pis_r, pis_n, p1_i, p1_r, p1_n, p1_u, pw0, pw1, pw2, pw3, pw4, pK_v, pK_0, pK_ite, if_true, if_false, if_pos, if_neg, Nat.reduceAdd, pok_r, i10, i01, Bool.true_or, Bool.or_true, Bool.and_true, Bool.true_and, Nat.add_sub_cancel, i1p1, i1p0, i0p1, i0p0, nIrem2, va_rf_s, bit1, bit0, pinT, pinLT, pin0, nIc, nIcL, nIlt, nIeq, nIltL, nILlt, nIeqL, nILeq, nIadL, nILad, nILmu, nI_add, nIsbL, nI_sub', decide_true, decide_false, Bool.false_or, Bool.or_false, rX13_clause_73, rX13_clause_73n, rX13_clause_74, rX13_clause_75, rX13_clause_78, qCl, hl4]
          rw [go3]
          show oC t x o h.2.1 h p _ (if isCp t (skp t q) = true then _ else _)
          by_cases h8 : isCp t (skp t q) = true
          · rw [if_pos h8]
            have h9 := isCp_lt h8
            have hut := (kX13_ut (x := x) (o := o) (N := N) (t := t) 6 (Nat.le_refl _)).1
            have hutk := (ut_ok (t := t) 6).1
            have hcm : ∀ y r, cmpP t 6 s (skp t q) = .inr (y, r) → skp t q ≤ r ∧ r ≤ t.1 := fun y r e => ⟨cmpP_ge s8 e, cmpP_le s8 e⟩
            have htr : oGl TsAt t x o 0 h.2.1 h1' (skp t q) (pCa 196 (d + 38) [.ref o, .ref a1] (rq h1' o 13 (skp t q) 0 x [.ref x])) (thP (cmpP t 6 s (skp t q)) (ut t 6).1 38 true t) :=
              kX13_truthr (d := d + 25) (k := 6) (lo := h.2.1) (fun h p hR hp => hut (d + 4) h p hR hp) hutk (fun h p hR hp => kX13_sm 6 (Nat.le_refl _) (d + 5) h p hR hp) hR1 q2.1 s8 q3 hcm
            have hth := thP_le (op := 38) (all := true) hutk hcm
            have hcon : oGl TsAt t x o 0 h.2.1 h1' (skp t q) (pCa 195 (d + 39) [.ref o, .ref a1] (rq h1' o 13 (skp t q) 0 x [.ref x])) (conS t s (skp t q)) := by
              refine kX13_condition_th (d := d + 27) (v1 := .ref a1) (fun h p hR hp => kX13_truthn (d := d + 26) (fun h p hR hp => hut (d + 4) h p hR hp) hutk hR hp) (fun p hp => trtP_ok hutk hp) hR1 q2.1 htr hth (fun e h' q => ?_) (fun a h' q => ?_)
              · rw [eX13_condition]
                simp (disch := first | assumption | omega | decide | rfl) only [pis_i, pis_l, pis_r, pis_n, p1_i, p1_r, p1_n, p1_u, pw0, pw1, pw2, pw3, pw4, pK_v, pK_0, pK_ite, if_true, if_false, if_pos, if_neg, Nat.reduceAdd, pok_r, i10, i01, Bool.true_or, Bool.or_true, Bool.and_true, Bool.true_and, Nat.add_sub_cancel, i1p1, i1p0, i0p1, i0p0, nIrem2, va_rf_s, bit1, bit0, pinT, pinLT, pin0, nIc, nIcL, nIlt, nIeq, nIltL, nILlt, nIeqL, nILeq, nIadL, nILad, nILmu, nI_add, nIsbL, nI_sub', decide_true, decide_false, Bool.false_or, Bool.or_false, rX13_condition_0, rX13_condition_1, rX13_condition_1n, rX13_condition_2, rX13_condition_5, rX13_condition_5n, qCl, q, pK_t]
              · rw [eX13_condition]
                simp (disch := first | assumption | omega | decide | rfl) only [pis_i, pis_l, pis_r, pis_n, p1_i, p1_r, p1_n, p1_u, pw0, pw1, pw2, pw3, pw4, pK_v, pK_0, pK_ite, if_true, if_false, if_pos, if_neg, Nat.reduceAdd, pok_r, i10, i01, Bool.true_or, Bool.or_true, Bool.and_true, Bool.true_and, Nat.add_sub_cancel, i1p1, i1p0, i0p1, i0p0, nIrem2, va_rf_s, bit1, bit0, pinT, pinLT, pin0, nIc, nIcL, nIlt, nIeq, nIltL, nILlt, nIeqL, nILeq, nIadL, nILad, nILmu, nI_add, nIsbL, nI_sub', decide_true, decide_false, Bool.false_or, Bool.or_false, rX13_condition_0, rX13_condition_1, rX13_condition_1n, rX13_condition_2, rX13_condition_5, rX13_condition_5n, qCl, q]
            have hcs : ∀ y r, conS t s (skp t q) = .inr (y, r) → skp t q ≤ r ∧ r ≤ t.1 := thP_le (fun p hp => trtP_ok hutk hp) hth
            have go4 : pR 194 (d + 40) 79 [.ref o, .int (hr t (skp t q)), .ref a1] [] (rq h1' o 13 (skp t q) 0 x [.ref x]) = pK 194 (d + 40) 100 3 [.ref o, .int (hr t (skp t q)), .ref a1] [.ref o] (pCa 195 (d + 39) [.ref o, .ref a1] (rq h1' o 13 (skp t q) 0 x [.ref x])) := by
              rw [hr_in h9.1]
              rcases h9.2 with e | e | e <;> simp (disch := first | assumption | omega | decide | rfl) only [pis_i, pis_l, pis_r, pis_n, p1_i, p1_r, p1_n, p1_u, pw0, pw1, pw2, pw3, pw4, pK_v, pK_0, pK_ite, if_true, if_false, if_pos, if_neg, Nat.reduceAdd, pok_r, i10, i01, Bool.true_or, Bool.or_true, Bool.and_true, Bool.true_and, Nat.add_sub_cancel, i1p1, i1p0, i0p1, i0p0, nIrem2, va_rf_s, bit1, bit0, pinT, pinLT, pin0, nIc, nIcL, nIlt, nIeq, nIltL, nILlt, nIeqL, nILeq, nIadL, nILad, nILmu, nI_add, nIsbL, nI_sub', decide_true, decide_false, Bool.false_or, Bool.or_false, rX13_clause_79, rX13_clause_80, rX13_clause_82, rX13_clause_85, rX13_clause_86, rX13_clause_88, rX13_clause_91, rX13_clause_92, rX13_clause_94, rX13_clause_97, rX13_clause_98, rX13_clause_99, rX13_clause_99n, rX13_clause_100, e, qCl]
            rw [go4]
            generalize conS t s (skp t q) = zz at hcon hcs
            match zz, hcon, hcs with
            | .inl w, ⟨e, h2', a', dp', r1, r2, r3, r4⟩, _ =>
              refine ⟨e, h2', a', dp', ?_, (q2.tr r2).wk (by omega), r3, r4⟩
              rw [r1, pK_t rfl]
            | .inr (y, r), ⟨a2, h2', r1, r2, r3⟩, hcs =>
              obtain ⟨g1, g2⟩ := hcs y r rfl
              have ha := kX13_asked (d := d + 7) (lo := h.2.1) (hR1.fr r2) (by have := q2.1; have := r2.1; omega) g2 r3
              have hge : ∀ c u, askP t (.inr (y, r)) = .inr (c, u) → r ≤ u := fun c u e => askP_ge (fun y' q' e' => by cases e'; exact ⟨Nat.le_refl _, g2⟩) e
              rw [r1]
              generalize askP t (.inr (y, r)) = z3 at ha hge
              match z3, ha, hge with
              | .inl w, ⟨e, h3', a', dp', u1, u2, u3, u4⟩, _ =>
                refine ⟨e, h3', a', dp', ?_, ((q2.tr r2).tr u2).wk (by omega), u3, u4⟩
                simp (disch := first | assumption | omega | decide | rfl) only [pis_i, pis_l, pis_r, pis_n, p1_i, p1_r, p1_n, p1_u, pw0, pw1, pw2, pw3, pw4, pK_v, pK_0, pK_ite, if_true, if_false, if_pos, if_neg, Nat.reduceAdd, pok_r, i10, i01, Bool.true_or, Bool.or_true, Bool.and_true, Bool.true_and, Nat.add_sub_cancel, i1p1, i1p0, i0p1, i0p0, nIrem2, va_rf_s, bit1, bit0, pinT, pinLT, pin0, nIc, nIcL, nIlt, nIeq, nIltL, nILlt, nIeqL, nILeq, nIadL, nILad, nILmu, nI_add, nIsbL, nI_sub', decide_true, decide_false, Bool.false_or, Bool.or_false, rX13_clause_103, rX13_clause_106, rX13_clause_109, rX13_clause_112, rX13_clause_112i, rX13_clause_113, rX13_clause_114, rX13_clause_114n, rX13_clause_115, rX13_clause_118, qCl, u1, pK_t]
              | .inr (cc, u), ⟨a3, h3', u1, u2, u3⟩, hge =>
                have := hge cc u rfl
                refine ⟨a3, h3', ?_, ((q2.tr r2).tr u2).wk (by omega), u3⟩
                simp (disch := first | assumption | omega | decide | rfl) only [pis_i, pis_l, pis_r, pis_n, p1_i, p1_r, p1_n, p1_u, pw0, pw1, pw2, pw3, pw4, pK_v, pK_0, pK_ite, if_true, if_false, if_pos, if_neg, Nat.reduceAdd, pok_r, i10, i01, Bool.true_or, Bool.or_true, Bool.and_true, Bool.true_and, Nat.add_sub_cancel, i1p1, i1p0, i0p1, i0p0, nIrem2, va_rf_s, bit1, bit0, pinT, pinLT, pin0, nIc, nIcL, nIlt, nIeq, nIltL, nILlt, nIeqL, nILeq, nIadL, nILad, nILmu, nI_add, nIsbL, nI_sub', decide_true, decide_false, Bool.false_or, Bool.or_false, rX13_clause_103, rX13_clause_106, rX13_clause_109, rX13_clause_112, rX13_clause_112i, rX13_clause_113, rX13_clause_114, rX13_clause_114n, rX13_clause_115, rX13_clause_118, qCl, u1]
          · rw [if_neg h8]
            simp only [isCp, Bool.or_eq_true, not_or] at h8
            obtain ⟨⟨l1, l2⟩, l3⟩ := h8
            have hno1 : h1'.2.1 ≠ o := by omega
            have hf1 : Fr h1' (pnw h1' (.inr (22, [.null, .null, .null])) 3) 1 := Fr.nw (by decide)
            have e1 : rq (pnw h1' (.inr (22, [.null, .null, .null])) 3) o 13 (skp t q) 0 x [.ref x] = rq (pup (pnw h1' (.inr (22, [.null, .null, .null])) 3) h1'.2.1 (.inr (22, [.null, .null, .null]))) o 13 (skp t q) 0 x [.ref x] := by rw [pup_id pnw_same]
            have hin : pCa 217 (d + 39) [.ref h1'.2.1, .null, .ref a1] (rq (pnw h1' (.inr (22, [.null, .null, .null])) 3) o 13 (skp t q) 0 x [.ref x]) = some (.inl none, rq (pup (pnw h1' (.inr (22, [.null, .null, .null])) 3) h1'.2.1 (.inr (22, [.null, .ref a1, .null]))) o 13 (skp t q) 0 x [.ref x]) := by
              rw [e1, kX22_initn (d := d + 37) hno1]
            have fr2 := (q2.tr hf1).pup (q := h1'.2.1) (z := .inr (22, [.null, .ref a1, .null])) q2.1
            refine ⟨h1'.2.1, pup (pnw h1' (.inr (22, [.null, .null, .null])) 3) h1'.2.1 (.inr (22, [.null, .ref a1, .null])), ?_, fr2.wk (by omega), ?_⟩
            · simp (disch := first | assumption | omega | decide | rfl) only [pis_i, pis_l, pis_r, pis_n, p1_i, p1_r, p1_n, p1_u, pw0, pw1, pw2, pw3, pw4, pK_v, pK_0, pK_ite, if_true, if_false, if_pos, if_neg, Nat.reduceAdd, pok_r, i10, i01, Bool.true_or, Bool.or_true, Bool.and_true, Bool.true_and, Nat.add_sub_cancel, i1p1, i1p0, i0p1, i0p0, nIrem2, va_rf_s, bit1, bit0, pinT, pinLT, pin0, nIc, nIcL, nIlt, nIeq, nIltL, nILlt, nIeqL, nILeq, nIadL, nILad, nILmu, nI_add, nIsbL, nI_sub', decide_true, decide_false, Bool.false_or, Bool.or_false, rX13_clause_79, rX13_clause_80, rX13_clause_82, rX13_clause_85, rX13_clause_86, rX13_clause_88, rX13_clause_91, rX13_clause_92, rX13_clause_94, rX13_clause_97, rX13_clause_98, rX13_clause_99, rX13_clause_99n, rX13_clause_100, rX13_clause_103, rX13_clause_106, rX13_clause_109, rX13_clause_112, rX13_clause_112i, rX13_clause_113, rX13_clause_114, rX13_clause_114n, rX13_clause_115, rX13_clause_118, hr_eq ht, l1, l2, l3, rq_21, qO_pnw, qO_pcl hno1, pcl_pnw, hin]
            · refine ⟨q2.1, Nat.lt_succ_self _, .null, .ref a1, pup_same, fun h2' e d g1 g2 g3 => ⟨h1'.2.1, e, a1, rfl, g2, q3 h2' (fun z z1 z2 => ?_), g3⟩⟩
              rw [g1 z z1 (by show z < h1'.2.1 + 1; omega) (by omega), pup_ne (by omega), pnw_ne (by omega)]
    · rw [if_neg h3]
      refine ⟨h.2.1, pnw h (wr (nI (skp t (skp t p + 1)))) 7, skp t (skp t p + 1), 0, ?_, (Fr.nw (by decide)).wk (by omega), pnw_same, by omega⟩
      simp (disch := first | assumption | omega | decide | rfl) only [pis_i, pis_l, pis_r, pis_n, p1_i, p1_r, p1_n, p1_u, pw0, pw1, pw2, pw3, pw4, pK_v, pK_0, pK_ite, if_true, if_false, if_pos, if_neg, Nat.reduceAdd, pok_r, i10, i01, Bool.true_or, Bool.or_true, Bool.and_true, Bool.true_and, Nat.add_sub_cancel, i1p1, i1p0, i0p1, i0p0, nIrem2, va_rf_s, bit1, bit0, pinT, pinLT, pin0, nIc, nIcL, nIlt, nIeq, nIltL, nILlt, nIeqL, nILeq, nIadL, nILad, nILmu, nI_add, nIsbL, nI_sub', decide_true, decide_false, Bool.false_or, Bool.or_false, rX13_clause_0, rX13_clause_1, rX13_clause_4, rX13_clause_5, rX13_clause_6, rX13_clause_7, rX13_clause_9, rX13_clause_12, rX13_clause_13, rX13_clause_16, rX13_clause_17, rX13_clause_20, rX13_clause_21, rX13_clause_22, rX13_clause_25, rX13_clause_26, rX13_clause_27, rX13_clause_28, rX13_clause_30, rX13_clause_33, rX13_clause_34, rX13_clause_37, rX13_clause_38, rX13_clause_41, qCl, hl1, hr_eq ht, h1, htk, hl2, h3, ht0, pK_t]
  · rw [if_neg h1]
    refine ⟨h.2.1, pnw h (wr (nI (skp t p))) 7, skp t p, 0, ?_, (Fr.nw (by decide)).wk (by omega), pnw_same, by omega⟩
    simp (disch := first | assumption | omega | decide | rfl) only [pis_i, pis_l, pis_r, pis_n, p1_i, p1_r, p1_n, p1_u, pw0, pw1, pw2, pw3, pw4, pK_v, pK_0, pK_ite, if_true, if_false, if_pos, if_neg, Nat.reduceAdd, pok_r, i10, i01, Bool.true_or, Bool.or_true, Bool.and_true, Bool.true_and, Nat.add_sub_cancel, i1p1, i1p0, i0p1, i0p0, nIrem2, va_rf_s, bit1, bit0, pinT, pinLT, pin0, nIc, nIcL, nIlt, nIeq, nIltL, nILlt, nIeqL, nILeq, nIadL, nILad, nILmu, nI_add, nIsbL, nI_sub', decide_true, decide_false, Bool.false_or, Bool.or_false, rX13_clause_0, rX13_clause_1, rX13_clause_4, rX13_clause_5, rX13_clause_6, rX13_clause_7, rX13_clause_9, rX13_clause_12, rX13_clause_13, rX13_clause_16, rX13_clause_17, rX13_clause_20, qCl, hlk p hp, hr_eq ht, h1, ht0, pK_t]
end
