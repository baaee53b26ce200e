/-! RULES 4: the component's RuleReader: tests (printed by genr2.py) -/
set_option maxRecDepth 100000
/-- as oG, what was made ahead counted from lo on -/
def oGl {α : Type} (P : pH → α → Nat → Prop) (t : Tp) (x o dp lo : Nat) (h : pH) (p : Nat) (r : Option pO) : QR α → Prop
  | .inl w => ∃ e h' a' dp', r = some (.inr e, rq h' o 13 a' dp' x [.ref x]) ∧ Fr h h' (t.1 - p + 2) ∧ h'.1 e = some (wr (nI w)) ∧ e ≠ o
  | .inr (s, q) => ∃ a h', r = some (.inl (some (.ref a)), rq h' o 13 q dp x [.ref x]) ∧ Fr h h' (q - p) ∧ PS P h' lo h'.2.1 s a
theorem oGl_g {α : Type} {P : pH → α → Nat → Prop} {t : Tp} {x o dp : Nat} {h : pH} {p : Nat} {r : Option pO} {z : QR α} (H : oGl P t x o dp h.2.1 h p r z) : oG P t x o dp h p r z := by
  match z, H with
  | .inl w, H => exact H
  | .inr (s, q), H => exact H
theorem oG_gl {α : Type} {P : pH → α → Nat → Prop} {t : Tp} {x o dp : Nat} {h : pH} {p : Nat} {r : Option pO} {z : QR α} (H : oG P t x o dp h p r z) : oGl P t x o dp h.2.1 h p r z := by
  match z, H with
  | .inl w, H => exact H
  | .inr (s, q), H => exact H
section
variable {h : pH} {o dp x d N p lo a k : Nat} {t : Tp} {s : Sm}
theorem kX13_compares (hs : ∀ h p, RP h x o t N → p ≤ t.1 → oG SmAt t x o dp h p (pCa 198 (d + 11) [.ref o] (rq h o 13 p dp x [.ref x])) (sm t k p)) (hR : RP h x o t N) (hl : lo ≤ h.2.1) (hp : p ≤ t.1) (hP : PS SmAt h lo h.2.1 s a) : oGl TsAt t x o dp lo h p (pCa 201 (d + 12) [.ref o, .ref a] (rq h o 13 p dp x [.ref x])) (cmpP t k s p) := by
  have hq0 : o ≠ x ∧ o ≠ x + 2 := ⟨hR.n0, hR.n2⟩
  have ho := hR.ol
  have ht := hR.X.k
  have ht1 := ht.1
  have hpo : pok 5 13 = true := rfl
  have hno : h.2.1 ≠ o := by omega
  have s1 := skp_le (t := t) (a := p)
  have s2 := skp_t hp
  have hlk := kX5_look (d := d + 10) (dp := dp) (c := 13) (r := [.ref x]) hR.X hq0 hpo hp
  rw [eX13_compares]
  unfold cmpP
  by_cases h1 : isCp t (skp t p) = true
  · rw [if_pos h1]
    have h2 := isCp_lt h1
    have e7 : (nI (t.2 (skp t p))).toInt8.toInt32 = nI (t.2 (skp t p)) := byte7 _ (by omega)
    have htk := kX5_take (d := d + 11) (dp := dp) (c := 13) (r := [.ref x]) hR.X hq0 hpo h2.1
    rw [e7] at htk
    have hf1 : Fr h (pnw h (.inr (20, [.int 0, .null, .null])) 3) 1 := Fr.nw (by decide)
    have hs1 := hs _ (skp t p + 1) (hR.fr hf1) (by omega)
    have ok1 := sm_ok (t := t) k (skp t p + 1) (by omega)
    have go : pR 201 (d + 12) 0 [.ref o, .ref a, pU, pU] [] (rq h o 13 p dp x [.ref x]) = pK 201 (d + 12) 40 3 [.ref o, .ref a, .int (nI (t.2 (skp t p))), .int (nI (t.2 (skp t p)))] [.ref a, .int (nI (t.2 (skp t p))), .ref h.2.1, .ref h.2.1] (pCa 198 (d + 11) [.ref o] (rq (pnw h (.inr (20, [.int 0, .null, .null])) 3) o 13 (skp t p + 1) dp x [.ref x])) := by
      rw [hr_in h2.1] at hlk
      rcases h2.2 with e | e | e <;> simp (disch := first | assumption | omega | decide | rfl) only [pis_i, pis_l, pis_r, pis_n, p1_i, p1_r, p1_n, p1_u, pw0, pw1, pw2, pw3, pw4, pK_v, pK_0, pK_ite, if_true, if_false, if_pos, if_neg, Nat.reduceAdd, pok_r, i10, i01, Bool.true_or, Bool.or_true, Bool.and_true, Bool.true_and, Nat.add_sub_cancel, i1p1, i1p0, i0p1, i0p0, nIrem2, va_rf_s, bit1, bit0, pinT, pinLT, pin0, nIc, nIcL, nIlt, nIeq, nIltL, nILlt, nIeqL, nILeq, nIadL, nILad, nILmu, nI_add, nIsbL, nI_sub', decide_true, decide_false, Bool.false_or, Bool.or_false, rX13_compares_0, rX13_compares_1, rX13_compares_4, rX13_compares_5, rX13_compares_6, rX13_compares_7, rX13_compares_9, rX13_compares_12, rX13_compares_13, rX13_compares_15, rX13_compares_18, rX13_compares_19, rX13_compares_21, rX13_compares_24, rX13_compares_25, rX13_compares_28, rX13_compares_29, rX13_compares_32, rX13_compares_33, rX13_compares_36, rX13_compares_36i, rX13_compares_37, rX13_compares_38, rX13_compares_38n, rX13_compares_39, rX13_compares_40, hlk, e, qCl, htk, rq_21, qO_pnw]
    rw [go]
    generalize sm t k (skp t p + 1) = z at hs1 ok1
    match z, hs1, ok1 with
    | .inl w, ⟨e, h', a', dp', q1, q2, q3, q4⟩, _ =>
      refine ⟨e, h', a', dp', ?_, (hf1.tr q2).wk (by omega), q3, q4⟩
      rw [q1, pK_t rfl]
    | .inr (b, q), ⟨a1, h1', q1, q2, q3⟩, ⟨k1, k2, k3, k4⟩ =>
      have hcell : h1'.1 h.2.1 = some (.inr (20, [.int 0, .null, .null])) := by rw [q2.2.2.2 h.2.1 (Nat.lt_succ_self _)]; exact pnw_same
      have hg1 : h.2.1 + 1 ≤ h1'.2.1 := q2.1
      have fr2 := (hf1.tr q2).pup (q := h.2.1) (z := .inr (20, [.int (nI (t.2 (skp t p))), .ref a, .ref a1])) (Nat.le_refl _)
      have e1 : rq h1' o 13 q dp x [.ref x] = rq (pup h1' h.2.1 (.inr (20, [.int 0, .null, .null]))) o 13 q dp x [.ref x] := by rw [pup_id hcell]
      refine ⟨h.2.1, pup h1' h.2.1 (.inr (20, [.int (nI (t.2 (skp t p))), .ref a, .ref a1])), ?_, fr2.wk (by omega), ?_⟩
      · rw [q1, e1]
        simp (disch := first | assumption | omega | decide | rfl) only [pis_i, pis_l, pis_r, pis_n, p1_i, p1_r, p1_n, p1_u, pw0, pw1, pw2, pw3, pw4, pK_v, pK_0, pK_ite, if_true, if_false, if_pos, if_neg, Nat.reduceAdd, pok_r, i10, i01, Bool.true_or, Bool.or_true, Bool.and_true, Bool.true_and, Nat.add_sub_cancel, i1p1, i1p0, i0p1, i0p0, nIrem2, va_rf_s, bit1, bit0, pinT, pinLT, pin0, nIc, nIcL, nIlt, nIeq, nIltL, nILlt, nIeqL, nILeq, nIadL, nILad, nILmu, nI_add, nIsbL, nI_sub', decide_true, decide_false, Bool.false_or, Bool.or_false, rX13_compares_43, rX13_compares_46, qO_pcl hno, pcl_pup, kX20_init hno]
      · intro h2' g2
        refine ⟨a, a1, ?_, hP h2' (fun z z1 z2 => ?_), q3 h2' (fun z z1 z2 => ?_)⟩
        · rw [g2 h.2.1 hl (by show h.2.1 < h1'.2.1; omega)]; exact pup_same
        · rw [g2 z z1 (by show z < h1'.2.1; omega), fr2.2.2.2 z z2]
        · have z1 : h.2.1 + 1 ≤ z := z1
          rw [g2 z (by omega) z2, pup_ne (by omega)]
  · rw [if_neg h1]
    have ht0 := kX5_take0 (d := d + 3) (a := skp t p) (dp := dp) (x := x) (c := 13) (r := [.ref x]) hpo ho
    simp only [isCp, Bool.or_eq_true, not_or] at h1
    obtain ⟨⟨l1, l2⟩, l3⟩ := h1
    refine ⟨h.2.1, pnw h (wr (nI (skp t p))) 7, skp t p, dp, ?_, (Fr.nw (by decide)).wk (by omega), pnw_same, by omega⟩
    simp (disch := first | assumption | omega | decide | rfl) only [pis_i, pis_l, pis_r, pis_n, p1_i, p1_r, p1_n, p1_u, pw0, pw1, pw2, pw3, pw4, pK_v, pK_0, pK_ite, if_true, if_false, if_pos, if_neg, Nat.reduceAdd, pok_r, i10, i01, Bool.true_or, Bool.or_true, Bool.and_true, Bool.true_and, Nat.add_sub_cancel, i1p1, i1p0, i0p1, i0p0, nIrem2, va_rf_s, bit1, bit0, pinT, pinLT, pin0, nIc, nIcL, nIlt, nIeq, nIltL, nILlt, nIeqL, nILeq, nIadL, nILad, nILmu, nI_add, nIsbL, nI_sub', decide_true, decide_false, Bool.false_or, Bool.or_false, rX13_compares_0, rX13_compares_1, rX13_compares_4, rX13_compares_5, rX13_compares_6, rX13_compares_7, rX13_compares_9, rX13_compares_12, rX13_compares_13, rX13_compares_15, rX13_compares_18, rX13_compares_19, rX13_compares_21, rX13_compares_24, rX13_compares_25, rX13_compares_28, rX13_compares_29, rX13_compares_32, qCl, hlk, hr_eq ht, l1, l2, l3, ht0, pK_t]
theorem okQt_le {t : Tp} {p : Nat} {f : QR Ts} (h : okQt t p f) : ∀ s q, f = .inr (s, q) → p ≤ q ∧ q ≤ t.1 := fun s q e => by subst e; exact ⟨Nat.le_of_lt h.1, h.2.1⟩
theorem ltP_le {sub : Nat → QR Ts} {op : Nat} {all : Bool} (hs : ∀ p, p ≤ t.1 → okQt t p (sub p)) : ∀ n a p, p ≤ t.1 → ∀ {s r}, ltP sub op all t n a p = .inr (s, r) → r ≤ t.1 := by
  intro n
  induction n with
  | zero => intro a p _ s r h; cases h
  | succ n ih =>
    intro a p hp s r h
    have s2 := skp_t hp
    rw [ltP] at h
    by_cases h1 : isC t (skp t p) op = true
    · rw [if_pos h1] at h
      have h2 := isC_lt h1
      have := hs (skp t p + 1) (by omega)
      generalize sub (skp t p + 1) = z at this h
      match z, this, h with
      | .inr (b, q), ⟨r1, r2, r3, r4⟩, h => exact ih _ q r2 h
    · rw [if_neg h1] at h
      cases h
      exact s2
theorem ltP_ge {sub : Nat → QR Ts} {op : Nat} {all : Bool} (hs : ∀ p, p ≤ t.1 → okQt t p (sub p)) : ∀ n a p, p ≤ t.1 → ∀ {s r}, ltP sub op all t n a p = .inr (s, r) → p ≤ r := by
  intro n
  induction n with
  | zero => intro a p _ s r h; cases h
  | succ n ih =>
    intro a p hp s r h
    have s1 := skp_le (t := t) (a := p)
    have s2 := skp_t hp
    rw [ltP] at h
    by_cases h1 : isC t (skp t p) op = true
    · rw [if_pos h1] at h
      have h2 := isC_lt h1
      have := hs (skp t p + 1) (by omega)
      generalize sub (skp t p + 1) = z at this h
      match z, this, h with
      | .inr (b, q), ⟨r1, r2, r3, r4⟩, h => have := ih _ q r2 h; omega
    · rw [if_neg h1] at h
      cases h
      exact s1
theorem thP_le {f : QR Ts} {sub : Nat → QR Ts} {op : Nat} {all : Bool} (hs : ∀ p, p ≤ t.1 → okQt t p (sub p)) (hf : ∀ s q, f = .inr (s, q) → p ≤ q ∧ q ≤ t.1) : ∀ s q, thP f sub op all t = .inr (s, q) → p ≤ q ∧ q ≤ t.1 := by
  intro s q e
  match f, hf, e with
  | .inr (a, r), hf, e =>
    obtain ⟨f1, f2⟩ := hf a r rfl
    have e : ltP sub op all t 201 a r = .inr (s, q) := e
    exact ⟨Nat.le_trans f1 (ltP_ge hs 201 a r f2 e), ltP_le hs 201 a r f2 e⟩
theorem kX13_truth_l {sub : Nat → QR Ts} {v1 : Value} (hs : ∀ h p, RP h x o t N → p ≤ t.1 → oG TsAt t x o dp h p (pCa 197 (d + 11) [.ref o] (rq h o 13 p dp x [.ref x])) (sub p)) (hok : ∀ p, p ≤ t.1 → okQt t p (sub p)) : ∀ n h p a s, RP h x o t N → lo ≤ h.2.1 → p ≤ t.1 → t.1 - p < n → PS TsAt h lo h.2.1 s a → oGl TsAt t x o dp lo h p (pR 196 (d + 12) 17 [.ref o, v1, .ref a] [] (rq h o 13 p dp x [.ref x])) (ltP sub 38 true t n s p) := by
  intro n
  induction n with
  | zero => intro h p a s _ _ _ hn; omega
  | succ n ih =>
    intro h p a s hR hl hp hn hP
    have hq0 : o ≠ x ∧ o ≠ x + 2 := ⟨hR.n0, hR.n2⟩
    have ho := hR.ol
    have ht := hR.X.k
    have ht1 := ht.1
    have hpo : pok 5 13 = true := rfl
    have s1 := skp_le (t := t) (a := p)
    have s2 := skp_t hp
    have hlk := kX5_look (d := d + 10) (dp := dp) (c := 13) (r := [.ref x]) hR.X hq0 hpo hp
    rw [ltP]
    by_cases h1 : isC t (skp t p) 38 = true
    · rw [if_pos h1]
      have h2 := isC_lt h1
      have hf1 : Fr h (pnw h (.inr (21, [.int 0, .null, .null])) 3) 1 := Fr.nw (by decide)
      have hs1 := hs _ (skp t p + 1) (hR.fr hf1) (by omega)
      have ok1 := hok (skp t p + 1) (by omega)
      have hno : h.2.1 ≠ o := by omega
      have go : pR 196 (d + 12) 17 [.ref o, v1, .ref a] [] (rq h o 13 p dp x [.ref x]) = pK 196 (d + 12) 43 3 [.ref o, v1, .ref a] [.ref a, .int 1, .ref h.2.1, .ref h.2.1] (pCa 197 (d + 11) [.ref o] (rq (pnw h (.inr (21, [.int 0, .null, .null])) 3) o 13 (skp t p + 1) dp x [.ref x])) := by
        rw [rX13_truth_17]
        simp (disch := first | assumption | omega | decide | rfl) only [pis_i, pis_l, pis_r, pis_n, p1_i, p1_r, p1_n, p1_u, pw0, pw1, pw2, pw3, pw4, pK_v, pK_0, pK_ite, if_true, if_false, if_pos, if_neg, Nat.reduceAdd, pok_r, i10, i01, Bool.true_or, Bool.or_true, Bool.and_true, Bool.true_and, Nat.add_sub_cancel, i1p1, i1p0, i0p1, i0p0, nIrem2, va_rf_s, bit1, bit0, pinT, pinLT, pin0, nIc, nIcL, nIlt, nIeq, nIltL, nILlt, nIeqL, nILeq, nIadL, nILad, nILmu, nI_add, nIsbL, nI_sub', decide_true, decide_false, Bool.false_or, Bool.or_false, rX13_truth_18, rX13_truth_21, rX13_truth_23, rX13_truth_26, rX13_truth_27, rX13_truth_27i, rX13_truth_28, rX13_truth_31, rX13_truth_32, rX13_truth_33, rX13_truth_36, rX13_truth_39, rX13_truth_39i, rX13_truth_40, rX13_truth_41, rX13_truth_41n, rX13_truth_42, rX13_truth_43, qCl, hlk, hr_eq ht, h1, qF0, qP0, rq_21, qO_pnw]
      rw [go]
      generalize sub (skp t p + 1) = z at hs1 ok1
      match z, hs1, ok1 with
      | .inl w, ⟨e, h', a', dp', q1, q2, q3, q4⟩, _ =>
        refine ⟨e, h', a', dp', ?_, (hf1.tr q2).wk (by omega), q3, q4⟩
        rw [q1, pK_t rfl]
      | .inr (b, q), ⟨a1, h1', q1, q2, q3⟩, ⟨k1, k2, k3, k4⟩ =>
        have hcell : h1'.1 h.2.1 = some (.inr (21, [.int 0, .null, .null])) := by rw [q2.2.2.2 h.2.1 (Nat.lt_succ_self _)]; exact pnw_same
        have hg1 : h.2.1 + 1 ≤ h1'.2.1 := q2.1
        have fr2 := (hf1.tr q2).pup (q := h.2.1) (z := .inr (21, [.int 1, .ref a, .ref a1])) (Nat.le_refl _)
        have hR2 := hR.fr fr2
        have hP3 : PS TsAt (pup h1' h.2.1 (.inr (21, [.int 1, .ref a, .ref a1]))) lo (pup h1' h.2.1 (.inr (21, [.int 1, .ref a, .ref a1]))).2.1 (.bo true s b) h.2.1 := by
          intro h2 g2
          refine ⟨a, a1, ?_, hP h2 (fun z z1 z2 => ?_), q3 h2 (fun z z1 z2 => ?_)⟩
          · rw [g2 h.2.1 hl (by show h.2.1 < h1'.2.1; omega)]; exact pup_same
          · rw [g2 z z1 (by show z < h1'.2.1; omega), fr2.2.2.2 z z2]
          · have z1 : h.2.1 + 1 ≤ z := z1
            rw [g2 z (by omega) z2, pup_ne (by omega)]
        have hi := ih (pup h1' h.2.1 (.inr (21, [.int 1, .ref a, .ref a1]))) q h.2.1 (.bo true s b) hR2 (by show lo ≤ h1'.2.1; omega) k2 (by omega) hP3
        have e1 : rq h1' o 13 q dp x [.ref x] = rq (pup h1' h.2.1 (.inr (21, [.int 0, .null, .null]))) o 13 q dp x [.ref x] := by rw [pup_id hcell]
        have go2 : pK 196 (d + 12) 43 3 [.ref o, v1, .ref a] [.ref a, .int 1, .ref h.2.1, .ref h.2.1] (some (.inl (some (.ref a1)), rq h1' o 13 q dp x [.ref x])) = pR 196 (d + 12) 17 [.ref o, v1, .ref h.2.1] [] (rq (pup h1' h.2.1 (.inr (21, [.int 1, .ref a, .ref a1]))) o 13 q dp x [.ref x]) := by
          rw [e1]
          simp (disch := first | assumption | omega | decide | rfl) only [pis_i, pis_l, pis_r, pis_n, p1_i, p1_r, p1_n, p1_u, pw0, pw1, pw2, pw3, pw4, pK_v, pK_0, pK_ite, if_true, if_false, if_pos, if_neg, Nat.reduceAdd, pok_r, i10, i01, Bool.true_or, Bool.or_true, Bool.and_true, Bool.true_and, Nat.add_sub_cancel, i1p1, i1p0, i0p1, i0p0, nIrem2, va_rf_s, bit1, bit0, pinT, pinLT, pin0, nIc, nIcL, nIlt, nIeq, nIltL, nILlt, nIeqL, nILeq, nIadL, nILad, nILmu, nI_add, nIsbL, nI_sub', decide_true, decide_false, Bool.false_or, Bool.or_false, rX13_truth_46, rX13_truth_49, rX13_truth_49n, rX13_truth_50, qO_pcl hno, pcl_pup, kX21_init1 hno]
        rw [q1, go2]
        show oGl TsAt t x o dp lo h p _ (ltP sub 38 true t n (.bo true s b) q)
        have okq : ∀ s' r, ltP sub 38 true t n (.bo true s b) q = .inr (s', r) → q ≤ r := fun s' r e => ltP_ge hok n _ q k2 e
        generalize ltP sub 38 true t n (.bo true s b) q = y at hi okq
        match y, hi, okq with
        | .inl w, ⟨e, h', a', dp', r1, r2, r3, r4⟩, _ => exact ⟨e, h', a', dp', r1, (fr2.tr r2).wk (by omega), r3, r4⟩
        | .inr (s', q'), ⟨a2, h', r1, r2, r3⟩, okq =>
          have := okq s' q' rfl
          exact ⟨a2, h', r1, (fr2.tr r2).wk (by omega), r3⟩
    · rw [if_neg h1]
      refine ⟨a, h, ?_, Fr.rf, hP⟩
      rw [rX13_truth_17]
      simp (disch := first | assumption | omega | decide | rfl) only [pis_i, pis_l, pis_r, pis_n, p1_i, p1_r, p1_n, p1_u, pw0, pw1, pw2, pw3, pw4, pK_v, pK_0, pK_ite, if_true, if_false, if_pos, if_neg, Nat.reduceAdd, pok_r, i10, i01, Bool.true_or, Bool.or_true, Bool.and_true, Bool.true_and, Nat.add_sub_cancel, i1p1, i1p0, i0p1, i0p0, nIrem2, va_rf_s, bit1, bit0, pinT, pinLT, pin0, nIc, nIcL, nIlt, nIeq, nIltL, nILlt, nIeqL, nILeq, nIadL, nILad, nILmu, nI_add, nIsbL, nI_sub', decide_true, decide_false, Bool.false_or, Bool.or_false, rX13_truth_18, rX13_truth_21, rX13_truth_23, rX13_truth_26, rX13_truth_27, rX13_truth_27i, rX13_truth_28, rX13_truth_31, rX13_truth_32, rX13_truth_33, rX13_truth_36, rX13_truth_39, rX13_truth_39i, rX13_truth_40, rX13_truth_41, rX13_truth_41n, rX13_truth_42, rX13_truth_43, rX13_truth_46, rX13_truth_49, rX13_truth_49n, rX13_truth_50, rX13_truth_53, rX13_truth_53n, rX13_truth_54, qCl, hlk, hr_eq ht, h1]
/-- behind the first part -/
theorem kX13_truth_th {sub : Nat → QR Ts} {v1 : Value} {f : QR Ts} {r1 : Option pO} {R : Option pO} (hs : ∀ h p, RP h x o t N → p ≤ t.1 → oG TsAt t x o dp h p (pCa 197 (d + 11) [.ref o] (rq h o 13 p dp x [.ref x])) (sub p)) (hok : ∀ p, p ≤ t.1 → okQt t p (sub p)) (hR : RP h x o t N) (hl : lo ≤ h.2.1) (hf : oGl TsAt t x o dp lo h p r1 f) (hfo : ∀ s q, f = .inr (s, q) → p ≤ q ∧ q ≤ t.1)
    (he : ∀ e h', r1 = some (.inr e, h') → R = some (.inr e, h')) (hv : ∀ a h', r1 = some (.inl (some (.ref a)), h') → R = pR 196 (d + 12) 17 [.ref o, v1, .ref a] [] h') : oGl TsAt t x o dp lo h p R (thP f sub 38 true t) := by
  have ht1 := hR.X.k.1
  unfold thP
  match f, hf, hfo with
  | .inl w, ⟨e, h', a', dp', q1, q2, q3, q4⟩, _ => exact ⟨e, h', a', dp', he _ _ q1, q2, q3, q4⟩
  | .inr (s, q), ⟨a1, h1', q1, q2, q3⟩, hfo =>
    obtain ⟨k1, k2⟩ := hfo s q rfl
    have hR1 := hR.fr q2
    have hi := kX13_truth_l (lo := lo) (v1 := v1) (d := d) hs hok 201 h1' q a1 s hR1 (by have := q2.1; omega) k2 (by omega) q3
    have okq : ∀ s' r, ltP sub 38 true t 201 s q = .inr (s', r) → q ≤ r := fun s' r e => ltP_ge hok 201 _ q k2 e
    rw [hv _ _ q1]
    show oGl TsAt t x o dp lo h p _ (ltP sub 38 true t 201 s q)
    generalize ltP sub 38 true t 201 s q = y at hi okq
    match y, hi, okq with
    | .inl w, ⟨e, h', a', dp', r1, r2, r3, r4⟩, _ => exact ⟨e, h', a', dp', r1, (q2.tr r2).wk (by omega), r3, r4⟩
    | .inr (s', q'), ⟨a2, h', r1, r2, r3⟩, okq =>
      have := okq s' q' rfl
      exact ⟨a2, h', r1, (q2.tr r2).wk (by omega), r3⟩
theorem kX13_condition_l {sub : Nat → QR Ts} {v1 : Value} (hs : ∀ h p, RP h x o t N → p ≤ t.1 → oG TsAt t x o dp h p (pCa 196 (d + 11) [.ref o, .null] (rq h o 13 p dp x [.ref x])) (sub p)) (hok : ∀ p, p ≤ t.1 → okQt t p (sub p)) : ∀ n h p a s, RP h x o t N → lo ≤ h.2.1 → p ≤ t.1 → t.1 - p < n → PS TsAt h lo h.2.1 s a → oGl TsAt t x o dp lo h p (pR 195 (d + 12) 6 [.ref o, v1, .ref a] [] (rq h o 13 p dp x [.ref x])) (ltP sub 124 false t n s p) := by
  intro n
  induction n with
  | zero => intro h p a s _ _ _ hn; omega
  | succ n ih =>
    intro h p a s hR hl hp hn hP
    have hq0 : o ≠ x ∧ o ≠ x + 2 := ⟨hR.n0, hR.n2⟩
    have ho := hR.ol
    have ht := hR.X.k
    have ht1 := ht.1
    have hpo : pok 5 13 = true := rfl
    have s1 := skp_le (t := t) (a := p)
    have s2 := skp_t hp
    have hlk := kX5_look (d := d + 10) (dp := dp) (c := 13) (r := [.ref x]) hR.X hq0 hpo hp
    rw [ltP]
    by_cases h1 : isC t (skp t p) 124 = true
    · rw [if_pos h1]
      have h2 := isC_lt h1
      have hf1 : Fr h (pnw h (.inr (21, [.int 0, .null, .null])) 3) 1 := Fr.nw (by decide)
      have hs1 := hs _ (skp t p + 1) (hR.fr hf1) (by omega)
      have ok1 := hok (skp t p + 1) (by omega)
      have hno : h.2.1 ≠ o := by omega
      have go : pR 195 (d + 12) 6 [.ref o, v1, .ref a] [] (rq h o 13 p dp x [.ref x]) = pK 195 (d + 12) 33 3 [.ref o, v1, .ref a] [.ref a, .int 0, .ref h.2.1, .ref h.2.1] (pCa 196 (d + 11) [.ref o, .null] (rq (pnw h (.inr (21, [.int 0, .null, .null])) 3) o 13 (skp t p + 1) dp x [.ref x])) := by
        rw [rX13_condition_6]
        simp (disch := first | assumption | omega | decide | rfl) only [pis_i, pis_l, pis_r, pis_n, p1_i, p1_r, p1_n, p1_u, pw0, pw1, pw2, pw3, pw4, pK_v, pK_0, pK_ite, if_true, if_false, if_pos, if_neg, Nat.reduceAdd, pok_r, i10, i01, Bool.true_or, Bool.or_true, Bool.and_true, Bool.true_and, Nat.add_sub_cancel, i1p1, i1p0, i0p1, i0p0, nIrem2, va_rf_s, bit1, bit0, pinT, pinLT, pin0, nIc, nIcL, nIlt, nIeq, nIltL, nILlt, nIeqL, nILeq, nIadL, nILad, nILmu, nI_add, nIsbL, nI_sub', decide_true, decide_false, Bool.false_or, Bool.or_false, rX13_condition_7, rX13_condition_10, rX13_condition_12, rX13_condition_15, rX13_condition_16, rX13_condition_16i, rX13_condition_17, rX13_condition_20, rX13_condition_21, rX13_condition_22, rX13_condition_25, rX13_condition_28, rX13_condition_28i, rX13_condition_29, rX13_condition_30, rX13_condition_30n, rX13_condition_31, rX13_condition_32, rX13_condition_33, qCl, hlk, hr_eq ht, h1, qF0, qP0, rq_21, qO_pnw]
      rw [go]
      generalize sub (skp t p + 1) = z at hs1 ok1
      match z, hs1, ok1 with
      | .inl w, ⟨e, h', a', dp', q1, q2, q3, q4⟩, _ =>
        refine ⟨e, h', a', dp', ?_, (hf1.tr q2).wk (by omega), q3, q4⟩
        rw [q1, pK_t rfl]
      | .inr (b, q), ⟨a1, h1', q1, q2, q3⟩, ⟨k1, k2, k3, k4⟩ =>
        have hcell : h1'.1 h.2.1 = some (.inr (21, [.int 0, .null, .null])) := by rw [q2.2.2.2 h.2.1 (Nat.lt_succ_self _)]; exact pnw_same
        have hg1 : h.2.1 + 1 ≤ h1'.2.1 := q2.1
        have fr2 := (hf1.tr q2).pup (q := h.2.1) (z := .inr (21, [.int 0, .ref a, .ref a1])) (Nat.le_refl _)
        have hR2 := hR.fr fr2
        have hP3 : PS TsAt (pup h1' h.2.1 (.inr (21, [.int 0, .ref a, .ref a1]))) lo (pup h1' h.2.1 (.inr (21, [.int 0, .ref a, .ref a1]))).2.1 (.bo false s b) h.2.1 := by
          intro h2 g2
          refine ⟨a, a1, ?_, hP h2 (fun z z1 z2 => ?_), q3 h2 (fun z z1 z2 => ?_)⟩
          · rw [g2 h.2.1 hl (by show h.2.1 < h1'.2.1; omega)]; exact pup_same
          · rw [g2 z z1 (by show z < h1'.2.1; omega), fr2.2.2.2 z z2]
          · have z1 : h.2.1 + 1 ≤ z := z1
            rw [g2 z (by omega) z2, pup_ne (by omega)]
        have hi := ih (pup h1' h.2.1 (.inr (21, [.int 0, .ref a, .ref a1]))) q h.2.1 (.bo false s b) hR2 (by show lo ≤ h1'.2.1; omega) k2 (by omega) hP3
        have e1 : rq h1' o 13 q dp x [.ref x] = rq (pup h1' h.2.1 (.inr (21, [.int 0, .null, .null]))) o 13 q dp x [.ref x] := by rw [pup_id hcell]
        have go2 : pK 195 (d + 12) 33 3 [.ref o, v1, .ref a] [.ref a, .int 0, .ref h.2.1, .ref h.2.1] (some (.inl (some (.ref a1)), rq h1' o 13 q dp x [.ref x])) = pR 195 (d + 12) 6 [.ref o, v1, .ref h.2.1] [] (rq (pup h1' h.2.1 (.inr (21, [.int 0, .ref a, .ref a1]))) o 13 q dp x [.ref x]) := by
          rw [e1]
          simp (disch := first | assumption | omega | decide | rfl) only [pis_i, pis_l, pis_r, pis_n, p1_i, p1_r, p1_n, p1_u, pw0, pw1, pw2, pw3, pw4, pK_v, pK_0, pK_ite, if_true, if_false, if_pos, if_neg, Nat.reduceAdd, pok_r, i10, i01, Bool.true_or, Bool.or_true, Bool.and_true, Bool.true_and, Nat.add_sub_cancel, i1p1, i1p0, i0p1, i0p0, nIrem2, va_rf_s, bit1, bit0, pinT, pinLT, pin0, nIc, nIcL, nIlt, nIeq, nIltL, nILlt, nIeqL, nILeq, nIadL, nILad, nILmu, nI_add, nIsbL, nI_sub', decide_true, decide_false, Bool.false_or, Bool.or_false, rX13_condition_36, rX13_condition_39, rX13_condition_39n, rX13_condition_40, qO_pcl hno, pcl_pup, kX21_init0 hno]
        rw [q1, go2]
        show oGl TsAt t x o dp lo h p _ (ltP sub 124 false t n (.bo false s b) q)
        have okq : ∀ s' r, ltP sub 124 false t n (.bo false s b) q = .inr (s', r) → q ≤ r := fun s' r e => ltP_ge hok n _ q k2 e
        generalize ltP sub 124 false t n (.bo false s b) q = y at hi okq
        match y, hi, okq with
        | .inl w, ⟨e, h', a', dp', r1, r2, r3, r4⟩, _ => exact ⟨e, h', a', dp', r1, (fr2.tr r2).wk (by omega), r3, r4⟩
        | .inr (s', q'), ⟨a2, h', r1, r2, r3⟩, okq =>
          have := okq s' q' rfl
          exact ⟨a2, h', r1, (fr2.tr r2).wk (by omega), r3⟩
    · rw [if_neg h1]
      refine ⟨a, h, ?_, Fr.rf, hP⟩
      rw [rX13_condition_6]
      simp (disch := first | assumption | omega | decide | rfl) only [pis_i, pis_l, pis_r, pis_n, p1_i, p1_r, p1_n, p1_u, pw0, pw1, pw2, pw3, pw4, pK_v, pK_0, pK_ite, if_true, if_false, if_pos, if_neg, Nat.reduceAdd, pok_r, i10, i01, Bool.true_or, Bool.or_true, Bool.and_true, Bool.true_and, Nat.add_sub_cancel, i1p1, i1p0, i0p1, i0p0, nIrem2, va_rf_s, bit1, bit0, pinT, pinLT, pin0, nIc, nIcL, nIlt, nIeq, nIltL, nILlt, nIeqL, nILeq, nIadL, nILad, nILmu, nI_add, nIsbL, nI_sub', decide_true, decide_false, Bool.false_or, Bool.or_false, rX13_condition_7, rX13_condition_10, rX13_condition_12, rX13_condition_15, rX13_condition_16, rX13_condition_16i, rX13_condition_17, rX13_condition_20, rX13_condition_21, rX13_condition_22, rX13_condition_25, rX13_condition_28, rX13_condition_28i, rX13_condition_29, rX13_condition_30, rX13_condition_30n, rX13_condition_31, rX13_condition_32, rX13_condition_33, rX13_condition_36, rX13_condition_39, rX13_condition_39n, rX13_condition_40, rX13_condition_43, rX13_condition_43n, rX13_condition_44, qCl, hlk, hr_eq ht, h1]
/-- behind the first part -/
theorem kX13_condition_th {sub : Nat → QR Ts} {v1 : Value} {f : QR Ts} {r1 : Option pO} {R : Option pO} (hs : ∀ h p, RP h x o t N → p ≤ t.1 → oG TsAt t x o dp h p (pCa 196 (d + 11) [.ref o, .null] (rq h o 13 p dp x [.ref x])) (sub p)) (hok : ∀ p, p ≤ t.1 → okQt t p (sub p)) (hR : RP h x o t N) (hl : lo ≤ h.2.1) (hf : oGl TsAt t x o dp lo h p r1 f) (hfo : ∀ s q, f = .inr (s, q) → p ≤ q ∧ q ≤ t.1)
    (he : ∀ e h', r1 = some (.inr e, h') → R = some (.inr e, h')) (hv : ∀ a h', r1 = some (.inl (some (.ref a)), h') → R = pR 195 (d + 12) 6 [.ref o, v1, .ref a] [] h') : oGl TsAt t x o dp lo h p R (thP f sub 124 false t) := by
  have ht1 := hR.X.k.1
  unfold thP
  match f, hf, hfo with
  | .inl w, ⟨e, h', a', dp', q1, q2, q3, q4⟩, _ => exact ⟨e, h', a', dp', he _ _ q1, q2, q3, q4⟩
  | .inr (s, q), ⟨a1, h1', q1, q2, q3⟩, hfo =>
    obtain ⟨k1, k2⟩ := hfo s q rfl
    have hR1 := hR.fr q2
    have hi := kX13_condition_l (lo := lo) (v1 := v1) (d := d) hs hok 201 h1' q a1 s hR1 (by have := q2.1; omega) k2 (by omega) q3
    have okq : ∀ s' r, ltP sub 124 false t 201 s q = .inr (s', r) → q ≤ r := fun s' r e => ltP_ge hok 201 _ q k2 e
    rw [hv _ _ q1]
    show oGl TsAt t x o dp lo h p _ (ltP sub 124 false t 201 s q)
    generalize ltP sub 124 false t 201 s q = y at hi okq
    match y, hi, okq with
    | .inl w, ⟨e, h', a', dp', r1, r2, r3, r4⟩, _ => exact ⟨e, h', a', dp', r1, (q2.tr r2).wk (by omega), r3, r4⟩
    | .inr (s', q'), ⟨a2, h', r1, r2, r3⟩, okq =>
      have := okq s' q' rfl
      exact ⟨a2, h', r1, (q2.tr r2).wk (by omega), r3⟩
theorem kX13_truthn {u : Nat → QR Ts} (hs : ∀ h p, RP h x o t N → p ≤ t.1 → oG TsAt t x o dp h p (pCa 197 (d + 11) [.ref o] (rq h o 13 p dp x [.ref x])) (u p)) (hok : ∀ p, p ≤ t.1 → okQt t p (u p)) (hR : RP h x o t N) (hp : p ≤ t.1) : oG TsAt t x o dp h p (pCa 196 (d + 12) [.ref o, .null] (rq h o 13 p dp x [.ref x])) (trtP u t p) := by
  refine oGl_g (kX13_truth_th (v1 := .null) hs hok hR (Nat.le_refl _) (oG_gl (hs h p hR hp)) (okQt_le (hok p hp)) (fun e h' q => ?_) (fun a h' q => ?_))
  · rw [eX13_truthn]
    simp (disch := first | assumption | omega | decide | rfl) only [pis_i, pis_l, pis_r, pis_n, p1_i, p1_r, p1_n, p1_u, pw0, pw1, pw2, pw3, pw4, pK_v, pK_0, pK_ite, if_true, if_false, if_pos, if_neg, Nat.reduceAdd, pok_r, i10, i01, Bool.true_or, Bool.or_true, Bool.and_true, Bool.true_and, Nat.add_sub_cancel, i1p1, i1p0, i0p1, i0p0, nIrem2, va_rf_s, bit1, bit0, pinT, pinLT, pin0, nIc, nIcL, nIlt, nIeq, nIltL, nILlt, nIeqL, nILeq, nIadL, nILad, nILmu, nI_add, nIsbL, nI_sub', decide_true, decide_false, Bool.false_or, Bool.or_false, rX13_truth_0, rX13_truth_0n, rX13_truth_1n, rX13_truth_1, rX13_truth_4, rX13_truth_5, rX13_truth_8, rX13_truth_11, rX13_truth_12, rX13_truth_12n, rX13_truth_13, rX13_truth_16, rX13_truth_16n, qCl, q, pK_t]
  · rw [eX13_truthn]
    simp (disch := first | assumption | omega | decide | rfl) only [pis_i, pis_l, pis_r, pis_n, p1_i, p1_r, p1_n, p1_u, pw0, pw1, pw2, pw3, pw4, pK_v, pK_0, pK_ite, if_true, if_false, if_pos, if_neg, Nat.reduceAdd, pok_r, i10, i01, Bool.true_or, Bool.or_true, Bool.and_true, Bool.true_and, Nat.add_sub_cancel, i1p1, i1p0, i0p1, i0p0, nIrem2, va_rf_s, bit1, bit0, pinT, pinLT, pin0, nIc, nIcL, nIlt, nIeq, nIltL, nILlt, nIeqL, nILeq, nIadL, nILad, nILmu, nI_add, nIsbL, nI_sub', decide_true, decide_false, Bool.false_or, Bool.or_false, rX13_truth_0, rX13_truth_0n, rX13_truth_1n, rX13_truth_1, rX13_truth_4, rX13_truth_5, rX13_truth_8, rX13_truth_11, rX13_truth_12, rX13_truth_12n, rX13_truth_13, rX13_truth_16, rX13_truth_16n, qCl, q]
theorem kX13_truthr {u : Nat → QR Ts} {k : Nat} (hs : ∀ h p, RP h x o t N → p ≤ t.1 → oG TsAt t x o dp h p (pCa 197 (d + 12) [.ref o] (rq h o 13 p dp x [.ref x])) (u p)) (hok : ∀ p, p ≤ t.1 → okQt t p (u p)) (hsm : ∀ h p, RP h x o t N → p ≤ t.1 → oG SmAt t x o dp h p (pCa 198 (d + 11) [.ref o] (rq h o 13 p dp x [.ref x])) (sm t k p)) (hR : RP h x o t N) (hl : lo ≤ h.2.1) (hp : p ≤ t.1) (hP : PS SmAt h lo h.2.1 s a) (hco : ∀ y q, cmpP t k s p = .inr (y, q) → p ≤ q ∧ q ≤ t.1) : oGl TsAt t x o dp lo h p (pCa 196 (d + 13) [.ref o, .ref a] (rq h o 13 p dp x [.ref x])) (thP (cmpP t k s p) u 38 true t) := by
  refine kX13_truth_th (d := d + 1) (v1 := .ref a) hs hok hR hl (kX13_compares hsm hR hl hp hP) hco (fun e h' q => ?_) (fun a h' q => ?_)
  · rw [eX13_truth]
    simp (disch := first | assumption | omega | decide | rfl) only [pis_i, pis_l, pis_r, pis_n, p1_i, p1_r, p1_n, p1_u, pw0, pw1, pw2, pw3, pw4, pK_v, pK_0, pK_ite, if_true, if_false, if_pos, if_neg, Nat.reduceAdd, pok_r, i10, i01, Bool.true_or, Bool.or_true, Bool.and_true, Bool.true_and, Nat.add_sub_cancel, i1p1, i1p0, i0p1, i0p0, nIrem2, va_rf_s, bit1, bit0, pinT, pinLT, pin0, nIc, nIcL, nIlt, nIeq, nIltL, nILlt, nIeqL, nILeq, nIadL, nILad, nILmu, nI_add, nIsbL, nI_sub', decide_true, decide_false, Bool.false_or, Bool.or_false, rX13_truth_0, rX13_truth_0n, rX13_truth_1n, rX13_truth_1, rX13_truth_4, rX13_truth_5, rX13_truth_8, rX13_truth_11, rX13_truth_12, rX13_truth_12n, rX13_truth_13, rX13_truth_16, rX13_truth_16n, qCl, q, pK_t]
  · rw [eX13_truth]
    simp (disch := first | assumption | omega | decide | rfl) only [pis_i, pis_l, pis_r, pis_n, p1_i, p1_r, p1_n, p1_u, pw0, pw1, pw2, pw3, pw4, pK_v, pK_0, pK_ite, if_true, if_false, if_pos, if_neg, Nat.reduceAdd, pok_r, i10, i01, Bool.true_or, Bool.or_true, Bool.and_true, Bool.true_and, Nat.add_sub_cancel, i1p1, i1p0, i0p1, i0p0, nIrem2, va_rf_s, bit1, bit0, pinT, pinLT, pin0, nIc, nIcL, nIlt, nIeq, nIltL, nILlt, nIeqL, nILeq, nIadL, nILad, nILmu, nI_add, nIsbL, nI_sub', decide_true, decide_false, Bool.false_or, Bool.or_false, rX13_truth_0, rX13_truth_0n, rX13_truth_1n, rX13_truth_1, rX13_truth_4, rX13_truth_5, rX13_truth_8, rX13_truth_11, rX13_truth_12, rX13_truth_12n, rX13_truth_13, rX13_truth_16, rX13_truth_16n, qCl, q]
theorem kX13_conditionn {u : Nat → QR Ts} (hs : ∀ h p, RP h x o t N → p ≤ t.1 → oG TsAt t x o dp h p (pCa 197 (d + 11) [.ref o] (rq h o 13 p dp x [.ref x])) (u p)) (hok : ∀ p, p ≤ t.1 → okQt t p (u p)) (hR : RP h x o t N) (hp : p ≤ t.1) : oG TsAt t x o dp h p (pCa 195 (d + 13) [.ref o, .null] (rq h o 13 p dp x [.ref x])) (conP u t p) := by
  refine oGl_g (kX13_condition_th (d := d + 1) (v1 := .null) (fun h p hR hp => kX13_truthn hs hok hR hp) (fun p hp => trtP_ok hok hp) hR (Nat.le_refl _) (oG_gl (kX13_truthn hs hok hR hp)) (okQt_le (trtP_ok hok hp)) (fun e h' q => ?_) (fun a h' q => ?_))
  · rw [eX13_conditionn]
    simp (disch := first | assumption | omega | decide | rfl) only [pis_i, pis_l, pis_r, pis_n, p1_i, p1_r, p1_n, p1_u, pw0, pw1, pw2, pw3, pw4, pK_v, pK_0, pK_ite, if_true, if_false, if_pos, if_neg, Nat.reduceAdd, pok_r, i10, i01, Bool.true_or, Bool.or_true, Bool.and_true, Bool.true_and, Nat.add_sub_cancel, i1p1, i1p0, i0p1, i0p0, nIrem2, va_rf_s, bit1, bit0, pinT, pinLT, pin0, nIc, nIcL, nIlt, nIeq, nIltL, nILlt, nIeqL, nILeq, nIadL, nILad, nILmu, nI_add, nIsbL, nI_sub', decide_true, decide_false, Bool.false_or, Bool.or_false, rX13_condition_0, rX13_condition_1, rX13_condition_1n, rX13_condition_2, rX13_condition_5, rX13_condition_5n, qCl, q, pK_t]
  · rw [eX13_conditionn]
    simp (disch := first | assumption | omega | decide | rfl) only [pis_i, pis_l, pis_r, pis_n, p1_i, p1_r, p1_n, p1_u, pw0, pw1, pw2, pw3, pw4, pK_v, pK_0, pK_ite, if_true, if_false, if_pos, if_neg, Nat.reduceAdd, pok_r, i10, i01, Bool.true_or, Bool.or_true, Bool.and_true, Bool.true_and, Nat.add_sub_cancel, i1p1, i1p0, i0p1, i0p0, nIrem2, va_rf_s, bit1, bit0, pinT, pinLT, pin0, nIc, nIcL, nIlt, nIeq, nIltL, nILlt, nIeqL, nILeq, nIadL, nILad, nILmu, nI_add, nIsbL, nI_sub', decide_true, decide_false, Bool.false_or, Bool.or_false, rX13_condition_0, rX13_condition_1, rX13_condition_1n, rX13_condition_2, rX13_condition_5, rX13_condition_5n, qCl, q]
end
