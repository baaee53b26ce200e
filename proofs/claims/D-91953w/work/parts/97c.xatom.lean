/-! RULES 3: the component's RuleReader: atoms, sums of all levels -/
set_option maxRecDepth 100000
section
variable {h : pH} {o dp x d N p : Nat} {t : Tp}
def CS (x o N : Nat) (t : Tp) (dp D : Nat) : Option (Nat → QR Sm) → Prop
  | none => dp = 6
  | some f => dp < 6 ∧ (∀ p, p ≤ t.1 → okQs t p (f p)) ∧ ∀ h p, RP h x o t N → p ≤ t.1 → oG SmAt t x o (dp + 1) h p (pCa 198 D [.ref o] (rq h o 13 p (dp + 1) x [.ref x])) (f p)
theorem atom_n (hR : RP h x o t N) {bb : Int32} : ∀ n c v p, c ≤ 4 → p ≤ t.1 → v < 10 ^ c → 5 ≤ n + c → (match numL t n c v p with
    | .inl w => ∃ a', pR 200 (d + 11) 91 [.ref o, .int bb, .int (nI v), .int (nI c)] [] (rq h o 13 p dp x [.ref x]) = some (.inr h.2.1, rq (pnw h (wr (nI w)) 7) o 13 a' dp x [.ref x])
    | .inr (u, q) => pR 200 (d + 11) 91 [.ref o, .int bb, .int (nI v), .int (nI c)] [] (rq h o 13 p dp x [.ref x]) = some (.inl (some (.ref h.2.1)), rq (pnw h (.inr (18, [.int (nI u)])) 1) o 13 q dp x [.ref x])) := by
  have hq0 : o ≠ x ∧ o ≠ x + 2 := ⟨hR.n0, hR.n2⟩
  have ho := hR.ol
  have ht := hR.X.k
  have ht1 := ht.1
  have hpo : pok 5 13 = true := rfl
  have hno : h.2.1 ≠ o := by omega
  have hdg : ∀ a, a < 1000 → pCa 173 (d + 10) [.ref o] (rq h o 13 a dp x [.ref x]) = if dg t a = true then some (.inl (some (.int 1)), rq h o 13 a dp x [.ref x]) else some (.inl (some (.int 0)), rq h o 13 a dp x [.ref x]) := fun a ha => kX5_isDigit (d := d + 9) hR.X hq0 hpo ha
  intro n
  induction n with
  | zero => intro c v p hc _ _ hn; omega
  | succ n ih =>
    intro c v p hc hp hv hn
    have hp4 : 10 ^ c ≤ 10 ^ 4 := Nat.pow_le_pow_right (by decide) hc
    rw [numL, rX13_atom_91]
    by_cases h1 : dg t p = true
    · rw [if_pos h1]
      have h2 := inC_lt h1
      by_cases h3 : c < 4
      · rw [if_pos h3]
        have e7 : (nI (t.2 p)).toInt8.toInt32 = nI (t.2 p) := byte7 _ (by omega)
        have htk := kX5_take (d := d + 10) (dp := dp) (c := 13) (r := [.ref x]) hR.X hq0 hpo h2.1
        rw [e7] at htk
        have hi := ih (c + 1) (10 * v + (t.2 p - 48)) (p + 1) (by omega) (by omega) (by rw [Nat.pow_succ]; omega) (by omega)
        have go : pR 200 (d + 11) 92 [.ref o, .int bb, .int (nI v), .int (nI c)] [.ref o] (rq h o 13 p dp x [.ref x]) = pR 200 (d + 11) 91 [.ref o, .int bb, .int (nI (10 * v + (t.2 p - 48))), .int (nI (c + 1))] [] (rq h o 13 (p + 1) dp x [.ref x]) := by
          simp (disch := first | assumption | omega | decide | rfl) only [pis_i, pis_l, pis_r, pis_n, p1_i, p1_r, p1_n, p1_u, pw0, pw1, pw2, pw3, pw4, pK_v, pK_0, pK_ite, if_true, if_false, if_pos, if_neg, Nat.reduceAdd, pok_r, i10, i01, Bool.true_or, Bool.or_true, Bool.and_true, Bool.true_and, Nat.add_sub_cancel, i1p1, i1p0, i0p1, i0p0, nIrem2, va_rf_s, bit1, bit0, pinT, pinLT, pin0, nIc, nIcL, nIlt, nIeq, nIltL, nILlt, nIeqL, nILeq, nIadL, nILad, nILmu, nI_add, nIsbL, nI_sub', decide_true, decide_false, Bool.false_or, Bool.or_false, rX13_atom_92, rX13_atom_95, rX13_atom_98, rX13_atom_100, rX13_atom_101, rX13_atom_102, rX13_atom_103, rX13_atom_104, rX13_atom_105, rX13_atom_108, rX13_atom_109, rX13_atom_112, rX13_atom_113, rX13_atom_116, rX13_atom_117, rX13_atom_119, rX13_atom_120, rX13_atom_121, rX13_atom_124, qCl, hdg, h1, htk]
          rw [show 10 * v + t.2 p - 48 = 10 * v + (t.2 p - 48) by omega]
        rw [go]
        exact hi
      · rw [if_neg h3]
        have ht0 := kX5_take0 (d := d + 2) (a := p) (dp := dp) (x := x) (c := 13) (r := [.ref x]) hpo ho
        refine ⟨p, ?_⟩
        simp (disch := first | assumption | omega | decide | rfl) only [pis_i, pis_l, pis_r, pis_n, p1_i, p1_r, p1_n, p1_u, pw0, pw1, pw2, pw3, pw4, pK_v, pK_0, pK_ite, if_true, if_false, if_pos, if_neg, Nat.reduceAdd, pok_r, i10, i01, Bool.true_or, Bool.or_true, Bool.and_true, Bool.true_and, Nat.add_sub_cancel, i1p1, i1p0, i0p1, i0p0, nIrem2, va_rf_s, bit1, bit0, pinT, pinLT, pin0, nIc, nIcL, nIlt, nIeq, nIltL, nILlt, nIeqL, nILeq, nIadL, nILad, nILmu, nI_add, nIsbL, nI_sub', decide_true, decide_false, Bool.false_or, Bool.or_false, rX13_atom_92, rX13_atom_95, rX13_atom_98, rX13_atom_100, rX13_atom_101, rX13_atom_102, rX13_atom_103, rX13_atom_104, rX13_atom_105, rX13_atom_108, rX13_atom_109, rX13_atom_112, rX13_atom_113, rX13_atom_116, rX13_atom_117, rX13_atom_119, rX13_atom_120, rX13_atom_121, rX13_atom_124, qCl, hdg, h1, h3, ht0, pK_t]
    · rw [if_neg h1]
      have e1 : rq (pnw h (.inr (18, [.int 0])) 1) o 13 p dp x [.ref x] = rq (pup (pnw h (.inr (18, [.int 0])) 1) h.2.1 (.inr (18, [.int 0]))) o 13 p dp x [.ref x] := by rw [pup_id pnw_same]
      have e2 : ∀ w : Int32, pup (pnw h (.inr (18, [.int 0])) 1) h.2.1 (.inr (18, [.int w])) = pnw h (.inr (18, [.int w])) 1 := by
        intro w
        unfold pup pnw
        simp only [Prod.mk.injEq, and_true]
        funext z
        by_cases e : z = h.2.1 <;> simp [e]
      show pR 200 (d + 11) 92 [.ref o, .int bb, .int (nI v), .int (nI c)] [.ref o] (rq h o 13 p dp x [.ref x]) = some (.inl (some (.ref h.2.1)), rq (pnw h (.inr (18, [.int (nI v)])) 1) o 13 p dp x [.ref x])
      have hin : pCa 209 (d + 10) [.ref h.2.1, .int (nI v)] (rq (pnw h (.inr (18, [.int 0])) 1) o 13 p dp x [.ref x]) = some (.inl none, rq (pnw h (.inr (18, [.int (nI v)])) 1) o 13 p dp x [.ref x]) := by
        rw [e1, kX18_init (d := d + 8) hno, e2]
      simp (disch := first | assumption | omega | decide | rfl) only [pis_i, pis_l, pis_r, pis_n, p1_i, p1_r, p1_n, p1_u, pw0, pw1, pw2, pw3, pw4, pK_v, pK_0, pK_ite, if_true, if_false, if_pos, if_neg, Nat.reduceAdd, pok_r, i10, i01, Bool.true_or, Bool.or_true, Bool.and_true, Bool.true_and, Nat.add_sub_cancel, i1p1, i1p0, i0p1, i0p0, nIrem2, va_rf_s, bit1, bit0, pinT, pinLT, pin0, nIc, nIcL, nIlt, nIeq, nIltL, nILlt, nIeqL, nILeq, nIadL, nILad, nILmu, nI_add, nIsbL, nI_sub', decide_true, decide_false, Bool.false_or, Bool.or_false, rX13_atom_92, rX13_atom_95, rX13_atom_98, rX13_atom_100, rX13_atom_101, rX13_atom_102, rX13_atom_103, rX13_atom_104, rX13_atom_105, rX13_atom_108, rX13_atom_109, rX13_atom_112, rX13_atom_113, rX13_atom_116, rX13_atom_117, rX13_atom_119, rX13_atom_120, rX13_atom_121, rX13_atom_124, rX13_atom_127, rX13_atom_130, rX13_atom_130i, rX13_atom_131, rX13_atom_132, rX13_atom_135, qCl, hdg, h1, rq_21, qO_pnw, qO_pcl hno, pcl_pnw, hin]
theorem kX13_atom {I : Option (Nat → QR Sm)} (hI : CS x o N t dp (d + 10) I) (hR : RP h x o t N) (hp : p ≤ t.1) : oG SmAt t x o dp h p (pCa 200 (d + 11) [.ref o] (rq h o 13 p dp x [.ref x])) (atmP I t p) := by
  have hq0 : o ≠ x ∧ o ≠ x + 2 := ⟨hR.n0, hR.n2⟩
  have ho := hR.ol
  have ht := hR.X.k
  have ht1 := ht.1
  have hpo : pok 5 13 = true := rfl
  have hno : h.2.1 ≠ o := by omega
  have s1 := skp_le (t := t) (a := p)
  have s2 := skp_t hp
  have hlk := kX5_look (d := d + 9) (dp := dp) (c := 13) (r := [.ref x]) hR.X hq0 hpo hp
  have go : pCa 200 (d + 11) [.ref o] (rq h o 13 p dp x [.ref x]) = pR 200 (d + 11) 5 [.ref o, .int (hr t (skp t p)), pU, pU] [] (rq h o 13 (skp t p) dp x [.ref x]) := by
    rw [eX13_atom]
    simp (disch := first | assumption | omega | decide | rfl) only [pis_i, pis_l, pis_r, pis_n, p1_i, p1_r, p1_n, p1_u, pw0, pw1, pw2, pw3, pw4, pK_v, pK_0, pK_ite, if_true, if_false, if_pos, if_neg, Nat.reduceAdd, pok_r, i10, i01, Bool.true_or, Bool.or_true, Bool.and_true, Bool.true_and, Nat.add_sub_cancel, i1p1, i1p0, i0p1, i0p0, nIrem2, va_rf_s, bit1, bit0, pinT, pinLT, pin0, nIc, nIcL, nIlt, nIeq, nIltL, nILlt, nIeqL, nILeq, nIadL, nILad, nILmu, nI_add, nIsbL, nI_sub', decide_true, decide_false, Bool.false_or, Bool.or_false, rX13_atom_0, rX13_atom_1, rX13_atom_4, qCl, hlk]
  rw [go]
  clear go hlk
  unfold atmP
  by_cases h1 : isLt t (skp t p) = true
  · rw [if_pos h1]
    have h2 := isLt_lt h1
    have e1 : rq (pnw h (.inr (17, [.int 0])) 1) o 13 (skp t p + 1) dp x [.ref x] = rq (pup (pnw h (.inr (17, [.int 0])) 1) h.2.1 (.inr (17, [.int 0]))) o 13 (skp t p + 1) dp x [.ref x] := by rw [pup_id pnw_same]
    have e2 : ∀ w : Int32, pup (pnw h (.inr (17, [.int 0])) 1) h.2.1 (.inr (17, [.int w])) = pnw h (.inr (17, [.int w])) 1 := by
      intro w
      unfold pup pnw
      simp only [Prod.mk.injEq, and_true]
      funext z
      by_cases e : z = h.2.1 <;> simp [e]
    have hin : ∀ w : Int32, pCa 207 (d + 10) [.ref h.2.1, .int w] (rq (pnw h (.inr (17, [.int 0])) 1) o 13 (skp t p + 1) dp x [.ref x]) = some (.inl none, rq (pnw h (.inr (17, [.int w])) 1) o 13 (skp t p + 1) dp x [.ref x]) := fun w => by
      rw [e1, kX17_init (d := d + 8) hno, e2]
    refine ⟨h.2.1, pnw h (.inr (17, [.int (nI (t.2 (skp t p)))])) 1, ?_, (Fr.nw (by decide)).wk (by omega), ?_⟩
    · rw [hr_in h2.1]
      rcases h2.2 with e | e | e | e | e <;> simp (disch := first | assumption | omega | decide | rfl) only [pis_i, pis_l, pis_r, pis_n, p1_i, p1_r, p1_n, p1_u, pw0, pw1, pw2, pw3, pw4, pK_v, pK_0, pK_ite, if_true, if_false, if_pos, if_neg, Nat.reduceAdd, pok_r, i10, i01, Bool.true_or, Bool.or_true, Bool.and_true, Bool.true_and, Nat.add_sub_cancel, i1p1, i1p0, i0p1, i0p0, nIrem2, va_rf_s, bit1, bit0, pinT, pinLT, pin0, nIc, nIcL, nIlt, nIeq, nIltL, nILlt, nIeqL, nILeq, nIadL, nILad, nILmu, nI_add, nIsbL, nI_sub', decide_true, decide_false, Bool.false_or, Bool.or_false, rX13_atom_5, rX13_atom_6, rX13_atom_8, rX13_atom_11, rX13_atom_12, rX13_atom_14, rX13_atom_17, rX13_atom_18, rX13_atom_20, rX13_atom_23, rX13_atom_24, rX13_atom_26, rX13_atom_29, rX13_atom_30, rX13_atom_32, rX13_atom_35, rX13_atom_36, rX13_atom_36i, rX13_atom_37, rX13_atom_40, rX13_atom_41, rX13_atom_42, rX13_atom_45, rX13_atom_48, rX13_atom_48i, rX13_atom_49, rX13_atom_50, rX13_atom_53, e, qF0, qP0, rq_21, qO_pnw, qO_pcl hno, pcl_pnw, hin]
    · intro h' g
      show h'.1 h.2.1 = _
      rw [g h.2.1 (Nat.le_refl _) (Nat.lt_succ_self _)]
      exact pnw_same
  rw [if_neg h1]
  have h1' : ¬ isC t (skp t p) 108 = true ∧ ¬ isC t (skp t p) 104 = true ∧ ¬ isC t (skp t p) 107 = true ∧ ¬ isC t (skp t p) 115 = true ∧ ¬ isC t (skp t p) 97 = true := by
    simp only [isLt, Bool.or_eq_true, not_or] at h1
    exact ⟨h1.1.1.1.1, h1.1.1.1.2, h1.1.1.2, h1.1.2, h1.2⟩
  obtain ⟨l1, l2, l3, l4, l5⟩ := h1'
  have go : pR 200 (d + 11) 5 [.ref o, .int (hr t (skp t p)), pU, pU] [] (rq h o 13 (skp t p) dp x [.ref x]) = pR 200 (d + 11) 54 [.ref o, .int (hr t (skp t p)), pU, pU] [] (rq h o 13 (skp t p) dp x [.ref x]) := by
    simp (disch := first | assumption | omega | decide | rfl) only [pis_i, pis_l, pis_r, pis_n, p1_i, p1_r, p1_n, p1_u, pw0, pw1, pw2, pw3, pw4, pK_v, pK_0, pK_ite, if_true, if_false, if_pos, if_neg, Nat.reduceAdd, pok_r, i10, i01, Bool.true_or, Bool.or_true, Bool.and_true, Bool.true_and, Nat.add_sub_cancel, i1p1, i1p0, i0p1, i0p0, nIrem2, va_rf_s, bit1, bit0, pinT, pinLT, pin0, nIc, nIcL, nIlt, nIeq, nIltL, nILlt, nIeqL, nILeq, nIadL, nILad, nILmu, nI_add, nIsbL, nI_sub', decide_true, decide_false, Bool.false_or, Bool.or_false, rX13_atom_5, rX13_atom_6, rX13_atom_8, rX13_atom_11, rX13_atom_12, rX13_atom_14, rX13_atom_17, rX13_atom_18, rX13_atom_20, rX13_atom_23, rX13_atom_24, rX13_atom_26, rX13_atom_29, rX13_atom_30, rX13_atom_32, hr_eq ht, l1, l2, l3, l4, l5]
  rw [go]
  clear go
  by_cases h2 : isC t (skp t p) 91 = true
  · rw [if_pos h2]
    have h3 := isC_lt h2
    have e91 : hr t (skp t p) = 91 := by rw [hr_in h3.1, h3.2]; rfl
    rw [e91]
    cases I with
    | none =>
      refine ⟨h.2.1, pnw h (wr (nI (skp t p))) 7, skp t p, dp, ?_, (Fr.nw (by decide)).wk (by omega), pnw_same, by omega⟩
      have hg := kX5_goIn0 (d := d + 1) (p := skp t p) (c := 13) (r := [.ref x]) hR hpo hI
      simp (disch := first | assumption | omega | decide | rfl) only [pis_i, pis_l, pis_r, pis_n, p1_i, p1_r, p1_n, p1_u, pw0, pw1, pw2, pw3, pw4, pK_v, pK_0, pK_ite, if_true, if_false, if_pos, if_neg, Nat.reduceAdd, pok_r, i10, i01, Bool.true_or, Bool.or_true, Bool.and_true, Bool.true_and, Nat.add_sub_cancel, i1p1, i1p0, i0p1, i0p0, nIrem2, va_rf_s, bit1, bit0, pinT, pinLT, pin0, nIc, nIcL, nIlt, nIeq, nIltL, nILlt, nIeqL, nILeq, nIadL, nILad, nILmu, nI_add, nIsbL, nI_sub', decide_true, decide_false, Bool.false_or, Bool.or_false, rX13_atom_54, rX13_atom_55, rX13_atom_57, rX13_atom_60, rX13_atom_61, rX13_atom_64, rX13_atom_65, rX13_atom_68, rX13_atom_68n, rX13_atom_69, rX13_atom_70, rX13_atom_72, rX13_atom_75, rX13_atom_75n, rX13_atom_76, qCl, hg, pK_t]
    | some f =>
      obtain ⟨hd, hok, hI⟩ := hI
      have hg := kX5_goIn (d := d + 1) (p := skp t p) (c := 13) (r := [.ref x]) hR hpo h3.1 hd
      have hin := hI h (skp t p + 1) hR (by omega)
      have hokp := hok (skp t p + 1) (by omega)
      show oG SmAt t x o dp h p _ (match f (skp t p + 1) with | .inl w => .inl w | .inr (s, q) => if isC t (skp t q) 93 = true then .inr (s, skp t q + 1) else .inl (skp t q))
      generalize f (skp t p + 1) = z at hin hokp
      match z, hin, hokp with
      | .inl w, ⟨e, h', a', dp', q1, q2, q3, q4⟩, _ =>
        refine ⟨e, h', a', dp', ?_, q2.wk (by omega), q3, q4⟩
        simp (disch := first | assumption | omega | decide | rfl) only [pis_i, pis_l, pis_r, pis_n, p1_i, p1_r, p1_n, p1_u, pw0, pw1, pw2, pw3, pw4, pK_v, pK_0, pK_ite, if_true, if_false, if_pos, if_neg, Nat.reduceAdd, pok_r, i10, i01, Bool.true_or, Bool.or_true, Bool.and_true, Bool.true_and, Nat.add_sub_cancel, i1p1, i1p0, i0p1, i0p0, nIrem2, va_rf_s, bit1, bit0, pinT, pinLT, pin0, nIc, nIcL, nIlt, nIeq, nIltL, nILlt, nIeqL, nILeq, nIadL, nILad, nILmu, nI_add, nIsbL, nI_sub', decide_true, decide_false, Bool.false_or, Bool.or_false, rX13_atom_54, rX13_atom_55, rX13_atom_57, rX13_atom_60, rX13_atom_61, rX13_atom_64, rX13_atom_65, rX13_atom_68, rX13_atom_68n, rX13_atom_69, rX13_atom_70, rX13_atom_72, rX13_atom_75, rX13_atom_75n, rX13_atom_76, qCl, hg, q1, pK_t]
      | .inr (s, q), ⟨a, h', q1, q2, q3⟩, ⟨k1, k2, k3, k4⟩ =>
        have hR' := hR.fr q2
        have ho' := hR'.ol
        have s3 := skp_le (t := t) (a := q)
        have s4 := skp_t k2
        show oG SmAt t x o dp h p _ (if isC t (skp t q) 93 = true then _ else _)
        by_cases h6 : isC t (skp t q) 93 = true
        · rw [if_pos h6]
          have h7 := isC_lt h6
          have hgo := kX5_goOut (d := d + 1) (dp := dp) (c := 13) (r := [.ref x]) hR' hpo k2 (show 93 < 256 by decide) (by omega) h6
          refine ⟨a, h', ?_, q2.wk (by omega), q3⟩
          simp (disch := first | assumption | omega | decide | rfl) only [pis_i, pis_l, pis_r, pis_n, p1_i, p1_r, p1_n, p1_u, pw0, pw1, pw2, pw3, pw4, pK_v, pK_0, pK_ite, if_true, if_false, if_pos, if_neg, Nat.reduceAdd, pok_r, i10, i01, Bool.true_or, Bool.or_true, Bool.and_true, Bool.true_and, Nat.add_sub_cancel, i1p1, i1p0, i0p1, i0p0, nIrem2, va_rf_s, bit1, bit0, pinT, pinLT, pin0, nIc, nIcL, nIlt, nIeq, nIltL, nILlt, nIeqL, nILeq, nIadL, nILad, nILmu, nI_add, nIsbL, nI_sub', decide_true, decide_false, Bool.false_or, Bool.or_false, rX13_atom_54, rX13_atom_55, rX13_atom_57, rX13_atom_60, rX13_atom_61, rX13_atom_64, rX13_atom_65, rX13_atom_68, rX13_atom_68n, rX13_atom_69, rX13_atom_70, rX13_atom_72, rX13_atom_75, rX13_atom_75n, rX13_atom_76, qCl, hg, q1, show (93 : Int32) = nI 93 from rfl, hgo]
        · rw [if_neg h6]
          have hgo := kX5_goOut0 (d := d + 1) (dp := dp + 1) (c := 13) (r := [.ref x]) hR' hpo k2 (show 93 < 256 by decide) h6
          refine ⟨h'.2.1, pnw h' (wr (nI (skp t q))) 7, skp t q, dp + 1, ?_, (q2.tr (Fr.nw (by decide))).wk (by omega), pnw_same, by omega⟩
          simp (disch := first | assumption | omega | decide | rfl) only [pis_i, pis_l, pis_r, pis_n, p1_i, p1_r, p1_n, p1_u, pw0, pw1, pw2, pw3, pw4, pK_v, pK_0, pK_ite, if_true, if_false, if_pos, if_neg, Nat.reduceAdd, pok_r, i10, i01, Bool.true_or, Bool.or_true, Bool.and_true, Bool.true_and, Nat.add_sub_cancel, i1p1, i1p0, i0p1, i0p0, nIrem2, va_rf_s, bit1, bit0, pinT, pinLT, pin0, nIc, nIcL, nIlt, nIeq, nIltL, nILlt, nIeqL, nILeq, nIadL, nILad, nILmu, nI_add, nIsbL, nI_sub', decide_true, decide_false, Bool.false_or, Bool.or_false, rX13_atom_54, rX13_atom_55, rX13_atom_57, rX13_atom_60, rX13_atom_61, rX13_atom_64, rX13_atom_65, rX13_atom_68, rX13_atom_68n, rX13_atom_69, rX13_atom_70, rX13_atom_72, rX13_atom_75, rX13_atom_75n, rX13_atom_76, qCl, hg, q1, show (93 : Int32) = nI 93 from rfl, hgo, pK_t]
  rw [if_neg h2]
  have hdg : pCa 173 (d + 10) [.ref o] (rq h o 13 (skp t p) dp x [.ref x]) = if dg t (skp t p) = true then some (.inl (some (.int 1)), rq h o 13 (skp t p) dp x [.ref x]) else some (.inl (some (.int 0)), rq h o 13 (skp t p) dp x [.ref x]) := kX5_isDigit (d := d + 9) hR.X hq0 hpo (by omega)
  by_cases h3 : dg t (skp t p) = true
  · rw [if_pos h3]
    have h4 := inC_lt h3
    have e7 : (nI (t.2 (skp t p))).toInt8.toInt32 = nI (t.2 (skp t p)) := byte7 _ (by omega)
    have htk := kX5_take (d := d + 10) (dp := dp) (c := 13) (r := [.ref x]) hR.X hq0 hpo h4.1
    rw [e7] at htk
    have e : numL t 6 0 0 (skp t p) = numL t 5 1 (10 * 0 + (t.2 (skp t p) - 48)) (skp t p + 1) := by rw [numL, if_pos h3, if_pos (by decide)]
    rw [e, show 10 * 0 + (t.2 (skp t p) - 48) = t.2 (skp t p) - 48 by omega]
    have hn := atom_n (d := d) (dp := dp) (bb := hr t (skp t p)) hR 5 1 (t.2 (skp t p) - 48) (skp t p + 1) (by decide) (by omega) (by rw [Nat.pow_one]; omega) (by decide)
    have hnk := numL_ok (t := t) 5 1 (t.2 (skp t p) - 48) (skp t p + 1) (by omega) (by decide) (by rw [Nat.pow_one]; omega)
    have go : pR 200 (d + 11) 54 [.ref o, .int (hr t (skp t p)), pU, pU] [] (rq h o 13 (skp t p) dp x [.ref x]) = pR 200 (d + 11) 91 [.ref o, .int (hr t (skp t p)), .int (nI (t.2 (skp t p) - 48)), .int (nI 1)] [] (rq h o 13 (skp t p + 1) dp x [.ref x]) := by
      simp (disch := first | assumption | omega | decide | rfl) only [pis_i, pis_l, pis_r, pis_n, p1_i, p1_r, p1_n, p1_u, pw0, pw1, pw2, pw3, pw4, pK_v, pK_0, pK_ite, if_true, if_false, if_pos, if_neg, Nat.reduceAdd, pok_r, i10, i01, Bool.true_or, Bool.or_true, Bool.and_true, Bool.true_and, Nat.add_sub_cancel, i1p1, i1p0, i0p1, i0p0, nIrem2, va_rf_s, bit1, bit0, pinT, pinLT, pin0, nIc, nIcL, nIlt, nIeq, nIltL, nILlt, nIeqL, nILeq, nIadL, nILad, nILmu, nI_add, nIsbL, nI_sub', decide_true, decide_false, Bool.false_or, Bool.or_false, rX13_atom_54, rX13_atom_55, rX13_atom_57, rX13_atom_60, rX13_atom_61, rX13_atom_64, rX13_atom_65, rX13_atom_68, rX13_atom_68n, rX13_atom_69, rX13_atom_70, rX13_atom_72, rX13_atom_75, rX13_atom_75n, rX13_atom_76, rX13_atom_77, rX13_atom_78, rX13_atom_79, rX13_atom_82, rX13_atom_85, rX13_atom_87, rX13_atom_88, rX13_atom_89, rX13_atom_90, hr_eq ht, h2, qCl, hdg, h3, htk]
      rfl
    rw [go]
    generalize numL t 5 1 (t.2 (skp t p) - 48) (skp t p + 1) = z at hn hnk
    match z, hn, hnk with
    | .inl w, ⟨a', q1⟩, _ => exact ⟨h.2.1, pnw h (wr (nI w)) 7, a', dp, q1, (Fr.nw (by decide)).wk (by omega), pnw_same, by omega⟩
    | .inr (v, q), q1, ⟨k1, k2, k3⟩ =>
      refine ⟨h.2.1, pnw h (.inr (18, [.int (nI v)])) 1, q1, (Fr.nw (by decide)).wk (by omega), ?_⟩
      intro h' g
      show h'.1 h.2.1 = _
      rw [g h.2.1 (Nat.le_refl _) (Nat.lt_succ_self _)]
      exact pnw_same
  · rw [if_neg h3]
    have ht0 := kX5_take0 (d := d + 2) (a := skp t p) (dp := dp) (x := x) (c := 13) (r := [.ref x]) hpo ho
    refine ⟨h.2.1, pnw h (wr (nI (skp t p))) 7, skp t p, dp, ?_, (Fr.nw (by decide)).wk (by omega), pnw_same, by omega⟩
    simp (disch := first | assumption | omega | decide | rfl) only [pis_i, pis_l, pis_r, pis_n, p1_i, p1_r, p1_n, p1_u, pw0, pw1, pw2, pw3, pw4, pK_v, pK_0, pK_ite, if_true, if_false, if_pos, if_neg, Nat.reduceAdd, pok_r, i10, i01, Bool.true_or, Bool.or_true, Bool.and_true, Bool.true_and, Nat.add_sub_cancel, i1p1, i1p0, i0p1, i0p0, nIrem2, va_rf_s, bit1, bit0, pinT, pinLT, pin0, nIc, nIcL, nIlt, nIeq, nIltL, nILlt, nIeqL, nILeq, nIadL, nILad, nILmu, nI_add, nIsbL, nI_sub', decide_true, decide_false, Bool.false_or, Bool.or_false, rX13_atom_54, rX13_atom_55, rX13_atom_57, rX13_atom_60, rX13_atom_61, rX13_atom_64, rX13_atom_65, rX13_atom_68, rX13_atom_68n, rX13_atom_69, rX13_atom_70, rX13_atom_72, rX13_atom_75, rX13_atom_75n, rX13_atom_76, rX13_atom_77, rX13_atom_78, rX13_atom_79, rX13_atom_82, rX13_atom_85, rX13_atom_87, rX13_atom_88, rX13_atom_89, rX13_atom_90, hr_eq ht, h2, qCl, hdg, h3, ht0, pK_t]
theorem kX13_sum1 {I : Option (Nat → QR Sm)} (hI : CS x o N t dp (d + 10) I) (hok : okQj t I) (hR : RP h x o t N) (hp : p ≤ t.1) : oG SmAt t x o dp h p (pCa 198 (d + 13) [.ref o] (rq h o 13 p dp x [.ref x])) (sumP I t p) := by
  refine kX13_sum (d := d + 1) (sub := trmP I t) (fun h p hR hp => ?_) (fun p hp => trmP_ok hok hp) hR hp
  exact kX13_term (d := d) (sub := atmP I t) (fun h p hR hp => kX13_atom hI hR hp) (fun p hp => atmP_ok hok hp) hR hp
theorem kX13_sm : ∀ k, k ≤ 6 → ∀ d h p, RP h x o t N → p ≤ t.1 → oG SmAt t x o (6 - k) h p (pCa 198 (d + 13 + 3 * k) [.ref o] (rq h o 13 p (6 - k) x [.ref x])) (sm t k p) := by
  intro k
  induction k with
  | zero => intro _ d h p hR hp; exact kX13_sum1 (I := none) (d := d) rfl trivial hR hp
  | succ k ih =>
    intro hk d h p hR hp
    rw [show d + 13 + 3 * (k + 1) = d + 3 * (k + 1) + 13 by omega]
    refine kX13_sum1 (I := some (sm t k)) (d := d + 3 * (k + 1)) (dp := 6 - (k + 1)) ⟨by omega, fun p hp => sm_ok k p hp, fun h p hR hp => ?_⟩ (fun p hp => sm_ok k p hp) hR hp
    have := ih (by omega) d h p hR hp
    rw [show 6 - (k + 1) + 1 = 6 - k by omega, show d + 3 * (k + 1) + 10 = d + 13 + 3 * k by omega]
    exact this
end
