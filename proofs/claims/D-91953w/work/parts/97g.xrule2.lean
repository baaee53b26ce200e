/-! RULES 7: the component's RuleReader, the whole; rule, fault of a rule -/
set_option maxRecDepth 100000
def Lz : List Cl → Nat
  | [] => 0
  | c :: l => c.sz + 3 + Lz l
def okR (t : Tp) (p : Nat) : QR (List Cl) → Prop
  | .inl w => w ≤ t.1
  | .inr (l, q) => p ≤ q ∧ q ≤ t.1 ∧ Lz l ≤ q - p ∧ ∀ c, c ∈ l → c.g
section
variable {t : Tp}
theorem crest_ok : ∀ n p, p ≤ t.1 → okR t p (crest t n p) := by
  intro n
  induction n with
  | zero => intro p hp; exact hp
  | succ n ih =>
    intro p hp
    have s1 := skp_le (t := t) (a := p)
    have s2 := skp_t hp
    rw [crest]
    by_cases h1 : isC t (skp t p) 59 = true
    · rw [if_pos h1]
      have h2 := isC_lt h1
      have := clsP_ok (t := t) (p := skp t p + 1) (by omega)
      generalize clsP t (skp t p + 1) = z at this
      match z, this with
      | .inl w, h => exact h
      | .inr (c, q), ⟨r1, r2, r3, r4⟩ =>
        have := ih q r2
        show okR t p (match crest t n q with | .inl w => .inl w | .inr (l, r) => .inr (c :: l, r))
        generalize crest t n q = y at this
        match y, this with
        | .inl w, h => exact h
        | .inr (l, r), ⟨u1, u2, u3, u4⟩ =>
          refine ⟨by omega, u2, by show c.sz + 3 + Lz l ≤ _; omega, fun c' hc => ?_⟩
          rcases List.mem_cons.mp hc with e | e
          · subst e; exact r4
          · exact u4 c' e
    · rw [if_neg h1]
      by_cases h4 : skp t p < t.1
      · rw [if_pos h4]; exact s2
      · rw [if_neg h4]; exact ⟨s1, s2, Nat.zero_le _, fun c hc => by cases hc⟩
theorem prul_ok : (∀ w, prul t = .inl w → w ≤ t.1) ∧ ∀ l r, prul t = .inr (l, r) → ∃ c l', l = c :: l' ∧ Lz l ≤ r + 1 ∧ r ≤ t.1 ∧ ∀ c, c ∈ l → c.g := by
  have h0 := clsP_ok (t := t) (p := 0) (Nat.zero_le _)
  unfold prul
  generalize clsP t 0 = z at h0
  match z, h0 with
  | .inl w, h => exact ⟨fun w' e => (by cases e; exact h), fun l r e => (by cases e)⟩
  | .inr (c, q), ⟨r1, r2, r3, r4⟩ =>
    have := crest_ok (t := t) 201 q r2
    dsimp only
    generalize crest t 201 q = y at this
    match y, this with
    | .inl w, h => exact ⟨fun w' e => (by cases e; exact h), fun l r e => (by cases e)⟩
    | .inr (l, r), ⟨u1, u2, u3, u4⟩ =>
      refine ⟨fun w' e => (by cases e), fun l' r' e => ?_⟩
      cases e
      refine ⟨c, l, rfl, by show c.sz + 3 + Lz l ≤ _; omega, u2, fun c' hc => ?_⟩
      rcases List.mem_cons.mp hc with e | e
      · subst e; exact r4
      · exact u4 c' e
end
section
variable {h : pH} {o x d N p a : Nat} {t : Tp}
theorem kX13_whole_l {lo : Nat} (hlx : x + 2 < lo) (hlo : o < lo) : ∀ n h p l f, RP h x o t N → lo ≤ h.2.1 → p ≤ t.1 → t.1 - p < n → WdC h lo h.2.1 l a f →
    (match crest t n p with
    | .inl w => ∃ e h' a' dp', pR 193 (d + 41) 7 [.ref o, .ref a, .ref l] [] (rq h o 13 p 0 x [.ref x]) = some (.inr e, rq h' o 13 a' dp' x [.ref x]) ∧ FL lo h h' (t.1 - p + 2) ∧ h'.1 e = some (wr (nI w)) ∧ e ≠ o
    | .inr (c, q) => ∃ h', pR 193 (d + 41) 7 [.ref o, .ref a, .ref l] [] (rq h o 13 p 0 x [.ref x]) = some (.inl (some (.ref a)), rq h' o 13 q 0 x [.ref x]) ∧ FL lo h h' (q - p) ∧ ClS h' lo h'.2.1 (f c) (some a)) := by
  intro n
  induction n with
  | zero => intro h p l f _ _ _ hn; omega
  | succ n ih =>
    intro h p l f hR hl hp hn hW
    have hq0 : o ≠ x ∧ o ≠ x + 2 := ⟨hR.n0, hR.n2⟩
    have ho := hR.ol
    have ht := hR.X.k
    have ht1 := ht.1
    have hpo : pok 5 13 = true := rfl
    have s1 := skp_le (t := t) (a := p)
    have s2 := skp_t hp
    have hlk := kX5_look (d := d + 39) (dp := 0) (c := 13) (r := [.ref x]) hR.X hq0 hpo hp
    have hlk2 := kX5_look (d := d + 39) (dp := 0) (c := 13) (r := [.ref x]) hR.X hq0 hpo s2
    rw [skp_sk] at hlk2
    rw [crest]
    by_cases h1 : isC t (skp t p) 59 = true
    · rw [if_pos h1]
      have h2 := isC_lt h1
      have hm := kX13_clause (d := d) (p := skp t p + 1) hR (by omega)
      have hko := clsP_ok (t := t) (p := skp t p + 1) (by omega)
      have go : pR 193 (d + 41) 7 [.ref o, .ref a, .ref l] [] (rq h o 13 p 0 x [.ref x]) = pK 193 (d + 41) 28 3 [.ref o, .ref a, .ref l] [.ref l] (pCa 194 (d + 40) [.ref o] (rq h o 13 (skp t p + 1) 0 x [.ref x])) := by
        rw [rX13_whole_7]
        simp (disch := first | assumption | omega | decide | rfl) only [pis_i, pis_l, pis_r, pis_n, p1_i, p1_r, p1_n, p1_u, pw0, pw1, pw2, pw3, pw4, pK_v, pK_0, pK_ite, if_true, if_false, if_pos, if_neg, Nat.reduceAdd, pok_r, i10, i01, Bool.true_or, Bool.or_true, Bool.and_true, Bool.true_and, Nat.add_sub_cancel, i1p1, i1p0, i0p1, i0p0, nIrem2, va_rf_s, bit1, bit0, pinT, pinLT, pin0, nIc, nIcL, nIlt, nIeq, nIltL, nILlt, nIeqL, nILeq, nIadL, nILad, nILmu, nI_add, nIsbL, nI_sub', decide_true, decide_false, Bool.false_or, Bool.or_false, rX13_whole_8, rX13_whole_11, rX13_whole_13, rX13_whole_16, rX13_whole_17, rX13_whole_17i, rX13_whole_18, rX13_whole_21, rX13_whole_22, rX13_whole_23, rX13_whole_26, rX13_whole_26n, rX13_whole_27, rX13_whole_28, qCl, hlk, hr_eq ht, h1, qF0, qP0]
      rw [go]
      generalize clsP t (skp t p + 1) = z at hm hko
      match z, hm, hko with
      | .inl w, ⟨e, h', a', dp', q1, q2, q3', q4⟩, _ =>
        refine ⟨e, h', a', dp', ?_, (q2.fl hl).wk (by omega), q3', q4⟩
        rw [q1, pK_t rfl]
      | .inr (cc, q), ⟨a1, h1', q1, q2, q3'⟩, ⟨k1, k2, k3, k4⟩ =>
        obtain ⟨w1, w2, w3, w4⟩ := hW.app (q2.agr (lo := lo)) q3'
        have hlr := hW.1
        have hlr2 := hW.2.1
        have hz : (psf h1' l 2 (.ref a1)).2 = h1'.2 := psf_2
        have fl1 : FL lo h (psf h1' l 2 (.ref a1)) (q - (skp t p + 1)) := by
          obtain ⟨g1, g2, g3, g4⟩ := q2
          refine ⟨by rw [hz]; exact g1, by rw [hz]; exact g2, by rw [hz]; exact g3, fun z hz1 => ?_⟩
          rw [w4 z (by omega), g4 z (by omega)]
        have hR1 := hR.fr q2
        have hR2 : RP (psf h1' l 2 (.ref a1)) x o t N := by
          refine ⟨hR1.X.fr (w4 x (by omega)) (w4 (x + 2) (by omega)), by rw [hz]; exact hR1.x2, by rw [hz]; exact hR1.ol, hR1.n0, hR1.n2⟩
        have hg := q2.1
        have := ih (psf h1' l 2 (.ref a1)) q a1 (fun d => f (cc :: d)) hR2 (by rw [hz]; omega) k2 (by omega) (by rw [hz]; exact w1)
        have hlo2 : l ≠ o := by omega
        have go2 : pK 193 (d + 41) 28 3 [.ref o, .ref a, .ref l] [.ref l] (some (.inl (some (.ref a1)), rq h1' o 13 q 0 x [.ref x])) = pR 193 (d + 41) 7 [.ref o, .ref a, .ref a1] [] (rq (psf h1' l 2 (.ref a1)) o 13 q 0 x [.ref x]) := by
          simp (disch := first | assumption | omega | decide | rfl) only [pis_i, pis_l, pis_r, pis_n, p1_i, p1_r, p1_n, p1_u, pw0, pw1, pw2, pw3, pw4, pK_v, pK_0, pK_ite, if_true, if_false, if_pos, if_neg, Nat.reduceAdd, pok_r, i10, i01, Bool.true_or, Bool.or_true, Bool.and_true, Bool.true_and, Nat.add_sub_cancel, i1p1, i1p0, i0p1, i0p0, nIrem2, va_rf_s, bit1, bit0, pinT, pinLT, pin0, nIc, nIcL, nIlt, nIeq, nIltL, nILlt, nIeqL, nILeq, nIadL, nILad, nILmu, nI_add, nIsbL, nI_sub', decide_true, decide_false, Bool.false_or, Bool.or_false, rX13_whole_31, rX13_whole_31n, rX13_whole_34, rX13_whole_34n, rX13_whole_35, rX13_whole_38, rX13_whole_38n, rX13_whole_39, qO_pfl hlo2, qO_psf hlo2, w2, w3]
        rw [q1, go2]
        show (match (match crest t n q with | .inl w => .inl w | .inr (l, r) => .inr (cc :: l, r) : QR (List Cl)) with | .inl w => _ | .inr (c, q) => _)
        have ok2 := crest_ok (t := t) n q k2
        generalize crest t n q = y at this ok2
        match y, this, ok2 with
        | .inl w, ⟨e, h', a', dp', r1, r2, r3, r4⟩, _ => exact ⟨e, h', a', dp', r1, (fl1.tr r2).wk (by omega), r3, r4⟩
        | .inr (c, q'), ⟨h', r1, r2, r3⟩, ⟨o1, _⟩ => exact ⟨h', r1, (fl1.tr r2).wk (by omega), r3⟩
    · rw [if_neg h1]
      by_cases h4 : skp t p < t.1
      · rw [if_pos h4]
        refine ⟨h.2.1, pnw h (wr (nI (skp t p))) 7, skp t p, 0, ?_, ((Fr.nw (by decide)).fl hl).wk (by omega), pnw_same, by omega⟩
        have hm1 : ¬ hr t (skp t p) = -1 := by rw [hr_m1 ht]; omega
        rw [rX13_whole_7]
        simp (disch := first | assumption | omega | decide | rfl | (refine kWd ?_; omega)) only [pis_i, pis_l, pis_r, pis_n, p1_i, p1_r, p1_n, p1_u, pw0, pw1, pw2, pw3, pw4, pK_v, pK_0, pK_ite, if_true, if_false, if_pos, if_neg, Nat.reduceAdd, pok_r, i10, i01, Bool.true_or, Bool.or_true, Bool.and_true, Bool.true_and, Nat.add_sub_cancel, i1p1, i1p0, i0p1, i0p0, nIrem2, va_rf_s, bit1, bit0, pinT, pinLT, pin0, nIc, nIcL, nIlt, nIeq, nIltL, nILlt, nIeqL, nILeq, nIadL, nILad, nILmu, nI_add, nIsbL, nI_sub', decide_true, decide_false, Bool.false_or, Bool.or_false, rX13_whole_0, rX13_whole_1, rX13_whole_4, rX13_whole_4n, rX13_whole_5, rX13_whole_5n, rX13_whole_6, rX13_whole_6n, rX13_whole_8, rX13_whole_11, rX13_whole_13, rX13_whole_16, rX13_whole_17, rX13_whole_17i, rX13_whole_18, rX13_whole_21, rX13_whole_22, rX13_whole_23, rX13_whole_26, rX13_whole_26n, rX13_whole_27, rX13_whole_28, rX13_whole_31, rX13_whole_31n, rX13_whole_34, rX13_whole_34n, rX13_whole_35, rX13_whole_38, rX13_whole_38n, rX13_whole_39, rX13_whole_42, rX13_whole_43, rX13_whole_46, rX13_whole_47, rX13_whole_50, rX13_whole_53, rX13_whole_53i, rX13_whole_54, rX13_whole_55, rX13_whole_58, rX13_whole_61, rX13_whole_62, rX13_whole_62n, rX13_whole_63, qCl, hlk, hlk2, hr_eq ht, h1, hm1, rq_21, qO_pnw, qF0, kWc, kWr]
      · rw [if_neg h4]
        refine ⟨h, ?_, ⟨Nat.le_refl _, by omega, by omega, fun _ _ => rfl⟩, hW.end⟩
        have hm1 : hr t (skp t p) = -1 := by rw [hr_m1 ht]; omega
        rw [rX13_whole_7]
        simp (disch := first | assumption | omega | decide | rfl) only [pis_i, pis_l, pis_r, pis_n, p1_i, p1_r, p1_n, p1_u, pw0, pw1, pw2, pw3, pw4, pK_v, pK_0, pK_ite, if_true, if_false, if_pos, if_neg, Nat.reduceAdd, pok_r, i10, i01, Bool.true_or, Bool.or_true, Bool.and_true, Bool.true_and, Nat.add_sub_cancel, i1p1, i1p0, i0p1, i0p0, nIrem2, va_rf_s, bit1, bit0, pinT, pinLT, pin0, nIc, nIcL, nIlt, nIeq, nIltL, nILlt, nIeqL, nILeq, nIadL, nILad, nILmu, nI_add, nIsbL, nI_sub', decide_true, decide_false, Bool.false_or, Bool.or_false, rX13_whole_0, rX13_whole_1, rX13_whole_4, rX13_whole_4n, rX13_whole_5, rX13_whole_5n, rX13_whole_6, rX13_whole_6n, rX13_whole_8, rX13_whole_11, rX13_whole_13, rX13_whole_16, rX13_whole_17, rX13_whole_17i, rX13_whole_18, rX13_whole_21, rX13_whole_22, rX13_whole_23, rX13_whole_26, rX13_whole_26n, rX13_whole_27, rX13_whole_28, rX13_whole_31, rX13_whole_31n, rX13_whole_34, rX13_whole_34n, rX13_whole_35, rX13_whole_38, rX13_whole_38n, rX13_whole_39, rX13_whole_42, rX13_whole_43, rX13_whole_46, rX13_whole_47, rX13_whole_50, rX13_whole_53, rX13_whole_53i, rX13_whole_54, rX13_whole_55, rX13_whole_58, rX13_whole_61, rX13_whole_62, rX13_whole_62n, rX13_whole_63, qCl, hlk, hlk2, hr_eq ht, h1, hm1]
theorem kX13_whole (hR : RP h x o t N) : (match prul t with
    | .inl w => ∃ e h' a' dp', pCa 193 (d + 41) [.ref o] (rq h o 13 0 0 x [.ref x]) = some (.inr e, rq h' o 13 a' dp' x [.ref x]) ∧ Fr h h' 203 ∧ h'.1 e = some (wr (nI w)) ∧ e ≠ o
    | .inr (c, q) => ∃ a h', pCa 193 (d + 41) [.ref o] (rq h o 13 0 0 x [.ref x]) = some (.inl (some (.ref a)), rq h' o 13 q 0 x [.ref x]) ∧ Fr h h' 200 ∧ ClS h' h.2.1 h'.2.1 c (some a)) := by
  have hpo : pok 5 13 = true := rfl
  have ht1 := hR.X.k.1
  have hm := kX13_clause (d := d) (p := 0) hR (Nat.zero_le _)
  have hko := clsP_ok (t := t) (p := 0) (Nat.zero_le _)
  rw [eX13_whole]
  unfold prul
  generalize clsP t 0 = z at hm hko
  match z, hm, hko with
  | .inl w, ⟨e, h', a', dp', q1, q2, q3, q4⟩, _ =>
    refine ⟨e, h', a', dp', ?_, q2.wk (by omega), q3, q4⟩
    simp (disch := first | assumption | omega | decide | rfl) only [pis_i, pis_l, pis_r, pis_n, p1_i, p1_r, p1_n, p1_u, pw0, pw1, pw2, pw3, pw4, pK_v, pK_0, pK_ite, if_true, if_false, if_pos, if_neg, Nat.reduceAdd, pok_r, i10, i01, Bool.true_or, Bool.or_true, Bool.and_true, Bool.true_and, Nat.add_sub_cancel, i1p1, i1p0, i0p1, i0p0, nIrem2, va_rf_s, bit1, bit0, pinT, pinLT, pin0, nIc, nIcL, nIlt, nIeq, nIltL, nILlt, nIeqL, nILeq, nIadL, nILad, nILmu, nI_add, nIsbL, nI_sub', decide_true, decide_false, Bool.false_or, Bool.or_false, rX13_whole_0, rX13_whole_1, rX13_whole_4, rX13_whole_4n, rX13_whole_5, rX13_whole_5n, rX13_whole_6, rX13_whole_6n, qCl, q1, pK_t]
  | .inr (cc, q), ⟨a1, h1', q1, q2, q3⟩, ⟨k1, k2, k3, k4⟩ =>
    have hR1 := hR.fr q2
    have hl := kX13_whole_l (a := a1) (lo := h.2.1) (d := d) hR.x2 hR.ol 201 h1' q a1 (fun l => cc :: l) hR1 q2.1 k2 (by omega) q3
    have go : pR 193 (d + 41) 0 [.ref o, pU, pU] [] (rq h o 13 0 0 x [.ref x]) = pR 193 (d + 41) 7 [.ref o, .ref a1, .ref a1] [] (rq h1' o 13 q 0 x [.ref x]) := by
      simp (disch := first | assumption | omega | decide | rfl) only [pis_i, pis_l, pis_r, pis_n, p1_i, p1_r, p1_n, p1_u, pw0, pw1, pw2, pw3, pw4, pK_v, pK_0, pK_ite, if_true, if_false, if_pos, if_neg, Nat.reduceAdd, pok_r, i10, i01, Bool.true_or, Bool.or_true, Bool.and_true, Bool.true_and, Nat.add_sub_cancel, i1p1, i1p0, i0p1, i0p0, nIrem2, va_rf_s, bit1, bit0, pinT, pinLT, pin0, nIc, nIcL, nIlt, nIeq, nIltL, nILlt, nIeqL, nILeq, nIadL, nILad, nILmu, nI_add, nIsbL, nI_sub', decide_true, decide_false, Bool.false_or, Bool.or_false, rX13_whole_0, rX13_whole_1, rX13_whole_4, rX13_whole_4n, rX13_whole_5, rX13_whole_5n, rX13_whole_6, rX13_whole_6n, qCl, q1]
    rw [go]
    have ok2 := crest_ok (t := t) 201 q k2
    show (match (match crest t 201 q with | .inl w => .inl w | .inr (l, r) => .inr (cc :: l, r) : QR (List Cl)) with | .inl w => _ | .inr (c, q) => _)
    generalize crest t 201 q = y at hl ok2
    have f0 : FL h.2.1 h h1' (q - 0) := q2
    match y, hl, ok2 with
    | .inl w, ⟨e, h', a', dp', r1, r2, r3, r4⟩, _ => exact ⟨e, h', a', dp', r1, (f0.tr r2).wk (by omega), r3, r4⟩
    | .inr (c, q'), ⟨h', r1, r2, r3⟩, ⟨o1, o2, _⟩ => exact ⟨a1, h', r1, (f0.tr r2).wk (by omega), r3⟩
end
theorem rq_nw13 {g : pH} {x : Nat} : rq (pnw g (.inr (13, [.int 0, .int 0, .ref x, .ref x])) 4) g.2.1 13 0 0 x [.ref x] = pnw g (.inr (13, [.int 0, .int 0, .ref x, .ref x])) 4 := by
  unfold rq pup
  refine Prod.ext ?_ rfl
  funext q
  by_cases e : q = g.2.1
  · subst e
    rw [pnw_same]
    simp
    rfl
  · simp [e]
def ansR : QR (List Cl) → Int32
  | .inl w => nI w
  | .inr _ => -1
section
variable {h : pH} {x d G n : Nat} {X : XS} {t : Tp}
theorem x_fault1 (hN : X.1 1 = nI n) (hn : n ≤ 6) (hT : XTp X t) (ht : t.1 ≤ 200) (hx : x + 14 ≤ h.2.1) : ∃ h', pCa 11 (d + 50) [.ref x, .int 1] (xput h x X) = some (.inl (some (.int (ansR (prul t)))), xput h' x X) ∧ Gw x h h' := by
  let h1 : pH := pnw (xput h x X) (.inr (13, [.int 0, .int 0, .ref x, .ref x])) 4
  have h11 : h1.2.1 = h.2.1 + 1 := rfl
  have h12 : h1.2.2 = h.2.2 + 4 := rfl
  have h1o : ∀ q, q < h.2.1 → h1.1 q = (xput h x X).1 q := fun q hq => by show (pnw (xput h x X) _ 4).1 q = _; rw [pnw_ne (by show q ≠ h.2.1; omega)]
  have hR : RP h1 x h.2.1 t n := ⟨(XT_x (h := h) hT ht hN hn).fr (h1o x (by omega)) (h1o (x + 2) (by omega)), by omega, by omega, by omega, by omega⟩
  have hw := kX13_whole (d := d + 8) hR
  rw [eX1_fault]
  have hcx : pcl (pnw (xput h x X) (.inr (13, [.int 0, .int 0, .null, .null])) 4) h.2.1 = 13 := pcl_pnw (h := xput h x X)
  have hcx2 : pcl (pnw (xput h x X) (.inr (13, [.int 0, .int 0, .ref x, .ref x])) 4) h.2.1 = 13 := pcl_pnw (h := xput h x X)
  have hps : psf (psf (pnw (xput h x X) (.inr (13, [.int 0, .int 0, .null, .null])) 4) h.2.1 3 (.ref x)) h.2.1 2 (.ref x) = pnw (xput h x X) (.inr (13, [.int 0, .int 0, .ref x, .ref x])) 4 := by
    have e1 : psf (pnw (xput h x X) (.inr (13, [.int 0, .int 0, .null, .null])) 4) h.2.1 3 (.ref x) = pnw (xput h x X) (.inr (13, [.int 0, .int 0, .null, .ref x])) 4 := psf_pnw (h := xput h x X)
    rw [e1]
    exact psf_pnw (h := xput h x X)
  have go : pR 11 (d + 50) 0 [.ref x, .int 1, pU] [] (xput h x X) = pK 11 (d + 50) 40 3 [.ref x, .int 1, pU] [] (pCa 193 (d + 49) [.ref h.2.1] (rq h1 h.2.1 13 0 0 x [.ref x])) := by
    have := rq_nw13 (g := xput h x X) (x := x)
    show _ = pK 11 (d + 50) 40 3 [.ref x, .int 1, pU] [] (pCa 193 (d + 49) [.ref h.2.1] (rq (pnw (xput h x X) (.inr (13, [.int 0, .int 0, .ref x, .ref x])) 4) (xput h x X).2.1 13 0 0 x [.ref x]))
    rw [this]
    simp (disch := first | assumption | omega | decide) only [pis_i, pis_l, pis_r, pis_n, p1_i, p1_r, p1_n, p1_u, pw0, pw1, pw2, pw3, pw4, pK_v, pK_0, pK_ite, if_true, if_false, if_pos, if_neg, Nat.reduceAdd, pok_r, i10, i01, Bool.true_or, Bool.or_true, Bool.and_true, Bool.true_and, Nat.add_sub_cancel, i1p1, i1p0, i0p1, i0p0, nIrem2, va_rf_s, bit1, bit0, pinT, pinLT, pin0, nIc, nIcL, nIlt, nIeq, nIltL, nILlt, nIeqL, nILeq, nIadL, nILad, nILmu, nI_add, nIsbL, nI_sub', decide_true, decide_false, Bool.false_or, Bool.or_false, rX1_fault_0, rX1_fault_1, rX1_fault_2, rX1_fault_3, rX1_fault_4, rX1_fault_7, rX1_fault_10, rX1_fault_12, rX1_fault_13, rX1_fault_14, rX1_fault_17, rX1_fault_20, rX1_fault_20i, rX1_fault_21, rX1_fault_22, rX1_fault_25, rX1_fault_28, rX1_fault_28n, rX1_fault_29, rX1_fault_32, rX1_fault_35, rX1_fault_35i, rX1_fault_36, rX1_fault_37, rX1_fault_40, kX1_isIn, show (1 : Int32).toInt64 = 1 from rfl, show ((1 : Int64) < 0) = False by decide, show ((1 : Int64) < 1) = False by decide, xput_21, hcx, hcx2, hps, beq_self_eq_true]
  rw [go]
  clear go
  generalize prul t = z at hw
  match z, hw with
  | .inl w, ⟨e, h', a', dp', q1, q2, q3, q4⟩ =>
    have e1 : ∀ q, q < h.2.1 → (rq h' h.2.1 13 a' dp' x [.ref x]).1 q = (xput h x X).1 q := fun q hq => by rw [rq_ne (by omega), q2.2.2.2 q (by omega), h1o q hq]
    have eid : xput (rq h' h.2.1 13 a' dp' x [.ref x]) x X = rq h' h.2.1 13 a' dp' x [.ref x] := xput_id (fun j hj => by rw [e1 _ (by omega), xput_at hj])
    refine ⟨rq h' h.2.1 13 a' dp' x [.ref x], ?_, ?_⟩
    · rw [eid, show pCa 193 (d + 49) [.ref h.2.1] (rq h1 h.2.1 13 0 0 x [.ref x]) = _ from q1]
      have hcl : pcl (rq h' h.2.1 13 a' dp' x [.ref x]) e = 7 := by rw [qO_pcl q4]; exact pcl_of q3
      have hfl : pfl (rq h' h.2.1 13 a' dp' x [.ref x]) 7 e 6 = .int (nI w) := by rw [qO_pfl q4]; exact pfl_of q3 rfl rfl
      have hk : pK 11 (d + 50) 40 3 [.ref x, .int 1, pU] [] (some (.inr e, rq h' h.2.1 13 a' dp' x [.ref x])) = pR 11 (d + 50) 46 [.ref x, .int 1, pU] [.ref e] (rq h' h.2.1 13 a' dp' x [.ref x]) := by
        simp only [pK, show phd 11 40 = some (46, 7) from rfl, hcl, if_true]
      rw [hk]
      simp (disch := first | assumption | omega | decide) only [pis_i, pis_l, pis_r, pis_n, p1_i, p1_r, p1_n, p1_u, pw0, pw1, pw2, pw3, pw4, pK_v, pK_0, pK_ite, if_true, if_false, if_pos, if_neg, Nat.reduceAdd, pok_r, i10, i01, Bool.true_or, Bool.or_true, Bool.and_true, Bool.true_and, rX1_fault_46, rX1_fault_46n, rX1_fault_47, rX1_fault_47n, rX1_fault_48, rX1_fault_51, hfl]
      rfl
    · have f1 := q2.1
      have f2 := q2.2.1
      have f3 := q2.2.2.1
      refine ⟨by show h.2.1 ≤ h'.2.1; omega, by show h'.2.1 ≤ _; omega, by show h'.2.2 ≤ _; omega, fun q hq hq2 => ?_⟩
      rw [e1 q hq, xput_out hq2]
  | .inr (c, q), ⟨a, h', q1, q2, q3⟩ =>
    have f1 := q2.1
    have f2 := q2.2.1
    have f3 := q2.2.2.1
    have e1 : ∀ z, z < h.2.1 → (rq h' h.2.1 13 q 0 x [.ref x]).1 z = (xput h x X).1 z := fun z hz => by rw [rq_ne (by omega), q2.2.2.2 z (by omega), h1o z hz]
    have eid : xput (rq h' h.2.1 13 q 0 x [.ref x]) x X = rq h' h.2.1 13 q 0 x [.ref x] := xput_id (fun j hj => by rw [e1 _ (by omega), xput_at hj])
    refine ⟨rq h' h.2.1 13 q 0 x [.ref x], ?_, ?_⟩
    · rw [eid, show pCa 193 (d + 49) [.ref h.2.1] (rq h1 h.2.1 13 0 0 x [.ref x]) = _ from q1]
      simp (disch := first | assumption | omega | decide) only [pis_i, pis_l, pis_r, pis_n, p1_i, p1_r, p1_n, p1_u, pw0, pw1, pw2, pw3, pw4, pK_v, pK_0, pK_ite, if_true, if_false, if_pos, if_neg, Nat.reduceAdd, pok_r, i10, i01, Bool.true_or, Bool.or_true, Bool.and_true, Bool.true_and, rX1_fault_40, rX1_fault_43, rX1_fault_43n, rX1_fault_44, rX1_fault_45]
      rfl
    · refine ⟨by show h.2.1 ≤ h'.2.1; omega, by show h'.2.1 ≤ _; omega, by show h'.2.2 ≤ _; omega, fun z hz hz2 => ?_⟩
      rw [e1 z hz, xput_out hz2]
theorem x_rule_f (hS : X.1 20 = nI 6) : pCa 54 d [.ref x] (xput h x X) = some (.inl (some (.int (-1))), xput h x X) := by
  rw [eX1_rule]
  simp (disch := first | omega | decide) only [pis_i, pis_l, pis_r, pis_n, p1_i, p1_r, p1_n, p1_u, pw0, pw1, pw2, pw3, pw4, pK_v, pK_0, pK_ite, if_true, if_false, if_pos, if_neg, Nat.reduceAdd, pok_r, i10, i01, Bool.true_or, Bool.or_true, Bool.and_true, Bool.true_and, Nat.add_sub_cancel, i1p1, i1p0, i0p1, i0p0, nIrem2, va_rf_s, bit1, bit0, pinT, pinLT, pin0, nIc, nIcL, nIlt, nIeq, nIltL, nILlt, nIeqL, nILeq, nIadL, nILad, nILmu, nI_add, nIsbL, nI_sub', decide_true, decide_false, Bool.false_or, Bool.or_false, rX1_rule_0, rX1_rule_1, rX1_rule_4, rX1_rule_6, rX1_rule_9, rX1_rule_10, xCl, xF0, xF1, xP1, xF2, xF3, xP3, xF4, xF5, xP5, xF6, xF7, xF8, xF9, xF10, xF11, xF12, xP12, xF13, xP13, xF14, xP14, xF15, xP15, xF16, xP16, xF17, xP17, xF18, xF19, xF20, xP20, xF21, xF22, xP22, xL2, xL2n, xC2, xW2, xL4, xL4n, xC4, xW4, xL5, xL5n, xC5, xW5, xL6, xL6n, xC6, xW6, xL7, xL7n, xC7, xW7, xL8, xL8n, xC8, xW8, xL12, xL12n, xC12, xW12, xL13, xL13n, xC13, xW13, xL1, xK1, xC1, xW1, xL3, xK3, xC3, xW3, xL9, xK9, xC9, xW9, xL10, xK10, xC10, xW10, xLf, xLc, hS]
theorem x_rule (hS : X.1 20 = nI G) (hG : G < 6) (hN : X.1 1 = nI n) (hn : n ≤ 6) (hT : XTp X t) (ht : t.1 ≤ 200) (hx : x + 14 ≤ h.2.1) : (match prul t with
    | .inl _ => ∃ h', pCa 54 (d + 50) [.ref x] (xput h x X) = some (.inl (some (.int (-1))), xput h' x X) ∧ Gw x h h'
    | .inr (c, _) => ∃ h' a, pCa 54 (d + 50) [.ref x] (xput h x X) = some (.inl (some (.int (nI G))), xput h' x (upd (upd X.1 3 0) 20 (nI (G + 1)), X.2.1, uq X.2.2.1 10 G (some a), X.2.2.2)) ∧ Gw x h h' ∧ ClS h' (h.2.1 + 1) h'.2.1 c (some a)) := by
  let h1 : pH := pnw (xput h x X) (.inr (13, [.int 0, .int 0, .ref x, .ref x])) 4
  have h11 : h1.2.1 = h.2.1 + 1 := rfl
  have h12 : h1.2.2 = h.2.2 + 4 := rfl
  have h1o : ∀ q, q < h.2.1 → h1.1 q = (xput h x X).1 q := fun q hq => by show (pnw (xput h x X) _ 4).1 q = _; rw [pnw_ne (by show q ≠ h.2.1; omega)]
  have hR : RP h1 x h.2.1 t n := ⟨(XT_x (h := h) hT ht hN hn).fr (h1o x (by omega)) (h1o (x + 2) (by omega)), by omega, by omega, by omega, by omega⟩
  have hw := kX13_whole (d := d + 8) hR
  have hpo := prul_ok (t := t)
  rw [eX1_rule]
  have hcx : pcl (pnw (xput h x X) (.inr (13, [.int 0, .int 0, .null, .null])) 4) h.2.1 = 13 := pcl_pnw (h := xput h x X)
  have hcx2 : pcl (pnw (xput h x X) (.inr (13, [.int 0, .int 0, .ref x, .ref x])) 4) h.2.1 = 13 := pcl_pnw (h := xput h x X)
  have hps : psf (psf (pnw (xput h x X) (.inr (13, [.int 0, .int 0, .null, .null])) 4) h.2.1 3 (.ref x)) h.2.1 2 (.ref x) = pnw (xput h x X) (.inr (13, [.int 0, .int 0, .ref x, .ref x])) 4 := by
    have e1 : psf (pnw (xput h x X) (.inr (13, [.int 0, .int 0, .null, .null])) 4) h.2.1 3 (.ref x) = pnw (xput h x X) (.inr (13, [.int 0, .int 0, .null, .ref x])) 4 := psf_pnw (h := xput h x X)
    rw [e1]
    exact psf_pnw (h := xput h x X)
  have go : pR 54 (d + 50) 0 [.ref x, pU] [] (xput h x X) = pK 54 (d + 50) 27 3 [.ref x, pU] [.int (nI G), .ref (x + 10)] (pCa 193 (d + 49) [.ref h.2.1] (rq h1 h.2.1 13 0 0 x [.ref x])) := by
    have := rq_nw13 (g := xput h x X) (x := x)
    show _ = pK 54 (d + 50) 27 3 [.ref x, pU] [.int (nI G), .ref (x + 10)] (pCa 193 (d + 49) [.ref h.2.1] (rq (pnw (xput h x X) (.inr (13, [.int 0, .int 0, .ref x, .ref x])) 4) (xput h x X).2.1 13 0 0 x [.ref x]))
    rw [this]
    simp (disch := first | assumption | omega | decide) only [pis_i, pis_l, pis_r, pis_n, p1_i, p1_r, p1_n, p1_u, pw0, pw1, pw2, pw3, pw4, pK_v, pK_0, pK_ite, if_true, if_false, if_pos, if_neg, Nat.reduceAdd, pok_r, i10, i01, Bool.true_or, Bool.or_true, Bool.and_true, Bool.true_and, Nat.add_sub_cancel, i1p1, i1p0, i0p1, i0p0, nIrem2, va_rf_s, bit1, bit0, pinT, pinLT, pin0, nIc, nIcL, nIlt, nIeq, nIltL, nILlt, nIeqL, nILeq, nIadL, nILad, nILmu, nI_add, nIsbL, nI_sub', decide_true, decide_false, Bool.false_or, Bool.or_false, rX1_rule_0, rX1_rule_1, rX1_rule_4, rX1_rule_6, rX1_rule_9, rX1_rule_10, rX1_rule_11, rX1_rule_12, rX1_rule_15, rX1_rule_16, rX1_rule_19, rX1_rule_22, rX1_rule_22i, rX1_rule_23, rX1_rule_24, rX1_rule_27, xCl, xF0, xF1, xP1, xF2, xF3, xP3, xF4, xF5, xP5, xF6, xF7, xF8, xF9, xF10, xF11, xF12, xP12, xF13, xP13, xF14, xP14, xF15, xP15, xF16, xP16, xF17, xP17, xF18, xF19, xF20, xP20, xF21, xF22, xP22, xL2, xL2n, xC2, xW2, xL4, xL4n, xC4, xW4, xL5, xL5n, xC5, xW5, xL6, xL6n, xC6, xW6, xL7, xL7n, xC7, xW7, xL8, xL8n, xC8, xW8, xL12, xL12n, xC12, xW12, xL13, xL13n, xC13, xW13, xL1, xK1, xC1, xW1, xL3, xK3, xC3, xW3, xL9, xK9, xC9, xW9, xL10, xK10, xC10, xW10, xLf, xLc, hS, xput_21, hcx, hcx2, hps, beq_self_eq_true]
  rw [go]
  clear go
  generalize prul t = z at hw hpo
  match z, hw, hpo with
  | .inl w, ⟨e, h', a', dp', q1, q2, q3, q4⟩, _ =>
    have e1 : ∀ q, q < h.2.1 → (rq h' h.2.1 13 a' dp' x [.ref x]).1 q = (xput h x X).1 q := fun q hq => by rw [rq_ne (by omega), q2.2.2.2 q (by omega), h1o q hq]
    have eid : xput (rq h' h.2.1 13 a' dp' x [.ref x]) x X = rq h' h.2.1 13 a' dp' x [.ref x] := xput_id (fun j hj => by rw [e1 _ (by omega), xput_at hj])
    refine ⟨rq h' h.2.1 13 a' dp' x [.ref x], ?_, ?_⟩
    · rw [eid, show pCa 193 (d + 49) [.ref h.2.1] (rq h1 h.2.1 13 0 0 x [.ref x]) = _ from q1]
      have hcl : pcl (rq h' h.2.1 13 a' dp' x [.ref x]) e = 7 := by rw [qO_pcl q4]; exact pcl_of q3
      have hk : pK 54 (d + 50) 27 3 [.ref x, pU] [.int (nI G), .ref (x + 10)] (some (.inr e, rq h' h.2.1 13 a' dp' x [.ref x])) = pR 54 (d + 50) 34 [.ref x, pU] [.ref e] (rq h' h.2.1 13 a' dp' x [.ref x]) := by
        simp only [pK, show phd 54 27 = some (34, 7) from rfl, hcl, if_true]
      rw [hk]
      simp (disch := first | assumption | omega | decide) only [pis_i, pis_l, pis_r, pis_n, p1_i, p1_r, p1_n, p1_u, pw0, pw1, pw2, pw3, pw4, pK_v, pK_0, pK_ite, if_true, if_false, if_pos, if_neg, Nat.reduceAdd, pok_r, i10, i01, Bool.true_or, Bool.or_true, Bool.and_true, Bool.true_and, rX1_rule_34, rX1_rule_34n, rX1_rule_35, rX1_rule_36]
    · have f1 := q2.1
      have f2 := q2.2.1
      have f3 := q2.2.2.1
      refine ⟨by show h.2.1 ≤ h'.2.1; omega, by show h'.2.1 ≤ _; omega, by show h'.2.2 ≤ _; omega, fun q hq hq2 => ?_⟩
      rw [e1 q hq, xput_out hq2]
  | .inr (c, q), ⟨a, h', q1, q2, q3⟩, hpo =>
    have f1 := q2.1
    have f2 := q2.2.1
    have f3 := q2.2.2.1
    obtain ⟨c0, l0, hc0, -⟩ := hpo.2 c q rfl
    have e1 : ∀ z, z < h.2.1 → (rq h' h.2.1 13 q 0 x [.ref x]).1 z = (xput h x X).1 z := fun z hz => by rw [rq_ne (by omega), q2.2.2.2 z (by omega), h1o z hz]
    have eid : xput (rq h' h.2.1 13 q 0 x [.ref x]) x X = rq h' h.2.1 13 q 0 x [.ref x] := xput_id (fun j hj => by rw [e1 _ (by omega), xput_at hj])
    have hcs : ClS (rq h' h.2.1 13 q 0 x [.ref x]) (h.2.1 + 1) h'.2.1 c (some a) := fun h2 g => q3 h2 (fun z z1 z2 => by
      have z1 : h.2.1 + 1 ≤ z := z1
      rw [g z z1 z2, rq_ne (by omega)])
    have hca : pcl (rq h' h.2.1 13 q 0 x [.ref x]) a = 22 := by
      have := hcs _ (fun _ _ _ => rfl)
      subst hc0
      obtain ⟨qq, ee, ss, g1, g2, g3, g4⟩ := this
      cases g1
      cases hh : c0.1 with
      | none => rw [hh] at g2; exact pcl_of g2
      | some y => rw [hh] at g2; obtain ⟨bb, g2, -⟩ := g2; exact pcl_of g2
    have e4 : (rq h' h.2.1 13 q 0 x [.ref x]).2 = h'.2 := rfl
    generalize rq h' h.2.1 13 q 0 x [.ref x] = g at q1 e1 eid hcs hca e4
    refine ⟨g, a, ?_, ?_, by rw [e4]; exact hcs⟩
    · rw [show pCa 193 (d + 49) [.ref h.2.1] (rq h1 h.2.1 13 0 0 x [.ref x]) = _ from q1, ← eid]
      rw [← eid] at hca
      have hu : upd (upd X.1 3 0) 20 (nI (G + 1)) 20 = nI (G + 1) := upd_same
      have hu2 : upd X.1 3 0 20 = nI G := by rw [upd_ne (by decide)]; exact hS
      simp (disch := first | assumption | omega | decide) only [pis_i, pis_l, pis_r, pis_n, p1_i, p1_r, p1_n, p1_u, pw0, pw1, pw2, pw3, pw4, pK_v, pK_0, pK_ite, if_true, if_false, if_pos, if_neg, Nat.reduceAdd, pok_r, i10, i01, Bool.true_or, Bool.or_true, Bool.and_true, Bool.true_and, Nat.add_sub_cancel, i1p1, i1p0, i0p1, i0p0, nIrem2, va_rf_s, bit1, bit0, pinT, pinLT, pin0, nIc, nIcL, nIlt, nIeq, nIltL, nILlt, nIeqL, nILeq, nIadL, nILad, nILmu, nI_add, nIsbL, nI_sub', decide_true, decide_false, Bool.false_or, Bool.or_false, rX1_rule_30, rX1_rule_31, rX1_rule_34, rX1_rule_34n, rX1_rule_35, rX1_rule_36, rX1_rule_37, rX1_rule_38, rX1_rule_39, rX1_rule_42, rX1_rule_43, rX1_rule_43i, rX1_rule_44, rX1_rule_47, rX1_rule_48, rX1_rule_49, rX1_rule_52, rX1_rule_53, rX1_rule_56, rX1_rule_57, rX1_rule_58, xCl, xF0, xF1, xP1, xF2, xF3, xP3, xF4, xF5, xP5, xF6, xF7, xF8, xF9, xF10, xF11, xF12, xP12, xF13, xP13, xF14, xP14, xF15, xP15, xF16, xP16, xF17, xP17, xF18, xF19, xF20, xP20, xF21, xF22, xP22, xL2, xL2n, xC2, xW2, xL4, xL4n, xC4, xW4, xL5, xL5n, xC5, xW5, xL6, xL6n, xC6, xW6, xL7, xL7n, xC7, xW7, xL8, xL8n, xC8, xW8, xL12, xL12n, xC12, xW12, xL13, xL13n, xC13, xW13, xL1, xK1, xC1, xW1, xL3, xK3, xC3, xW3, xL9, xK9, xC9, xW9, xL10, xK10, xC10, xW10, xLf, xLc, hS, hca, pel, beq_self_eq_true, hu, hu2]
      rw [xput_put]
    · refine ⟨by rw [e4]; omega, by rw [e4]; omega, by rw [e4]; omega, fun z hz hz2 => ?_⟩
      rw [e1 z hz, xput_out hz2]
end
