/-! READING 5: the component's FigureReader: moves, balloon, whole -/
set_option maxRecDepth 100000
section
variable {h : pH} {o c a dp x d N p bu bl : Nat} {r : List Value} {t : Tp} {w : Int32}
theorem kX6_moves_l {I : Option (Nat → Nat → PR Mv)} {k lo : Nat} (hI : CI x o N t dp bl (d + 10) I) (hok : okI t k I) (hlx : x + 2 < lo) (hlo : o < lo) : ∀ n h p bu l f, RP h x o t N → lo ≤ h.2.1 → p ≤ t.1 → bu ≤ 24 → t.1 - p < n → Wd h lo h.2.1 l a f →
    (match prest I t n p bu with
    | .inl w => ∃ e h' a' dp' bu' bl', pR 179 (d + 12) 7 [.ref o, .ref a, .ref l] [] (rq (h) o 6 (p) (dp) x [.int (nI (bu)), .int (nI (bl)), .ref x]) = some (.inr e, (rq (h') o 6 (a') (dp') x [.int (nI (bu')), .int (nI (bl')), .ref x])) ∧ FL lo h h' (t.1 - p + 2) ∧ h'.1 e = some (wr (nI w)) ∧ e ≠ o
    | .inr (c, q, b) => ∃ h', pR 179 (d + 12) 7 [.ref o, .ref a, .ref l] [] (rq (h) o 6 (p) (dp) x [.int (nI (bu)), .int (nI (bl)), .ref x]) = some (.inl (some (.ref a)), (rq (h') o 6 (q) (dp) x [.int (nI (b)), .int (nI (bl)), .ref x])) ∧ FL lo h h' (q - p) ∧ ChS h' lo h'.2.1 (f c) (some a)) := by
  intro n
  induction n with
  | zero => intro h p bu l f _ _ _ _ hn; omega
  | succ n ih =>
    intro h p bu l f hR hl hp hb hn hW
    have hq0 : o ≠ x ∧ o ≠ x + 2 := ⟨hR.n0, hR.n2⟩
    have ht := hR.X.k
    have ht1 := ht.1
    have hpo : pok 5 6 = true := rfl
    have s1 := skp_le (t := t) (a := p)
    have s2 := skp_t hp
    have hlk := kX5_look (d := d + 10) (dp := dp) (c := 6) (r := [.int (nI bu), .int (nI bl), .ref x]) hR.X hq0 hpo hp
    have him := kX6_isMove (d := d + 11) (o := o) (p := skp t p) (H := (rq (h) o 6 (skp t p) (dp) x [.int (nI (bu)), .int (nI (bl)), .ref x])) ht
    rw [prest, rX6_moves_7]
    by_cases h1 : isM t (skp t p) = true
    · rw [if_pos h1]
      have hm := kX6_move (d := d) hI hR s2 hb
      have hko := pone_ok hok s2 hb
      rw [pone_skp] at hm hko
      generalize pone I t p bu = z at hm hko
      match z, hm, hko with
      | .inl w, ⟨e, h', a', dp', bu', bl', q1, q2, q3, q4⟩, _ =>
        refine ⟨e, h', a', dp', bu', bl', ?_, (q2.fl hl).wk (by omega), q3, q4⟩
        simp (disch := first | assumption | omega | decide | rfl) only [pis_i, pis_l, pis_r, pis_n, p1_i, p1_r, p1_n, p1_u, pw0, pw1, pw2, pw3, pw4, pK_v, pK_0, pK_ite, if_true, if_false, if_pos, if_neg, Nat.reduceAdd, pok_r, i10, i01, Bool.true_or, Bool.or_true, Bool.and_true, Bool.true_and, Nat.add_sub_cancel, i1p1, i1p0, i0p1, i0p0, nIrem2, va_rf_s, bit1, bit0, pinT, pinLT, pin0, nIc, nIcL, nIlt, nIeq, nIltL, nILlt, nIeqL, nILeq, nIadL, nILad, nILmu, nI_add, nIsbL, nI_sub', decide_true, decide_false, Bool.false_or, Bool.or_false, rX6_moves_0, rX6_moves_1, rX6_moves_4, rX6_moves_4n, rX6_moves_5, rX6_moves_5n, rX6_moves_6, rX6_moves_6n, rX6_moves_8, rX6_moves_9, rX6_moves_12, rX6_moves_15, rX6_moves_18, rX6_moves_18n, rX6_moves_19, rX6_moves_20, rX6_moves_23, rX6_moves_23n, rX6_moves_26, rX6_moves_26n, rX6_moves_27, rX6_moves_30, rX6_moves_30n, rX6_moves_31, rX6_moves_34, rX6_moves_34n, rX6_moves_35, qCl, hlk, him, h1, q1, pK_t]
      | .inr (nd, q, b), ⟨a1, h1', q1, q2, q3⟩, ⟨k1, k2, k3, k4, k5⟩ =>
        obtain ⟨w1, w2, w3, w4⟩ := hW.app (q2.agr (lo := lo)) q3
        have hlr := hW.1
        have hlr2 := hW.2.1
        have hz : (psf h1' l 0 (.ref a1)).2 = h1'.2 := psf_2
        have fl1 : FL lo h (psf h1' l 0 (.ref a1)) (q - skp t p) := by
          obtain ⟨g1, g2, g3, g4⟩ := q2
          refine ⟨by rw [hz]; exact g1, by rw [hz]; exact g2, by rw [hz]; exact g3, fun z hz1 => ?_⟩
          rw [w4 z (by omega), g4 z (by omega)]
        have hR1 := hR.fr q2
        have hR2 : RP (psf h1' l 0 (.ref a1)) x o t N := by
          refine ⟨hR1.X.fr (w4 x (by omega)) (w4 (x + 2) (by omega)), by rw [hz]; exact hR1.x2, by rw [hz]; exact hR1.ol, hR1.n0, hR1.n2⟩
        have hg := q2.1
        have := ih (psf h1' l 0 (.ref a1)) q b a1 (fun d => f (nd.c d)) hR2 (by rw [hz]; omega) k2 k4 (by omega) (by rw [hz]; exact w1)
        have hlo2 : l ≠ o := by omega
        have go : pR 179 (d + 12) 7 [.ref o, .ref a, .ref l] [] (rq (h) o 6 (p) (dp) x [.int (nI (bu)), .int (nI (bl)), .ref x]) = pR 179 (d + 12) 7 [.ref o, .ref a, .ref a1] [] (rq (psf h1' l 0 (.ref a1)) o 6 (q) (dp) x [.int (nI (b)), .int (nI (bl)), .ref x]) := by
          rw [rX6_moves_7]
          simp (disch := first | assumption | omega | decide | rfl) only [pis_i, pis_l, pis_r, pis_n, p1_i, p1_r, p1_n, p1_u, pw0, pw1, pw2, pw3, pw4, pK_v, pK_0, pK_ite, if_true, if_false, if_pos, if_neg, Nat.reduceAdd, pok_r, i10, i01, Bool.true_or, Bool.or_true, Bool.and_true, Bool.true_and, Nat.add_sub_cancel, i1p1, i1p0, i0p1, i0p0, nIrem2, va_rf_s, bit1, bit0, pinT, pinLT, pin0, nIc, nIcL, nIlt, nIeq, nIltL, nILlt, nIeqL, nILeq, nIadL, nILad, nILmu, nI_add, nIsbL, nI_sub', decide_true, decide_false, Bool.false_or, Bool.or_false, rX6_moves_0, rX6_moves_1, rX6_moves_4, rX6_moves_4n, rX6_moves_5, rX6_moves_5n, rX6_moves_6, rX6_moves_6n, rX6_moves_8, rX6_moves_9, rX6_moves_12, rX6_moves_15, rX6_moves_18, rX6_moves_18n, rX6_moves_19, rX6_moves_20, rX6_moves_23, rX6_moves_23n, rX6_moves_26, rX6_moves_26n, rX6_moves_27, rX6_moves_30, rX6_moves_30n, rX6_moves_31, rX6_moves_34, rX6_moves_34n, rX6_moves_35, qCl, hlk, him, h1, q1, qO_pfl hlo2, qO_psf hlo2, w2, w3]
        show (match consR nd (prest I t n q b) with | .inl w => _ | .inr (c, q, b) => _)
        rw [← rX6_moves_7, go]
        have ok2 := prest_ok hok n q b k2 k4
        generalize prest I t n q b = y at this ok2
        match y, this, ok2 with
        | .inl w, ⟨e, h', a', dp', bu', bl', r1, r2, r3, r4⟩, _ => exact ⟨e, h', a', dp', bu', bl', r1, (fl1.tr r2).wk (by omega), r3, r4⟩
        | .inr (c, q', b'), ⟨h', r1, r2, r3⟩, ⟨o1, _⟩ => exact ⟨h', r1, (fl1.tr r2).wk (by omega), r3⟩
    · rw [if_neg h1]
      refine ⟨h, ?_, ⟨Nat.le_refl _, by omega, by omega, fun _ _ => rfl⟩, hW.end⟩
      simp (disch := first | assumption | omega | decide | rfl) only [pis_i, pis_l, pis_r, pis_n, p1_i, p1_r, p1_n, p1_u, pw0, pw1, pw2, pw3, pw4, pK_v, pK_0, pK_ite, if_true, if_false, if_pos, if_neg, Nat.reduceAdd, pok_r, i10, i01, Bool.true_or, Bool.or_true, Bool.and_true, Bool.true_and, Nat.add_sub_cancel, i1p1, i1p0, i0p1, i0p0, nIrem2, va_rf_s, bit1, bit0, pinT, pinLT, pin0, nIc, nIcL, nIlt, nIeq, nIltL, nILlt, nIeqL, nILeq, nIadL, nILad, nILmu, nI_add, nIsbL, nI_sub', decide_true, decide_false, Bool.false_or, Bool.or_false, rX6_moves_0, rX6_moves_1, rX6_moves_4, rX6_moves_4n, rX6_moves_5, rX6_moves_5n, rX6_moves_6, rX6_moves_6n, rX6_moves_8, rX6_moves_9, rX6_moves_12, rX6_moves_15, rX6_moves_18, rX6_moves_18n, rX6_moves_19, rX6_moves_20, rX6_moves_23, rX6_moves_23n, rX6_moves_26, rX6_moves_26n, rX6_moves_27, rX6_moves_30, rX6_moves_30n, rX6_moves_31, rX6_moves_34, rX6_moves_34n, rX6_moves_35, qCl, hlk, him, h1]
theorem kX6_moves1 {I : Option (Nat → Nat → PR Mv)} {k : Nat} (hI : CI x o N t dp bl (d + 10) I) (hok : okI t k I) (hR : RP h x o t N) (hp : p ≤ t.1) (hb : bu ≤ 24) : oL t x o dp bl h p (pCa 179 (d + 12) [.ref o] (rq (h) o 6 (p) (dp) x [.int (nI (bu)), .int (nI (bl)), .ref x])) (pmv I t p bu) := by
  have hpo : pok 5 6 = true := rfl
  have ht1 := hR.X.k.1
  have hm := kX6_move (d := d) hI hR hp hb
  have hko := pone_ok hok hp hb
  rw [eX6_moves]
  unfold pmv
  generalize pone I t p bu = z at hm hko
  match z, hm, hko with
  | .inl w, ⟨e, h', a', dp', bu', bl', q1, q2, q3, q4⟩, _ =>
    refine ⟨e, h', a', dp', bu', bl', ?_, q2, q3, q4⟩
    simp (disch := first | assumption | omega | decide | rfl) only [pis_i, pis_l, pis_r, pis_n, p1_i, p1_r, p1_n, p1_u, pw0, pw1, pw2, pw3, pw4, pK_v, pK_0, pK_ite, if_true, if_false, if_pos, if_neg, Nat.reduceAdd, pok_r, i10, i01, Bool.true_or, Bool.or_true, Bool.and_true, Bool.true_and, Nat.add_sub_cancel, i1p1, i1p0, i0p1, i0p0, nIrem2, va_rf_s, bit1, bit0, pinT, pinLT, pin0, nIc, nIcL, nIlt, nIeq, nIltL, nILlt, nIeqL, nILeq, nIadL, nILad, nILmu, nI_add, nIsbL, nI_sub', decide_true, decide_false, Bool.false_or, Bool.or_false, rX6_moves_0, rX6_moves_1, rX6_moves_4, rX6_moves_4n, rX6_moves_5, rX6_moves_5n, rX6_moves_6, rX6_moves_6n, qCl, q1, pK_t]
  | .inr (nd, q, b), ⟨a1, h1', q1, q2, q3⟩, ⟨k1, k2, k3, k4, k5⟩ =>
    have hR1 := hR.fr q2
    have hl := kX6_moves_l (a := a1) (lo := h.2.1) (d := d) hI hok hR.x2 hR.ol 201 h1' q b a1 nd.c hR1 q2.1 k2 k4 (by omega) q3
    have go : pR 179 (d + 12) 0 [.ref o, pU, pU] [] (rq (h) o 6 (p) (dp) x [.int (nI (bu)), .int (nI (bl)), .ref x]) = pR 179 (d + 12) 7 [.ref o, .ref a1, .ref a1] [] (rq (h1') o 6 (q) (dp) x [.int (nI (b)), .int (nI (bl)), .ref x]) := by
      simp (disch := first | assumption | omega | decide | rfl) only [pis_i, pis_l, pis_r, pis_n, p1_i, p1_r, p1_n, p1_u, pw0, pw1, pw2, pw3, pw4, pK_v, pK_0, pK_ite, if_true, if_false, if_pos, if_neg, Nat.reduceAdd, pok_r, i10, i01, Bool.true_or, Bool.or_true, Bool.and_true, Bool.true_and, Nat.add_sub_cancel, i1p1, i1p0, i0p1, i0p0, nIrem2, va_rf_s, bit1, bit0, pinT, pinLT, pin0, nIc, nIcL, nIlt, nIeq, nIltL, nILlt, nIeqL, nILeq, nIadL, nILad, nILmu, nI_add, nIsbL, nI_sub', decide_true, decide_false, Bool.false_or, Bool.or_false, rX6_moves_0, rX6_moves_1, rX6_moves_4, rX6_moves_4n, rX6_moves_5, rX6_moves_5n, rX6_moves_6, rX6_moves_6n, qCl, q1]
    rw [go]
    have ok2 := prest_ok hok 201 q b k2 k4
    show oL t x o dp bl h p _ (consR nd (prest I t 201 q b))
    generalize prest I t 201 q b = y at hl ok2
    have f0 : FL h.2.1 h h1' (q - p) := q2
    match y, hl, ok2 with
    | .inl w, ⟨e, h', a', dp', bu', bl', r1, r2, r3, r4⟩, _ => exact ⟨e, h', a', dp', bu', bl', r1, (f0.tr r2).wk (by omega), r3, r4⟩
    | .inr (c, q', b'), ⟨h', r1, r2, r3⟩, ⟨o1, _⟩ => exact ⟨a1, h', r1, (f0.tr r2).wk (by omega), r3⟩
theorem kX6_moves : ∀ k, k ≤ 6 → ∀ d h p bu, RP h x o t N → p ≤ t.1 → bu ≤ 24 → oL t x o (6 - k) bl h p (pCa 179 (d + 12 + 2 * k) [.ref o] (rq (h) o 6 (p) (6 - k) x [.int (nI (bu)), .int (nI (bl)), .ref x])) (pm t k p bu) := by
  intro k
  induction k with
  | zero => intro _ d h p bu hR hp hb; exact kX6_moves1 (I := none) (k := 0) (d := d) rfl trivial hR hp hb
  | succ k ih =>
    intro hk d h p bu hR hp hb
    rw [show d + 12 + 2 * (k + 1) = d + 2 * (k + 1) + 12 by omega]
    refine kX6_moves1 (I := some (pm t k)) (k := k + 1) (d := d + 2 * (k + 1)) (dp := 6 - (k + 1)) ⟨by omega, k + 1, ⟨by omega, fun p bu => pm_ok k p bu⟩, fun h p bu hR hp hb => ?_⟩ ⟨by omega, fun p bu => pm_ok k p bu⟩ hR hp hb
    have := ih (by omega) d h p bu hR hp hb
    rw [show 6 - (k + 1) + 1 = 6 - k by omega]
    rw [show d + 2 * (k + 1) + 10 = d + 12 + 2 * k by omega]
    exact this
theorem kX9_init {h' : pH} {q s b : Nat} (hq : q ≠ o) (hc : h'.1 q = some (.inr (9, [.null, .int 0, .null]))) : pCa 185 (d + 2) [.ref q, .int (nI s), .ref b] (rq h' o c a dp x r) = some (.inl none, rq (pup h' q (.inr (9, [.null, .int (nI s), .ref b]))) o c a dp x r) := by
  have e8 : ∀ {H : pH}, pCa 183 (d + 1) [.ref q] H = some (.inl none, H) := by intro H; rw [eX8_init]; simp (disch := first | assumption | omega | decide) only [pis_i, pis_l, pis_r, pis_n, p1_i, p1_r, p1_n, p1_u, pw0, pw1, pw2, pw3, pw4, pK_v, pK_0, pK_ite, if_true, if_false, if_pos, if_neg, Nat.reduceAdd, pok_r, i10, i01, Bool.true_or, Bool.or_true, Bool.and_true, Bool.true_and, rX8_init_0, rX8_init_1, rX8_init_4]
  have c1 : psf h' q 1 (.int (nI s)) = pup h' q (.inr (9, [.null, .int (nI s), .null])) := by rw [psf_of hc]; rfl
  have c2 : psf (pup h' q (.inr (9, [.null, .int (nI s), .null]))) q 2 (.ref b) = pup h' q (.inr (9, [.null, .int (nI s), .ref b])) := by
    rw [psf_of pup_same]
    unfold pup
    simp only [Prod.mk.injEq, and_true]
    funext z
    by_cases e : z = q <;> simp [e]
  have f1 : pfl h' 9 q 1 = .int 0 := pfl_of hc rfl rfl
  have f2 : pfl (pup h' q (.inr (9, [.null, .int (nI s), .null]))) 9 q 2 = .null := pfl_of pup_same rfl rfl
  have f0 : pcl h' q = 9 := pcl_of hc
  rw [eX9_init]
  simp (disch := first | assumption | omega | decide) only [pis_i, pis_l, pis_r, pis_n, p1_i, p1_r, p1_n, p1_u, pw0, pw1, pw2, pw3, pw4, pK_v, pK_0, pK_ite, if_true, if_false, if_pos, if_neg, Nat.reduceAdd, pok_r, i10, i01, Bool.true_or, Bool.or_true, Bool.and_true, Bool.true_and, rX9_init_0, rX9_init_1, rX9_init_4, rX9_init_5, rX9_init_6, rX9_init_9, rX9_init_10, rX9_init_10n, rX9_init_11, rX9_init_11n, rX9_init_14, e8, qO_pcl hq, qO_pfl hq, qO_psf hq, f0, f1, f2, c1, c2]
theorem inC_d (ht : TpOk t) {q : Nat} : (48 ≤ t.2 q) → q < t.1 → t.2 q < 48 + N → N ≤ 6 → inC t q 48 57 = true := by
  intro h1 h2 h3 h4
  simp [inC, h2, h1]
  omega
/-- a balloon -/
theorem kX6_balloon (hR : RP h x o t N) (hp : p ≤ t.1) (hb : bu ≤ 24) (hbl : bl < 6) : oN t x o 0 (bl + 1) h p (pCa 178 (d + 30) [.ref o] (rq (h) o 6 (p) (0) x [.int (nI (bu)), .int (nI (bl)), .ref x])) (pbal t N p bu) := by
  have hq0 : o ≠ x ∧ o ≠ x + 2 := ⟨hR.n0, hR.n2⟩
  have ho := hR.ol
  have ht := hR.X.k
  have ht1 := ht.1
  have hN := hR.X.N6
  have hpo : pok 5 6 = true := rfl
  have s1 := skp_le (t := t) (a := p)
  have s2 := skp_t hp
  have hx0 : x ≠ o := Ne.symm hR.n0
  have hlk := kX5_look (d := d + 28) (dp := 0) (c := 6) (r := [.int (nI bu), .int (nI bl), .ref x]) hR.X hq0 hpo hp
  have ht0 := kX5_take0 (d := d + 21) (a := skp t p) (dp := 0) (x := x) (r := [.int (nI bu), .int (nI bl), .ref x]) hpo ho
  rw [eX6_balloon]
  unfold pbal
  by_cases h1 : isC t (skp t p) 35 = true
  · rw [if_pos h1]
    have h2 := isC_lt h1
    have htk := kX5_take (d := d + 29) (dp := 0) (c := 6) (r := [.int (nI bu), .int (nI bl), .ref x]) hR.X hq0 hpo h2.1
    have s3 := skp_le (t := t) (a := skp t p + 1)
    have s4 := skp_t (t := t) (a := skp t p + 1) (by omega)
    have hlk2 := kX5_look (d := d + 28) (dp := 0) (c := 6) (r := [.int (nI bu), .int (nI bl), .ref x]) hR.X hq0 hpo (a := skp t p + 1) (by omega)
    have ht02 := kX5_take0 (d := d + 21) (a := skp t (skp t p + 1)) (dp := 0) (x := x) (r := [.int (nI bu), .int (nI bl), .ref x]) hpo ho
    have hthis : ∀ a dp bu bl, pfl (rq (h) o 6 (a) (dp) x [.int (nI (bu)), .int (nI (bl)), .ref x]) 6 o 5 = .ref x := fun a dp bu bl => pfl_of rq_at rfl rfl
    have hthis2 : ∀ a dp bu bl, pfl (rq (h) o 6 (a) (dp) x [.int (nI (bu)), .int (nI (bl)), .ref x]) 6 o 2 = .ref x := fun a dp bu bl => pfl_of rq_at rfl rfl
    have hs := hR.X.s
    by_cases h3 : inC t (skp t (skp t p + 1)) 48 57 = true ∧ t.2 (skp t (skp t p + 1)) < 48 + N
    · rw [if_pos h3]
      have h4 := inC_lt h3.1
      have h5 := h3.2
      have e7 : (nI (t.2 (skp t (skp t p + 1)))).toInt8.toInt32 = nI (t.2 (skp t (skp t p + 1))) := byte7 _ (by omega)
      have htk2 := kX5_take (d := d + 29) (dp := 0) (c := 6) (r := [.int (nI bu), .int (nI bl), .ref x]) hR.X hq0 hpo h4.1
      rw [e7] at htk2
      have hf1 : Fr h (pnw h (.inr (9, [.null, .int 0, .null])) 3) 1 := Fr.nw (by decide)
      have hm := kX6_moves (bl := bl + 1) 6 (Nat.le_refl _) (d + 5) _ (skp t (skp t p + 1) + 1) bu (hR.fr hf1) (by omega) hb
      have hmo := pm_ok (t := t) 6 (skp t (skp t p + 1) + 1) bu (by omega) hb
      have hb4 : ∀ a dp bu bl, pfl (rq (h) o 6 (a) (dp) x [.int (nI (bu)), .int (nI (bl)), .ref x]) 6 o 4 = .int (nI bl) := fun a dp bu bl => pfl_of rq_at rfl rfl
      have hp4 : ∀ a dp bu bl b, psf (rq (h) o 6 (a) (dp) x [.int (nI (bu)), .int (nI (bl)), .ref x]) o 4 (.int (nI b)) = (rq (h) o 6 (a) (dp) x [.int (nI (bu)), .int (nI (b)), .ref x]) := fun a dp bu bl b => qPr (j := 1)
      have go : pR 178 (d + 30) 0 [.ref o, pU, pU] [] (rq (h) o 6 (p) (0) x [.int (nI (bu)), .int (nI (bl)), .ref x]) = pR 178 (d + 30) 75 [.ref o, .int (nI (t.2 (skp t (skp t p + 1)))), .int (nI (t.2 (skp t (skp t p + 1)) - 48))] [.ref o, .int (nI (t.2 (skp t (skp t p + 1)) - 48)), .ref h.2.1, .ref h.2.1] (rq (pnw h (.inr (9, [.null, .int 0, .null])) 3) o 6 (skp t (skp t p + 1) + 1) (0) x [.int (nI (bu)), .int (nI (bl + 1)), .ref x]) := by
        simp (disch := first | assumption | omega | decide | rfl) only [pis_i, pis_l, pis_r, pis_n, p1_i, p1_r, p1_n, p1_u, pw0, pw1, pw2, pw3, pw4, pK_v, pK_0, pK_ite, if_true, if_false, if_pos, if_neg, Nat.reduceAdd, pok_r, i10, i01, Bool.true_or, Bool.or_true, Bool.and_true, Bool.true_and, Nat.add_sub_cancel, i1p1, i1p0, i0p1, i0p0, nIrem2, va_rf_s, bit1, bit0, pinT, pinLT, pin0, nIc, nIcL, nIlt, nIeq, nIltL, nILlt, nIeqL, nILeq, nIadL, nILad, nILmu, nI_add, nIsbL, nI_sub', decide_true, decide_false, Bool.false_or, Bool.or_false, rX6_balloon_0, rX6_balloon_1, rX6_balloon_4, rX6_balloon_5, rX6_balloon_6, rX6_balloon_7, rX6_balloon_9, rX6_balloon_12, rX6_balloon_13, rX6_balloon_16, rX6_balloon_17, rX6_balloon_20, rX6_balloon_21, rX6_balloon_22, rX6_balloon_25, rX6_balloon_26, rX6_balloon_27, rX6_balloon_28, rX6_balloon_30, rX6_balloon_33, rX6_balloon_34, rX6_balloon_36, rX6_balloon_37, rX6_balloon_40, rX6_balloon_43, rX6_balloon_44, rX6_balloon_47, rX6_balloon_48, rX6_balloon_51, rX6_balloon_52, rX6_balloon_55, rX6_balloon_57, rX6_balloon_58, rX6_balloon_59, rX6_balloon_60, rX6_balloon_60i, rX6_balloon_61, rX6_balloon_64, rX6_balloon_65, rX6_balloon_66, rX6_balloon_69, rX6_balloon_72, rX6_balloon_72i, rX6_balloon_73, rX6_balloon_74, qCl, hlk, hr_in h2.1, h2.2, htk, hlk2, hr_in h4.1, hthis, hthis2, qO_pfl hx0, hs, htk2, hb4, hp4, rq_21, qO_pnw]
      rw [go]
      generalize pm t 6 (skp t (skp t p + 1) + 1) bu = z at hm hmo
      match z, hm, hmo with
      | .inl w, ⟨e, h', a', dp', bu', bl', q1, q2, q3, q4⟩, _ =>
        refine ⟨e, h', a', dp', bu', bl', ?_, (hf1.tr q2).wk (by omega), q3, q4⟩
        simp (disch := first | assumption | omega | decide | rfl) only [pis_i, pis_l, pis_r, pis_n, p1_i, p1_r, p1_n, p1_u, pw0, pw1, pw2, pw3, pw4, pK_v, pK_0, pK_ite, if_true, if_false, if_pos, if_neg, Nat.reduceAdd, pok_r, i10, i01, Bool.true_or, Bool.or_true, Bool.and_true, Bool.true_and, Nat.add_sub_cancel, i1p1, i1p0, i0p1, i0p0, nIrem2, va_rf_s, bit1, bit0, pinT, pinLT, pin0, nIc, nIcL, nIlt, nIeq, nIltL, nILlt, nIeqL, nILeq, nIadL, nILad, nILmu, nI_add, nIsbL, nI_sub', decide_true, decide_false, Bool.false_or, Bool.or_false, rX6_balloon_75, rX6_balloon_78, rX6_balloon_81, qCl, q1, pK_t]
      | .inr (cc, q, b), ⟨a1, h', q1, q2, q3⟩, ⟨k1, k2, k3, k4, k5⟩ =>
        have hcell : h'.1 h.2.1 = some (.inr (9, [.null, .int 0, .null])) := by rw [q2.2.2.2 h.2.1 (Nat.lt_succ_self _)]; exact pnw_same
        have hno : h.2.1 ≠ o := by omega
        have hg1 : h.2.1 + 1 ≤ h'.2.1 := q2.1
        refine ⟨h.2.1, pup h' h.2.1 (.inr (9, [.null, .int (nI (t.2 (skp t (skp t p + 1)) - 48)), .ref a1])), ?_, ?_, ?_⟩
        · have hc9 : pcl h' h.2.1 = 9 := pcl_of hcell
          simp (disch := first | assumption | omega | decide | rfl) only [pis_i, pis_l, pis_r, pis_n, p1_i, p1_r, p1_n, p1_u, pw0, pw1, pw2, pw3, pw4, pK_v, pK_0, pK_ite, if_true, if_false, if_pos, if_neg, Nat.reduceAdd, pok_r, i10, i01, Bool.true_or, Bool.or_true, Bool.and_true, Bool.true_and, Nat.add_sub_cancel, i1p1, i1p0, i0p1, i0p0, nIrem2, va_rf_s, bit1, bit0, pinT, pinLT, pin0, nIc, nIcL, nIlt, nIeq, nIltL, nILlt, nIeqL, nILeq, nIadL, nILad, nILmu, nI_add, nIsbL, nI_sub', decide_true, decide_false, Bool.false_or, Bool.or_false, rX6_balloon_75, rX6_balloon_78, rX6_balloon_81, qCl, q1, qO_pcl hno, hc9, kX9_init hno hcell]
        · obtain ⟨g1, g2, g3, g4⟩ := hf1.tr q2
          refine ⟨g1, by show h'.2.1 ≤ _; omega, by show h'.2.2 ≤ _; omega, fun z hz => ?_⟩
          rw [pup_ne (by omega)]
          exact g4 z hz
        · refine Wd_1 (cl := 9) (fs := [.int (nI (t.2 (skp t (skp t p + 1)) - 48)), .ref a1]) (Nat.le_refl _) hg1 rfl pup_same (fun h2 e dd g1 g2 g3 => ⟨_, _, _, rfl, g2, q3 h2 (fun z z1 z2 => ?_), g3⟩)
          have z1 : h.2.1 + 1 ≤ z := z1
          rw [g1 z (by omega) z2 (by omega), pup_ne (by omega)]
    · rw [if_neg h3]
      refine ⟨h.2.1, pnw h (wr (nI (skp t (skp t p + 1)))) 7, skp t (skp t p + 1), 0, bu, bl, ?_, (Fr.nw (by decide)).wk (by omega), pnw_same, by omega⟩
      have hcase : hr t (skp t (skp t p + 1)) < 48 ∨ (¬ hr t (skp t (skp t p + 1)) < 48 ∧ ¬ hr t (skp t (skp t p + 1)) < nI (48 + N)) := by
        by_cases q1 : hr t (skp t (skp t p + 1)) < 48
        · exact Or.inl q1
        · refine Or.inr ⟨q1, fun q2 => h3 ?_⟩
          rw [hr_lt ht (by decide)] at q1
          have q1 : skp t (skp t p + 1) < t.1 ∧ 48 ≤ t.2 (skp t (skp t p + 1)) := by simpa using q1
          have hby := ht.2 _ q1.1
          rw [hr_in q1.1, nIlt (by omega) (by omega)] at q2
          exact ⟨inC_d ht q1.2 q1.1 q2 hN, q2⟩
      rcases hcase with q1 | ⟨q1, q2⟩
      · simp (disch := first | assumption | omega | decide | rfl) only [pis_i, pis_l, pis_r, pis_n, p1_i, p1_r, p1_n, p1_u, pw0, pw1, pw2, pw3, pw4, pK_v, pK_0, pK_ite, if_true, if_false, if_pos, if_neg, Nat.reduceAdd, pok_r, i10, i01, Bool.true_or, Bool.or_true, Bool.and_true, Bool.true_and, Nat.add_sub_cancel, i1p1, i1p0, i0p1, i0p0, nIrem2, va_rf_s, bit1, bit0, pinT, pinLT, pin0, nIc, nIcL, nIlt, nIeq, nIltL, nILlt, nIeqL, nILeq, nIadL, nILad, nILmu, nI_add, nIsbL, nI_sub', decide_true, decide_false, Bool.false_or, Bool.or_false, rX6_balloon_0, rX6_balloon_1, rX6_balloon_4, rX6_balloon_5, rX6_balloon_6, rX6_balloon_7, rX6_balloon_9, rX6_balloon_12, rX6_balloon_13, rX6_balloon_16, rX6_balloon_17, rX6_balloon_20, rX6_balloon_21, rX6_balloon_22, rX6_balloon_25, rX6_balloon_26, rX6_balloon_27, rX6_balloon_28, rX6_balloon_30, rX6_balloon_33, rX6_balloon_34, rX6_balloon_36, rX6_balloon_37, rX6_balloon_40, rX6_balloon_43, rX6_balloon_44, rX6_balloon_47, rX6_balloon_48, rX6_balloon_51, rX6_balloon_52, rX6_balloon_55, rX6_balloon_57, rX6_balloon_58, qCl, hlk, hr_in h2.1, h2.2, htk, hlk2, q1, ht02, pK_t]
      · simp (disch := first | assumption | omega | decide | rfl) only [pis_i, pis_l, pis_r, pis_n, p1_i, p1_r, p1_n, p1_u, pw0, pw1, pw2, pw3, pw4, pK_v, pK_0, pK_ite, if_true, if_false, if_pos, if_neg, Nat.reduceAdd, pok_r, i10, i01, Bool.true_or, Bool.or_true, Bool.and_true, Bool.true_and, Nat.add_sub_cancel, i1p1, i1p0, i0p1, i0p0, nIrem2, va_rf_s, bit1, bit0, pinT, pinLT, pin0, nIc, nIcL, nIlt, nIeq, nIltL, nILlt, nIeqL, nILeq, nIadL, nILad, nILmu, nI_add, nIsbL, nI_sub', decide_true, decide_false, Bool.false_or, Bool.or_false, rX6_balloon_0, rX6_balloon_1, rX6_balloon_4, rX6_balloon_5, rX6_balloon_6, rX6_balloon_7, rX6_balloon_9, rX6_balloon_12, rX6_balloon_13, rX6_balloon_16, rX6_balloon_17, rX6_balloon_20, rX6_balloon_21, rX6_balloon_22, rX6_balloon_25, rX6_balloon_26, rX6_balloon_27, rX6_balloon_28, rX6_balloon_30, rX6_balloon_33, rX6_balloon_34, rX6_balloon_36, rX6_balloon_37, rX6_balloon_40, rX6_balloon_43, rX6_balloon_44, rX6_balloon_47, rX6_balloon_48, rX6_balloon_51, rX6_balloon_52, rX6_balloon_55, rX6_balloon_57, rX6_balloon_58, qCl, hlk, hr_in h2.1, h2.2, htk, hlk2, q1, q2, hthis, hthis2, qO_pfl hx0, hs, ht02, pK_t]
  · rw [if_neg h1]
    refine ⟨h.2.1, pnw h (wr (nI (skp t p))) 7, skp t p, 0, bu, bl, ?_, (Fr.nw (by decide)).wk (by omega), pnw_same, by omega⟩
    simp (disch := first | assumption | omega | decide | rfl) only [pis_i, pis_l, pis_r, pis_n, p1_i, p1_r, p1_n, p1_u, pw0, pw1, pw2, pw3, pw4, pK_v, pK_0, pK_ite, if_true, if_false, if_pos, if_neg, Nat.reduceAdd, pok_r, i10, i01, Bool.true_or, Bool.or_true, Bool.and_true, Bool.true_and, Nat.add_sub_cancel, i1p1, i1p0, i0p1, i0p0, nIrem2, va_rf_s, bit1, bit0, pinT, pinLT, pin0, nIc, nIcL, nIlt, nIeq, nIltL, nILlt, nIeqL, nILeq, nIadL, nILad, nILmu, nI_add, nIsbL, nI_sub', decide_true, decide_false, Bool.false_or, Bool.or_false, rX6_balloon_0, rX6_balloon_1, rX6_balloon_4, rX6_balloon_5, rX6_balloon_6, rX6_balloon_7, rX6_balloon_9, rX6_balloon_12, rX6_balloon_13, rX6_balloon_16, rX6_balloon_17, rX6_balloon_20, qCl, hlk, hr_eq ht, h1, ht0, pK_t]
end
