/-! READING 6: the component's FigureReader: whole -/
set_option maxRecDepth 100000
def gF (N : Nat) : Mv → Prop
  | .nil => True
  | .fresh s i c => s < N ∧ gd i 6 ∧ gF N c
  | _ => False
def fc : Mv → Nat
  | .fresh _ _ c => fc c + 1
  | _ => 0
def okB (t : Tp) (N p bu : Nat) : PR Nd → Prop
  | .inl w => w ≤ t.1
  | .inr (x, q, b) => p < q ∧ q ≤ t.1 ∧ b = bu + x.b ∧ b ≤ 24 ∧ ∃ s i, x = .fresh s i ∧ s < N ∧ gd i 6
def okW (t : Tp) (N p bu nb : Nat) : PR Mv → Prop
  | .inl w => w ≤ t.1
  | .inr (c, q, b) => p ≤ q ∧ q ≤ t.1 ∧ b = bu + bc c ∧ b ≤ 24 ∧ gF N c ∧ fc c + nb ≤ 6
section
variable {t : Tp} {N p bu nb : Nat}
theorem pbal_ok (hp : p ≤ t.1) (hb : bu ≤ 24) : okB t N p bu (pbal t N p bu) := by
  have s1 := skp_le (t := t) (a := p)
  have s2 := skp_t hp
  unfold pbal
  by_cases h1 : isC t (skp t p) 35 = true
  · rw [if_pos h1]
    have h2 := isC_lt h1
    have s3 := skp_le (t := t) (a := skp t p + 1)
    have s4 := skp_t (t := t) (a := skp t p + 1) (by omega)
    by_cases h3 : inC t (skp t (skp t p + 1)) 48 57 = true ∧ t.2 (skp t (skp t p + 1)) < 48 + N
    · rw [if_pos h3]
      have h4 := inC_lt h3.1
      have h5 := h3.2
      have := pm_ok (t := t) 6 (skp t (skp t p + 1) + 1) bu (by omega) hb
      generalize pm t 6 (skp t (skp t p + 1) + 1) bu = z at this
      match z, this with
      | .inl w, h => exact h
      | .inr (c, q, b), ⟨r1, r2, r3, r4, r5⟩ => exact ⟨by omega, r2, r3, r4, _, _, rfl, by omega, r5⟩
    · rw [if_neg h3]
      exact s4
  · rw [if_neg h1]; exact s2
theorem gF_c {x : Nd} {c : Mv} (hx : ∃ s i, x = .fresh s i ∧ s < N ∧ gd i 6) (hc : gF N c) : gF N (x.c c) ∧ fc (x.c c) = fc c + 1 := by
  obtain ⟨s, i, rfl, h1, h2⟩ := hx
  exact ⟨⟨h1, h2, hc⟩, rfl⟩
theorem pbrest_ok : ∀ n p bu nb, p ≤ t.1 → bu ≤ 24 → nb ≤ 6 → okW t N p bu nb (pbrest t N n p bu nb) := by
  intro n
  induction n with
  | zero => intro p bu nb hp _ _; exact hp
  | succ n ih =>
    intro p bu nb hp hb hn
    have s1 := skp_le (t := t) (a := p)
    have s2 := skp_t hp
    rw [pbrest]
    by_cases h1 : isC t (skp t p) 47 = true
    · rw [if_pos h1]
      have h2 := isC_lt h1
      by_cases h3 : nb < 6
      · rw [if_pos h3]
        have := pbal_ok (t := t) (N := N) (p := skp t p + 1) (by omega) hb
        generalize pbal t N (skp t p + 1) bu = z at this
        match z, this with
        | .inl w, h => exact h
        | .inr (x, q, b), ⟨r1, r2, r3, r4, r5⟩ =>
          have := ih q b (nb + 1) r2 r4 (by omega)
          show okW t N p bu nb (consR x (pbrest t N n q b (nb + 1)))
          generalize pbrest t N n q b (nb + 1) = y at this
          match y, this with
          | .inl w, h => exact h
          | .inr (c, q', b'), ⟨u1, u2, u3, u4, u5, u6⟩ =>
            obtain ⟨g1, g2⟩ := gF_c r5 u5
            exact ⟨by omega, u2, by rw [bc_c]; omega, u4, g1, by omega⟩
      · rw [if_neg h3]; exact s2
    · rw [if_neg h1]
      by_cases h4 : skp t p < t.1
      · rw [if_pos h4]; exact s2
      · rw [if_neg h4]; exact ⟨s1, s2, rfl, hb, trivial, by show 0 + nb ≤ 6; omega⟩
theorem pfig_ok (ht : 0 ≤ t.1) : okW t N 0 0 0 (pfig t N) := by
  unfold pfig
  have := pbal_ok (t := t) (N := N) (p := 0) (bu := 0) (Nat.zero_le _) (by decide)
  generalize pbal t N 0 0 = z at this
  match z, this with
  | .inl w, h => exact h
  | .inr (x, q, b), ⟨r1, r2, r3, r4, r5⟩ =>
    have := pbrest_ok (t := t) (N := N) 201 q b 1 r2 r4 (by decide)
    show okW t N 0 0 0 (consR x (pbrest t N 201 q b 1))
    generalize pbrest t N 201 q b 1 = y at this
    match y, this with
    | .inl w, h => exact h
    | .inr (c, q', b'), ⟨u1, u2, u3, u4, u5, u6⟩ =>
      obtain ⟨g1, g2⟩ := gF_c r5 u5
      exact ⟨by omega, u2, by rw [bc_c]; omega, u4, g1, by omega⟩
end
section
variable {h : pH} {o c a dp x d N p bu bl : Nat} {r : List Value} {t : Tp} {w : Int32}
theorem kX6_whole_l {lo : Nat} (hlx : x + 2 < lo) (hlo : o < lo) : ∀ n h p bu nb l f (q3 : Value), p1 q3 = true → RP h x o t N → lo ≤ h.2.1 → p ≤ t.1 → bu ≤ 24 → nb ≤ 6 → t.1 - p < n → Wd h lo h.2.1 l a f →
    (match pbrest t N n p bu nb with
    | .inl w => ∃ e h' a' dp' bu' bl', pR 177 (d + 31) 7 [.ref o, .ref a, .ref l, q3] [] (rq (h) o 6 (p) (0) x [.int (nI (bu)), .int (nI (nb)), .ref x]) = some (.inr e, (rq (h') o 6 (a') (dp') x [.int (nI (bu')), .int (nI (bl')), .ref x])) ∧ FL lo h h' (t.1 - p + 2) ∧ h'.1 e = some (wr (nI w)) ∧ e ≠ o
    | .inr (c, q, b) => ∃ h' bl', pR 177 (d + 31) 7 [.ref o, .ref a, .ref l, q3] [] (rq (h) o 6 (p) (0) x [.int (nI (bu)), .int (nI (nb)), .ref x]) = some (.inl (some (.ref a)), (rq (h') o 6 (q) (0) x [.int (nI (b)), .int (nI (bl')), .ref x])) ∧ FL lo h h' (q - p) ∧ ChS h' lo h'.2.1 (f c) (some a)) := by
  intro n
  induction n with
  | zero => intro h p bu nb l f q3 _ _ _ _ _ _ hn; omega
  | succ n ih =>
    intro h p bu nb l f q3 hq3 hR hl hp hb hnb hn hW
    have hq0 : o ≠ x ∧ o ≠ x + 2 := ⟨hR.n0, hR.n2⟩
    have ho := hR.ol
    have ht := hR.X.k
    have ht1 := ht.1
    have hpo : pok 5 6 = true := rfl
    have s1 := skp_le (t := t) (a := p)
    have s2 := skp_t hp
    have hlk := kX5_look (d := d + 29) (dp := 0) (c := 6) (r := [.int (nI bu), .int (nI nb), .ref x]) hR.X hq0 hpo hp
    have hlk2 := kX5_look (d := d + 29) (dp := 0) (c := 6) (r := [.int (nI bu), .int (nI nb), .ref x]) hR.X hq0 hpo s2
    rw [skp_sk] at hlk2
    have hb4 : ∀ h a dp bu bl, pfl (rq (h) o 6 (a) (dp) x [.int (nI (bu)), .int (nI (bl)), .ref x]) 6 o 4 = .int (nI bl) := fun h a dp bu bl => pfl_of rq_at rfl rfl
    have hF0 : ∀ (h : pH) (a dp bu bl : Nat), pfl (rq (h) o 6 (a) (dp) x [.int (nI (bu)), .int (nI (bl)), .ref x]) 6 o 0 = .int (nI a) := fun h a dp bu bl => qF0 rfl
    rw [pbrest]
    by_cases h1 : isC t (skp t p) 47 = true
    · rw [if_pos h1]
      have h2 := isC_lt h1
      by_cases h3 : nb < 6
      · rw [if_pos h3]
        have htk := kX5_take (d := d + 30) (dp := 0) (c := 6) (r := [.int (nI bu), .int (nI nb), .ref x]) hR.X hq0 hpo h2.1
        have hm := kX6_balloon (d := d) (p := skp t p + 1) (bl := nb) hR (by omega) hb h3
        have hko := pbal_ok (t := t) (N := N) (p := skp t p + 1) (by omega) hb
        generalize pbal t N (skp t p + 1) bu = z at hm hko
        match z, hm, hko with
        | .inl w, ⟨e, h', a', dp', bu', bl', q1, q2, q3', q4⟩, _ =>
          refine ⟨e, h', a', dp', bu', bl', ?_, (q2.fl hl).wk (by omega), q3', q4⟩
          rw [rX6_whole_7]
          simp (disch := first | assumption | omega | decide | rfl) only [pis_i, pis_l, pis_r, pis_n, p1_i, p1_r, p1_n, p1_u, pw0, pw1, pw2, pw3, pw4, pK_v, pK_0, pK_ite, if_true, if_false, if_pos, if_neg, Nat.reduceAdd, pok_r, i10, i01, Bool.true_or, Bool.or_true, Bool.and_true, Bool.true_and, Nat.add_sub_cancel, i1p1, i1p0, i0p1, i0p0, nIrem2, va_rf_s, bit1, bit0, pinT, pinLT, pin0, nIc, nIcL, nIlt, nIeq, nIltL, nILlt, nIeqL, nILeq, nIadL, nILad, nILmu, nI_add, nIsbL, nI_sub', decide_true, decide_false, Bool.false_or, Bool.or_false, rX6_whole_0, rX6_whole_1, rX6_whole_4, rX6_whole_4n, rX6_whole_5, rX6_whole_5n, rX6_whole_6, rX6_whole_6n, rX6_whole_8, rX6_whole_11, rX6_whole_13, rX6_whole_16, rX6_whole_17, rX6_whole_18, rX6_whole_21, rX6_whole_23, rX6_whole_26, rX6_whole_27, rX6_whole_30, rX6_whole_31, rX6_whole_34, rX6_whole_35, rX6_whole_35n, rX6_whole_36, rX6_whole_37, rX6_whole_40, rX6_whole_40n, rX6_whole_43, rX6_whole_43n, rX6_whole_44, rX6_whole_47, rX6_whole_47n, rX6_whole_48, rX6_whole_51, rX6_whole_52, rX6_whole_55, rX6_whole_56, rX6_whole_59, rX6_whole_62, rX6_whole_62i, rX6_whole_63, rX6_whole_64, rX6_whole_67, rX6_whole_70, rX6_whole_71, rX6_whole_71n, rX6_whole_72, qCl, hlk, hr_in h2.1, h2.2, hb4, htk, q1, pK_t]
        | .inr (nd, q, b), ⟨a1, h1', q1, q2, q3'⟩, ⟨k1, k2, k3, k4, k5⟩ =>
          obtain ⟨w1, w2, w3, w4⟩ := hW.app (q2.agr (lo := lo)) q3'
          have hlr := hW.1
          have hlr2 := hW.2.1
          have hz : (psf h1' l 0 (.ref a1)).2 = h1'.2 := psf_2
          have fl1 : FL lo h (psf h1' l 0 (.ref a1)) (q - (skp t p + 1)) := by
            obtain ⟨g1, g2, g3, g4⟩ := q2
            refine ⟨by rw [hz]; exact g1, by rw [hz]; exact g2, by rw [hz]; exact g3, fun z hz1 => ?_⟩
            rw [w4 z (by omega), g4 z (by omega)]
          have hR1 := hR.fr q2
          have hR2 : RP (psf h1' l 0 (.ref a1)) x o t N := by
            refine ⟨hR1.X.fr (w4 x (by omega)) (w4 (x + 2) (by omega)), by rw [hz]; exact hR1.x2, by rw [hz]; exact hR1.ol, hR1.n0, hR1.n2⟩
          have hg := q2.1
          have e7 : (nI (t.2 (skp t p))).toInt8.toInt32 = 47 := by rw [h2.2]; rfl
          rw [e7] at htk
          have := ih (psf h1' l 0 (.ref a1)) q b (nb + 1) a1 (fun d => f (nd.c d)) (.int 47) rfl hR2 (by rw [hz]; omega) k2 k4 (by omega) (by omega) (by rw [hz]; exact w1)
          have hlo2 : l ≠ o := by omega
          have go : pR 177 (d + 31) 7 [.ref o, .ref a, .ref l, q3] [] (rq (h) o 6 (p) (0) x [.int (nI (bu)), .int (nI (nb)), .ref x]) = pR 177 (d + 31) 7 [.ref o, .ref a, .ref a1, .int 47] [] (rq (psf h1' l 0 (.ref a1)) o 6 (q) (0) x [.int (nI (b)), .int (nI (nb + 1)), .ref x]) := by
            rw [rX6_whole_7]
            simp (disch := first | assumption | omega | decide | rfl) only [pis_i, pis_l, pis_r, pis_n, p1_i, p1_r, p1_n, p1_u, pw0, pw1, pw2, pw3, pw4, pK_v, pK_0, pK_ite, if_true, if_false, if_pos, if_neg, Nat.reduceAdd, pok_r, i10, i01, Bool.true_or, Bool.or_true, Bool.and_true, Bool.true_and, Nat.add_sub_cancel, i1p1, i1p0, i0p1, i0p0, nIrem2, va_rf_s, bit1, bit0, pinT, pinLT, pin0, nIc, nIcL, nIlt, nIeq, nIltL, nILlt, nIeqL, nILeq, nIadL, nILad, nILmu, nI_add, nIsbL, nI_sub', decide_true, decide_false, Bool.false_or, Bool.or_false, rX6_whole_0, rX6_whole_1, rX6_whole_4, rX6_whole_4n, rX6_whole_5, rX6_whole_5n, rX6_whole_6, rX6_whole_6n, rX6_whole_8, rX6_whole_11, rX6_whole_13, rX6_whole_16, rX6_whole_17, rX6_whole_18, rX6_whole_21, rX6_whole_23, rX6_whole_26, rX6_whole_27, rX6_whole_30, rX6_whole_31, rX6_whole_34, rX6_whole_35, rX6_whole_35n, rX6_whole_36, rX6_whole_37, rX6_whole_40, rX6_whole_40n, rX6_whole_43, rX6_whole_43n, rX6_whole_44, rX6_whole_47, rX6_whole_47n, rX6_whole_48, rX6_whole_51, rX6_whole_52, rX6_whole_55, rX6_whole_56, rX6_whole_59, rX6_whole_62, rX6_whole_62i, rX6_whole_63, rX6_whole_64, rX6_whole_67, rX6_whole_70, rX6_whole_71, rX6_whole_71n, rX6_whole_72, qCl, hlk, hr_in h2.1, h2.2, hb4, htk, q1, qO_pfl hlo2, qO_psf hlo2, w2, w3]
          show (match consR nd (pbrest t N n q b (nb + 1)) with | .inl w => _ | .inr (c, q, b) => _)
          rw [go]
          have ok2 := pbrest_ok (t := t) (N := N) n q b (nb + 1) k2 k4 (by omega)
          generalize pbrest t N n q b (nb + 1) = y at this ok2
          match y, this, ok2 with
          | .inl w, ⟨e, h', a', dp', bu', bl', r1, r2, r3, r4⟩, _ => exact ⟨e, h', a', dp', bu', bl', r1, (fl1.tr r2).wk (by omega), r3, r4⟩
          | .inr (c, q', b'), ⟨h', bl', r1, r2, r3⟩, ⟨o1, _⟩ => exact ⟨h', bl', r1, (fl1.tr r2).wk (by omega), r3⟩
      · rw [if_neg h3]
        have ht0 := kX5_take0 (d := d + 22) (a := skp t p) (dp := 0) (x := x) (r := [.int (nI bu), .int (nI nb), .ref x]) hpo ho
        refine ⟨h.2.1, pnw h (wr (nI (skp t p))) 7, skp t p, 0, bu, nb, ?_, ((Fr.nw (by decide)).fl hl).wk (by omega), pnw_same, by omega⟩
        rw [rX6_whole_7]
        simp (disch := first | assumption | omega | decide | rfl) only [pis_i, pis_l, pis_r, pis_n, p1_i, p1_r, p1_n, p1_u, pw0, pw1, pw2, pw3, pw4, pK_v, pK_0, pK_ite, if_true, if_false, if_pos, if_neg, Nat.reduceAdd, pok_r, i10, i01, Bool.true_or, Bool.or_true, Bool.and_true, Bool.true_and, Nat.add_sub_cancel, i1p1, i1p0, i0p1, i0p0, nIrem2, va_rf_s, bit1, bit0, pinT, pinLT, pin0, nIc, nIcL, nIlt, nIeq, nIltL, nILlt, nIeqL, nILeq, nIadL, nILad, nILmu, nI_add, nIsbL, nI_sub', decide_true, decide_false, Bool.false_or, Bool.or_false, rX6_whole_0, rX6_whole_1, rX6_whole_4, rX6_whole_4n, rX6_whole_5, rX6_whole_5n, rX6_whole_6, rX6_whole_6n, rX6_whole_8, rX6_whole_11, rX6_whole_13, rX6_whole_16, rX6_whole_17, rX6_whole_18, rX6_whole_21, rX6_whole_23, rX6_whole_26, rX6_whole_27, rX6_whole_30, rX6_whole_31, rX6_whole_34, rX6_whole_35, rX6_whole_35n, rX6_whole_36, rX6_whole_37, rX6_whole_40, rX6_whole_40n, rX6_whole_43, rX6_whole_43n, rX6_whole_44, rX6_whole_47, rX6_whole_47n, rX6_whole_48, rX6_whole_51, rX6_whole_52, rX6_whole_55, rX6_whole_56, rX6_whole_59, rX6_whole_62, rX6_whole_62i, rX6_whole_63, rX6_whole_64, rX6_whole_67, rX6_whole_70, rX6_whole_71, rX6_whole_71n, rX6_whole_72, qCl, hlk, hr_in h2.1, h2.2, hb4, ht0, pK_t]
    · rw [if_neg h1]
      by_cases h4 : skp t p < t.1
      · rw [if_pos h4]
        refine ⟨h.2.1, pnw h (wr (nI (skp t p))) 7, skp t p, 0, bu, nb, ?_, ((Fr.nw (by decide)).fl hl).wk (by omega), pnw_same, by omega⟩
        have hm1 : ¬ hr t (skp t p) = -1 := by rw [hr_m1 ht]; omega
        rw [rX6_whole_7]
        simp (disch := first | assumption | omega | decide | rfl | (refine kWd ?_; omega)) only [pis_i, pis_l, pis_r, pis_n, p1_i, p1_r, p1_n, p1_u, pw0, pw1, pw2, pw3, pw4, pK_v, pK_0, pK_ite, if_true, if_false, if_pos, if_neg, Nat.reduceAdd, pok_r, i10, i01, Bool.true_or, Bool.or_true, Bool.and_true, Bool.true_and, Nat.add_sub_cancel, i1p1, i1p0, i0p1, i0p0, nIrem2, va_rf_s, bit1, bit0, pinT, pinLT, pin0, nIc, nIcL, nIlt, nIeq, nIltL, nILlt, nIeqL, nILeq, nIadL, nILad, nILmu, nI_add, nIsbL, nI_sub', decide_true, decide_false, Bool.false_or, Bool.or_false, rX6_whole_0, rX6_whole_1, rX6_whole_4, rX6_whole_4n, rX6_whole_5, rX6_whole_5n, rX6_whole_6, rX6_whole_6n, rX6_whole_8, rX6_whole_11, rX6_whole_13, rX6_whole_16, rX6_whole_17, rX6_whole_18, rX6_whole_21, rX6_whole_23, rX6_whole_26, rX6_whole_27, rX6_whole_30, rX6_whole_31, rX6_whole_34, rX6_whole_35, rX6_whole_35n, rX6_whole_36, rX6_whole_37, rX6_whole_40, rX6_whole_40n, rX6_whole_43, rX6_whole_43n, rX6_whole_44, rX6_whole_47, rX6_whole_47n, rX6_whole_48, rX6_whole_51, rX6_whole_52, rX6_whole_55, rX6_whole_56, rX6_whole_59, rX6_whole_62, rX6_whole_62i, rX6_whole_63, rX6_whole_64, rX6_whole_67, rX6_whole_70, rX6_whole_71, rX6_whole_71n, rX6_whole_72, qCl, hlk, hlk2, hr_eq ht, h1, hm1, rq_21, qO_pnw, hF0, kWc, kWr]
      · rw [if_neg h4]
        refine ⟨h, nb, ?_, ⟨Nat.le_refl _, by omega, by omega, fun _ _ => rfl⟩, hW.end⟩
        have hm1 : hr t (skp t p) = -1 := by rw [hr_m1 ht]; omega
        rw [rX6_whole_7]
        simp (disch := first | assumption | omega | decide | rfl) only [pis_i, pis_l, pis_r, pis_n, p1_i, p1_r, p1_n, p1_u, pw0, pw1, pw2, pw3, pw4, pK_v, pK_0, pK_ite, if_true, if_false, if_pos, if_neg, Nat.reduceAdd, pok_r, i10, i01, Bool.true_or, Bool.or_true, Bool.and_true, Bool.true_and, Nat.add_sub_cancel, i1p1, i1p0, i0p1, i0p0, nIrem2, va_rf_s, bit1, bit0, pinT, pinLT, pin0, nIc, nIcL, nIlt, nIeq, nIltL, nILlt, nIeqL, nILeq, nIadL, nILad, nILmu, nI_add, nIsbL, nI_sub', decide_true, decide_false, Bool.false_or, Bool.or_false, rX6_whole_0, rX6_whole_1, rX6_whole_4, rX6_whole_4n, rX6_whole_5, rX6_whole_5n, rX6_whole_6, rX6_whole_6n, rX6_whole_8, rX6_whole_11, rX6_whole_13, rX6_whole_16, rX6_whole_17, rX6_whole_18, rX6_whole_21, rX6_whole_23, rX6_whole_26, rX6_whole_27, rX6_whole_30, rX6_whole_31, rX6_whole_34, rX6_whole_35, rX6_whole_35n, rX6_whole_36, rX6_whole_37, rX6_whole_40, rX6_whole_40n, rX6_whole_43, rX6_whole_43n, rX6_whole_44, rX6_whole_47, rX6_whole_47n, rX6_whole_48, rX6_whole_51, rX6_whole_52, rX6_whole_55, rX6_whole_56, rX6_whole_59, rX6_whole_62, rX6_whole_62i, rX6_whole_63, rX6_whole_64, rX6_whole_67, rX6_whole_70, rX6_whole_71, rX6_whole_71n, rX6_whole_72, qCl, hlk, hlk2, hr_eq ht, h1, hm1]
theorem kX6_whole (hR : RP h x o t N) : (match pfig t N with
    | .inl w => ∃ e h' a' dp' bu' bl', pCa 177 (d + 31) [.ref o] (rq (h) o 6 (0) (0) x [.int (nI (0)), .int (nI (0)), .ref x]) = some (.inr e, (rq (h') o 6 (a') (dp') x [.int (nI (bu')), .int (nI (bl')), .ref x])) ∧ Fr h h' 203 ∧ h'.1 e = some (wr (nI w)) ∧ e ≠ o
    | .inr (c, q, b) => ∃ a h' bl', pCa 177 (d + 31) [.ref o] (rq (h) o 6 (0) (0) x [.int (nI (0)), .int (nI (0)), .ref x]) = some (.inl (some (.ref a)), (rq (h') o 6 (q) (0) x [.int (nI (b)), .int (nI (bl')), .ref x])) ∧ Fr h h' 200 ∧ ChS h' h.2.1 h'.2.1 c (some a)) := by
  have hpo : pok 5 6 = true := rfl
  have ht1 := hR.X.k.1
  have hm := kX6_balloon (d := d) (p := 0) (bl := 0) (bu := 0) hR (Nat.zero_le _) (by decide) (by decide)
  have hko := pbal_ok (t := t) (N := N) (p := 0) (bu := 0) (Nat.zero_le _) (by decide)
  rw [eX6_whole]
  unfold pfig
  generalize pbal t N 0 0 = z at hm hko
  match z, hm, hko with
  | .inl w, ⟨e, h', a', dp', bu', bl', q1, q2, q3, q4⟩, _ =>
    refine ⟨e, h', a', dp', bu', bl', ?_, q2.wk (by omega), q3, q4⟩
    simp (disch := first | assumption | omega | decide | rfl) only [pis_i, pis_l, pis_r, pis_n, p1_i, p1_r, p1_n, p1_u, pw0, pw1, pw2, pw3, pw4, pK_v, pK_0, pK_ite, if_true, if_false, if_pos, if_neg, Nat.reduceAdd, pok_r, i10, i01, Bool.true_or, Bool.or_true, Bool.and_true, Bool.true_and, Nat.add_sub_cancel, i1p1, i1p0, i0p1, i0p0, nIrem2, va_rf_s, bit1, bit0, pinT, pinLT, pin0, nIc, nIcL, nIlt, nIeq, nIltL, nILlt, nIeqL, nILeq, nIadL, nILad, nILmu, nI_add, nIsbL, nI_sub', decide_true, decide_false, Bool.false_or, Bool.or_false, rX6_whole_0, rX6_whole_1, rX6_whole_4, rX6_whole_4n, rX6_whole_5, rX6_whole_5n, rX6_whole_6, rX6_whole_6n, qCl, q1, pK_t]
  | .inr (nd, q, b), ⟨a1, h1', q1, q2, q3⟩, ⟨k1, k2, k3, k4, k5⟩ =>
    have hR1 := hR.fr q2
    have hl := kX6_whole_l (a := a1) (lo := h.2.1) (d := d) hR.x2 hR.ol 201 h1' q b 1 a1 nd.c pU rfl hR1 q2.1 k2 k4 (by decide) (by omega) q3
    have go : pR 177 (d + 31) 0 [.ref o, pU, pU, pU] [] (rq (h) o 6 (0) (0) x [.int (nI (0)), .int (nI (0)), .ref x]) = pR 177 (d + 31) 7 [.ref o, .ref a1, .ref a1, pU] [] (rq (h1') o 6 (q) (0) x [.int (nI (b)), .int (nI (1)), .ref x]) := by
      simp (disch := first | assumption | omega | decide | rfl) only [pis_i, pis_l, pis_r, pis_n, p1_i, p1_r, p1_n, p1_u, pw0, pw1, pw2, pw3, pw4, pK_v, pK_0, pK_ite, if_true, if_false, if_pos, if_neg, Nat.reduceAdd, pok_r, i10, i01, Bool.true_or, Bool.or_true, Bool.and_true, Bool.true_and, Nat.add_sub_cancel, i1p1, i1p0, i0p1, i0p0, nIrem2, va_rf_s, bit1, bit0, pinT, pinLT, pin0, nIc, nIcL, nIlt, nIeq, nIltL, nILlt, nIeqL, nILeq, nIadL, nILad, nILmu, nI_add, nIsbL, nI_sub', decide_true, decide_false, Bool.false_or, Bool.or_false, rX6_whole_0, rX6_whole_1, rX6_whole_4, rX6_whole_4n, rX6_whole_5, rX6_whole_5n, rX6_whole_6, rX6_whole_6n, qCl, q1]
    rw [go]
    have ok2 := pbrest_ok (t := t) (N := N) 201 q b 1 k2 k4 (by decide)
    show (match consR nd (pbrest t N 201 q b 1) with | .inl w => _ | .inr (c, q, b) => _)
    generalize pbrest t N 201 q b 1 = y at hl ok2
    have f0 : FL h.2.1 h h1' (q - 0) := q2
    match y, hl, ok2 with
    | .inl w, ⟨e, h', a', dp', bu', bl', r1, r2, r3, r4⟩, _ => exact ⟨e, h', a', dp', bu', bl', r1, (f0.tr r2).wk (by omega), r3, r4⟩
    | .inr (c, q', b'), ⟨h', bl', r1, r2, r3⟩, ⟨o1, o2, _⟩ => exact ⟨a1, h', bl', r1, (f0.tr r2).wk (by omega), r3⟩
end
