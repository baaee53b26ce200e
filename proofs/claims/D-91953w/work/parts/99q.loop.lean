/-! THE LAW 2: its loop (printed by genlaw.py) -/
set_option maxRecDepth 100000
theorem sub7 {L i : Nat} (hL : L ≤ 448) (hi : i ≤ 500) : (nI L - 7 < nI i) = (L < i + 7) := by
  rcases Nat.lt_or_ge L 7 with c | c
  · have h0 : ¬ nI i < nI 0 := by rw [nIlt (by omega) (by omega)]; omega
    have h0 : (0 : Int32) ≤ nI i := Int32.not_lt.mp h0
    have h1 : nI L - 7 < 0 := by
      match L, c with
      | 0, _ => decide
      | 1, _ => decide
      | 2, _ => decide
      | 3, _ => decide
      | 4, _ => decide
      | 5, _ => decide
      | 6, _ => decide
    have h2 : nI L - 7 < nI i := Int32.lt_of_lt_of_le h1 h0
    exact propext ⟨fun _ => by omega, fun _ => h2⟩
  · rw [nIsbL (by omega), nIlt (by omega) (by omega)]
    apply propext
    omega
section
variable {b L base : Nat} {xs : Nat → Int32}
theorem law_l (hL : L ≤ 448) : ∀ n i H (q5 q6 : Value), p1 q5 = true → p1 q6 = true → Good b L xs base H → L < i + 7 * n + 7 → i ≤ L + 7 → ∃ h', pR 3 2048 23 [.ref b, .ref base, .ref (base + 14), .ref (base + 49), .int (nI i), q5, q6] [] H = some (.inl (some (.int 1)), h') ∧ h'.2.1 ≤ H.2.1 + 1000 * n ∧ h'.2.2 ≤ H.2.2 + 10000 * n := by
  intro n
  induction n with
  | zero =>
    intro i H q5 q6 h5 h6 ⟨X, S, w, F, R⟩ h1 h2
    have s7 := sub7 hL (show i ≤ 500 by omega)
    have hlt : L < i + 7 := by omega
    refine ⟨H, ?_, by omega, by omega⟩
    simp (disch := first | assumption | omega | decide) only [pis_i, pis_l, pis_r, pis_n, p1_i, p1_r, p1_n, p1_u, pw0, pw1, pw2, pw3, pw4, pK_v, pK_0, pK_ite, if_true, if_false, if_pos, if_neg, Nat.reduceAdd, pok_r, i10, i01, Bool.true_or, Bool.or_true, Bool.and_true, Bool.true_and, rL_law_26 F.s, rL_law_23, rL_law_25, rL_law_25n, rL_law_27, rL_law_29, rL_law_30, rL_law_1660, rL_law_16610, rL_law_16611, show Int32.ofNat L = nI L from rfl, s7, hlt]
  | succ n ih =>
    intro i H q5 q6 h5 h6 hG h1 h2
    obtain ⟨X, S, w, F, R⟩ := hG
    have s7 := sub7 hL (show i ≤ 500 by omega)
    by_cases hlt : L < i + 7
    · refine ⟨H, ?_, by omega, by omega⟩
      simp (disch := first | assumption | omega | decide) only [pis_i, pis_l, pis_r, pis_n, p1_i, p1_r, p1_n, p1_u, pw0, pw1, pw2, pw3, pw4, pK_v, pK_0, pK_ite, if_true, if_false, if_pos, if_neg, Nat.reduceAdd, pok_r, i10, i01, Bool.true_or, Bool.or_true, Bool.and_true, Bool.true_and, rL_law_26 F.s, rL_law_23, rL_law_25, rL_law_25n, rL_law_27, rL_law_29, rL_law_30, rL_law_1660, rL_law_16610, rL_law_16611, show Int32.ofNat L = nI L from rfl, s7, hlt]
    · obtain ⟨u0, u9, uc⟩ := scr_f F.s
      have go : pR 3 2048 23 [.ref b, .ref base, .ref (base + 14), .ref (base + 49), .int (nI i), q5, q6] [] H = pR 3 2048 40 [.ref b, .ref base, .ref (base + 14), .ref (base + 49), .int (nI i), q5, q6] [.int (xs i &&& 63)] H := by
        simp (disch := first | assumption | omega | decide) only [pis_i, pis_l, pis_r, pis_n, p1_i, p1_r, p1_n, p1_u, pw0, pw1, pw2, pw3, pw4, pK_v, pK_0, pK_ite, if_true, if_false, if_pos, if_neg, Nat.reduceAdd, pok_r, i10, i01, Bool.true_or, Bool.or_true, Bool.and_true, Bool.true_and, Nat.add_sub_cancel, i1p1, i1p0, i0p1, i0p0, nIrem2, va_rf_s, bit1, bit0, pinT, pinLT, pin0, nIc, nIcL, nIlt, nIeq, nIltL, nILlt, nIeqL, nILeq, nIadL, nILad, nILmu, nI_add, nIsbL, nI_sub', decide_true, decide_false, Bool.false_or, Bool.or_false, rL_law_26 F.s, rL_law_23, rL_law_25, rL_law_25n, rL_law_27, rL_law_29, rL_law_30, rL_law_33, rL_law_33n, rL_law_34, rL_law_36, rL_law_37, rL_law_39, show Int32.ofNat L = nI L from rfl, s7, hlt, u0, u9, uc]
      rw [go]
      have nx : ∀ H2 (q5' q6' : Value), p1 q5' = true → p1 q6' = true → Good b L xs base H2 → H2.2.1 ≤ H.2.1 + 1000 → H2.2.2 ≤ H.2.2 + 10000 → ∃ h', pR 3 2048 1654 [.ref b, .ref base, .ref (base + 14), .ref (base + 49), .int (nI i), q5', q6'] [] H2 = some (.inl (some (.int 1)), h') ∧ h'.2.1 ≤ H.2.1 + 1000 * (n + 1) ∧ h'.2.2 ≤ H.2.2 + 10000 * (n + 1) := by
        intro H2 q5' q6' a5 a6 aG ag1 ag2
        obtain ⟨h', e1, e2, e3⟩ := ih (i + 7) H2 q5' q6' a5 a6 aG (by omega) (by omega)
        refine ⟨h', ?_, by omega, by omega⟩
        rw [rL_law_1654, rL_law_1657, nIadL]
        exact e1
      have fin : ∀ pc, Nx b L xs base pc i q5 q6 H → ∃ h', pR 3 2048 pc [.ref b, .ref base, .ref (base + 14), .ref (base + 49), .int (nI i), q5, q6] [] H = some (.inl (some (.int 1)), h') ∧ h'.2.1 ≤ H.2.1 + 1000 * (n + 1) ∧ h'.2.2 ≤ H.2.2 + 10000 * (n + 1) := by
        intro pc ⟨H2, q5', q6', a5, a6, e, aG, ag1, ag2⟩
        rw [e]
        exact nx H2 q5' q6' a5 a6 aG ag1 ag2
      have hi : i + 7 ≤ L := by omega
      generalize xs i &&& 63 = c
      by_cases hc : isx c 35
      · obtain ⟨k, hk, rfl⟩ := hc
        match k, hk with
        | 0, _ => rw [show nI 0 = 0 from rfl, rL_law_40k0]; exact fin _ (c_sort F R hL hi h5 h6)
        | 1, _ => rw [show nI 1 = 1 from rfl, rL_law_40k1]; exact fin _ (c_feed F R hL hi h5 h6)
        | 2, _ => rw [show nI 2 = 2 from rfl, rL_law_40k2]; exact fin _ (c_end F R hL hi h5 h6)
        | 3, _ => rw [show nI 3 = 3 from rfl, rL_law_40k3]; exact fin _ (c_fault F R hL hi h5 h6)
        | 4, _ => rw [show nI 4 = 4 from rfl, rL_law_40k4]; exact fin _ (c_figure F R hL hi h5 h6)
        | 5, _ => rw [show nI 5 = 5 from rfl, rL_law_40k5]; exact fin _ (c_rule F R hL hi h5 h6)
        | 6, _ => rw [show nI 6 = 6 from rfl, rL_law_40k6]; exact fin _ (c_many F R hL hi h5 h6)
        | 7, _ => rw [show nI 7 = 7 from rfl, rL_law_40k7]; exact fin _ (c_bubble F R hL hi h5 h6)
        | 8, _ => rw [show nI 8 = 8 from rfl, rL_law_40k8]; exact fin _ (c_ends F R hL hi h5 h6)
        | 9, _ => rw [show nI 9 = 9 from rfl, rL_law_40k9]; exact fin _ (c_bursts F R hL hi h5 h6)
        | 10, _ => rw [show nI 10 = 10 from rfl, rL_law_40k10]; exact fin _ (c_rest F R hL hi h5 h6)
        | 11, _ => rw [show nI 11 = 11 from rfl, rL_law_40k11]; exact fin _ (c_hands F R hL hi h5 h6)
        | 12, _ => rw [show nI 12 = 12 from rfl, rL_law_40k12]; exact fin _ (c_holds F R hL hi h5 h6)
        | 13, _ => rw [show nI 13 = 13 from rfl, rL_law_40k13]; exact fin _ (c_plain F R hL hi h5 h6)
        | 14, _ => rw [show nI 14 = 14 from rfl, rL_law_40k14]; exact fin _ (c_pop F R hL hi h5 h6)
        | 15, _ => rw [show nI 15 = 15 from rfl, rL_law_40k15]; exact fin _ (c_weakest F R hL hi h5 h6)
        | 16, _ => rw [show nI 16 = 16 from rfl, rL_law_40k16]; exact fin _ (c_add F R hL hi h5 h6)
        | 17, _ => rw [show nI 17 = 17 from rfl, rL_law_40k17]; exact fin _ (c_alike F R hL hi h5 h6)
        | 18, _ => rw [show nI 18 = 18 from rfl, rL_law_40k18]; exact fin _ (c_match F R hL hi h5 h6)
        | 19, _ => rw [show nI 19 = 19 from rfl, rL_law_40k19]; exact fin _ (c_far F R hL hi h5 h6)
        | 20, _ => rw [show nI 20 = 20 from rfl, rL_law_40k20]; exact fin _ (c_span F R hL hi h5 h6)
        | 21, _ => rw [show nI 21 = 21 from rfl, rL_law_40k21]; exact fin _ (c_strokes F R hL hi h5 h6)
        | 22, _ => rw [show nI 22 = 22 from rfl, rL_law_40k22]; exact fin _ (c_made F R hL hi h5 h6)
        | 23, _ => rw [show nI 23 = 23 from rfl, rL_law_40k23]; exact fin _ (c_set F R hL hi h5 h6)
        | 24, _ => rw [show nI 24 = 24 from rfl, rL_law_40k24]; exact fin _ (c_twice F R hL hi h5 h6)
        | 25, _ => rw [show nI 25 = 25 from rfl, rL_law_40k25]; exact fin _ (c_stock F R hL hi h5 h6)
        | 26, _ => rw [show nI 26 = 26 from rfl, rL_law_40k26]; exact fin _ (c_pace F R hL hi h5 h6)
        | 27, _ => rw [show nI 27 = 27 from rfl, rL_law_40k27]; exact fin _ (c_comes F R hL hi h5 h6)
        | 28, _ => rw [show nI 28 = 28 from rfl, rL_law_40k28]; exact fin _ (c_close F R hL hi h5 h6)
        | 29, _ => rw [show nI 29 = 29 from rfl, rL_law_40k29]; exact fin _ (c_run F R hL hi h5 h6)
        | 30, _ => rw [show nI 30 = 30 from rfl, rL_law_40k30]; exact fin _ (c_guest F R hL hi h5 h6)
        | 31, _ => rw [show nI 31 = 31 from rfl, rL_law_40k31]; exact fin _ (c_worth F R hL hi h5 h6)
        | 32, _ => rw [show nI 32 = 32 from rfl, rL_law_40k32]; exact fin _ (c_aged F R hL hi h5 h6)
        | 33, _ => rw [show nI 33 = 33 from rfl, rL_law_40k33]; exact fin _ (c_falls F R hL hi h5 h6)
        | 34, _ => rw [show nI 34 = 34 from rfl, rL_law_40k34]; exact fin _ (c_count F R hL hi h5 h6)
        | k + 35, hk => exact absurd hk (by omega)
      · rw [rL_law_40d (isx_sw (by decide) hc)]
        exact nx H q5 q6 h5 h6 ⟨X, S, w, F, R⟩ (by omega) (by omega)
end
